set_option maxRecDepth 100000
/-! the class: small classes, what a cliff tells -/
def C6_begins (t : mt) (M : mm) (c : Nat)  : mm :=
  (sI (sI (sI M 500 c (-1 : Int32)) 501 c (0 : Int32)) 502 c (0 : Int32))
set_option maxHeartbeats 4000000 in
theorem cm6_begins (l : Launch) (E : mE) (t : mt) (M : mm) (c : Nat)  (hc : t c = (5, 0))  : Met l yX6_begins (ws_ yX6_begins cX6_begins 1 none) ({ frames := 0, cells := 0, slots := 0, locals := 0 }) (va_Pc [.ref c] (wP E t M)) (va_Qv (fun (u : mm) => u = C6_begins t M c ) (fun u U => mw E t u U.heap) (eA E)) 0 0 (eA E) := by
  refine Met.ofW (cc := cX6_begins) (maxL := 1) (ret := none) (by decide) rfl ?_
  intro p e s m args below meth c0 s₁ B hml hv
  obtain ⟨rfl, hs, hm⟩ := hv
  have hx := B.exec
  have hb := B.bytes
  have hr := B.returns
  have hts := atoms_spec (ws := ws_ yX6_begins cX6_begins 1 none) B.pre
  have hts : ∀ w ∈ lw_all, w.before _ s = true := fun w h => hts w (List.mem_cons_of_mem _ h)
  have hown : s.vm.findClass RX6 = some m.cls := findClass_of_methodNamed B.named
  have hlocks := B.notSynchronized
  have hS : va_S (eA E) s.heap s.heap [] := va_S.rf
  have hl := lv_entry ([.ref c]) (n := 1) (Nat.le_of_ble_eq_true rfl)
  rw [lg_entry_eq]
  generalize (lg_sl ([.ref c]) ++ List.replicate (1 - (lg_sl ([.ref c])).length) Slot.unset).toArray = ls at hl ⊢
  have hl : lv_has ls 1 [(0, .ref (c))] := hl
  refine lv_aload_n hx hb dX6_begins_0 rfl (lv_at hl 0 rfl) ?_
  refine lv_iconst (v := (-1 : Int32)) hx hb dX6_begins_1 (by decide) ?_
  refine pf_500 hx hb hts hown hs hm hS hc (hts _ q162) dX6_begins_2 (fun H locs hm hS => ?_)
  have hm : mw E t ((sI M 500 c (-1 : Int32))) H := hm
  refine lv_aload_n hx hb dX6_begins_5 rfl (lv_at hl 0 rfl) ?_
  refine lv_iconst (v := (0 : Int32)) hx hb dX6_begins_6 (by decide) ?_
  refine pf_501 hx hb hts hown hs hm hS hc (hts _ q165) dX6_begins_7 (fun H locs hm hS => ?_)
  have hm : mw E t ((sI (sI M 500 c (-1 : Int32)) 501 c (0 : Int32))) H := hm
  refine lv_aload_n hx hb dX6_begins_10 rfl (lv_at hl 0 rfl) ?_
  refine lv_iconst (v := (0 : Int32)) hx hb dX6_begins_11 (by decide) ?_
  refine pf_502 hx hb hts hown hs hm hS hc (hts _ q168) dX6_begins_12 (fun H locs hm hS => ?_)
  have hm : mw E t ((sI (sI (sI M 500 c (-1 : Int32)) 501 c (0 : Int32)) 502 c (0 : Int32))) H := hm
  exact W.vret hx hb hr (fun t9 ht9 _ => ⟨⟨_, rfl, (rfl).symm, hb9 ht9 hm⟩, hS.F ht9⟩) hS.2.2 dX6_begins_15
def C6_take (t : mt) (M : mm) (c : Nat) (q : Nat) : mm :=
  (sI (sI (sI M 500 c (gI M 500 q)) 501 c (gI M 501 q)) 502 c (gI M 502 q))
set_option maxHeartbeats 4000000 in
theorem cm6_take (l : Launch) (E : mE) (t : mt) (M : mm) (c : Nat) (q : Nat) (hc : t c = (5, 0)) (hq : t q = (5, 0)) : Met l yX6_take (ws_ yX6_take cX6_take 2 none) ({ frames := 0, cells := 0, slots := 0, locals := 0 }) (va_Pc [.ref c, .ref q] (wP E t M)) (va_Qv (fun (u : mm) => u = C6_take t M c q) (fun u U => mw E t u U.heap) (eA E)) 0 0 (eA E) := by
  refine Met.ofW (cc := cX6_take) (maxL := 2) (ret := none) (by decide) rfl ?_
  intro p e s m args below meth c0 s₁ B hml hv
  obtain ⟨rfl, hs, hm⟩ := hv
  have hx := B.exec
  have hb := B.bytes
  have hr := B.returns
  have hts := atoms_spec (ws := ws_ yX6_take cX6_take 2 none) B.pre
  have hts : ∀ w ∈ lw_all, w.before _ s = true := fun w h => hts w (List.mem_cons_of_mem _ h)
  have hown : s.vm.findClass RX6 = some m.cls := findClass_of_methodNamed B.named
  have hlocks := B.notSynchronized
  have hS : va_S (eA E) s.heap s.heap [] := va_S.rf
  have hl := lv_entry ([.ref c, .ref q]) (n := 2) (Nat.le_of_ble_eq_true rfl)
  rw [lg_entry_eq]
  generalize (lg_sl ([.ref c, .ref q]) ++ List.replicate (2 - (lg_sl ([.ref c, .ref q])).length) Slot.unset).toArray = ls at hl ⊢
  have hl : lv_has ls 2 [(0, .ref (c)), (1, .ref (q))] := hl
  refine lv_aload_n hx hb dX6_take_0 rfl (lv_at hl 0 rfl) ?_
  refine lv_aload_n hx hb dX6_take_1 rfl (lv_at hl 1 rfl) ?_
  refine gf_500 hx hb hts hown hs hm hq (hts _ q162) dX6_take_2 ?_
  refine pf_500 hx hb hts hown hs hm hS hc (hts _ q162) dX6_take_5 (fun H locs hm hS => ?_)
  have hm : mw E t ((sI M 500 c (gI M 500 q))) H := hm
  refine lv_aload_n hx hb dX6_take_8 rfl (lv_at hl 0 rfl) ?_
  refine lv_aload_n hx hb dX6_take_9 rfl (lv_at hl 1 rfl) ?_
  refine gf_501 hx hb hts hown hs hm hq (hts _ q165) dX6_take_10 ?_
  refine pf_501 hx hb hts hown hs hm hS hc (hts _ q165) dX6_take_13 (fun H locs hm hS => ?_)
  have hm : mw E t ((sI (sI M 500 c (gI M 500 q)) 501 c (gI M 501 q))) H := hm
  refine lv_aload_n hx hb dX6_take_16 rfl (lv_at hl 0 rfl) ?_
  refine lv_aload_n hx hb dX6_take_17 rfl (lv_at hl 1 rfl) ?_
  refine gf_502 hx hb hts hown hs hm hq (hts _ q168) dX6_take_18 ?_
  refine pf_502 hx hb hts hown hs hm hS hc (hts _ q168) dX6_take_21 (fun H locs hm hS => ?_)
  have hm : mw E t ((sI (sI (sI M 500 c (gI M 500 q)) 501 c (gI M 501 q)) 502 c (gI M 502 q))) H := hm
  exact W.vret hx hb hr (fun t9 ht9 _ => ⟨⟨_, rfl, (rfl).symm, hb9 ht9 hm⟩, hS.F ht9⟩) hS.2.2 dX6_take_24
def C7_begins (t : mt) (M : mm) (c : Nat) (x : Int32) : mm :=
  (sF (sI (sI (sI M 600 c x) 601 c (0 : Int32)) 602 c (1 : Int32)) 603 c FP.fconst0)
set_option maxHeartbeats 4000000 in
theorem cm7_begins (l : Launch) (E : mE) (t : mt) (M : mm) (c : Nat) (x : Int32) (hc : t c = (6, 0))  : Met l yX7_begins (ws_ yX7_begins cX7_begins 2 none) ({ frames := 0, cells := 0, slots := 0, locals := 0 }) (va_Pc [.ref c, .int x] (wP E t M)) (va_Qv (fun (u : mm) => u = C7_begins t M c x) (fun u U => mw E t u U.heap) (eA E)) 0 0 (eA E) := by
  refine Met.ofW (cc := cX7_begins) (maxL := 2) (ret := none) (by decide) rfl ?_
  intro p e s m args below meth c0 s₁ B hml hv
  obtain ⟨rfl, hs, hm⟩ := hv
  have hx := B.exec
  have hb := B.bytes
  have hr := B.returns
  have hts := atoms_spec (ws := ws_ yX7_begins cX7_begins 2 none) B.pre
  have hts : ∀ w ∈ lw_all, w.before _ s = true := fun w h => hts w (List.mem_cons_of_mem _ h)
  have hown : s.vm.findClass RX7 = some m.cls := findClass_of_methodNamed B.named
  have hlocks := B.notSynchronized
  have hS : va_S (eA E) s.heap s.heap [] := va_S.rf
  have hl := lv_entry ([.ref c, .int x]) (n := 2) (Nat.le_of_ble_eq_true rfl)
  rw [lg_entry_eq]
  generalize (lg_sl ([.ref c, .int x]) ++ List.replicate (2 - (lg_sl ([.ref c, .int x])).length) Slot.unset).toArray = ls at hl ⊢
  have hl : lv_has ls 2 [(0, .ref (c)), (1, .int (x))] := hl
  refine lv_aload_n hx hb dX7_begins_0 rfl (lv_at hl 0 rfl) ?_
  refine lv_iload_n hx hb dX7_begins_1 rfl (lv_at hl 1 rfl) ?_
  refine pf_600 hx hb hts hown hs hm hS hc (hts _ q183) dX7_begins_2 (fun H locs hm hS => ?_)
  have hm : mw E t ((sI M 600 c x)) H := hm
  refine lv_aload_n hx hb dX7_begins_5 rfl (lv_at hl 0 rfl) ?_
  refine lv_iconst (v := (0 : Int32)) hx hb dX7_begins_6 (by decide) ?_
  refine pf_601 hx hb hts hown hs hm hS hc (hts _ q186) dX7_begins_7 (fun H locs hm hS => ?_)
  have hm : mw E t ((sI (sI M 600 c x) 601 c (0 : Int32))) H := hm
  refine lv_aload_n hx hb dX7_begins_10 rfl (lv_at hl 0 rfl) ?_
  refine lv_iconst (v := (1 : Int32)) hx hb dX7_begins_11 (by decide) ?_
  refine pf_602 hx hb hts hown hs hm hS hc (hts _ q189) rfl rfl dX7_begins_12 (fun H locs hm hS => ?_)
  have hm : mw E t ((sI (sI (sI M 600 c x) 601 c (0 : Int32)) 602 c (1 : Int32))) H := hm
  refine lv_aload_n hx hb dX7_begins_15 rfl (lv_at hl 0 rfl) ?_
  refine lv_fconst0 hx hb dX7_begins_16 ?_
  refine pf_603 hx hb hts hown hs hm hS hc (hts _ q192) dX7_begins_17 (fun H locs hm hS => ?_)
  have hm : mw E t ((sF (sI (sI (sI M 600 c x) 601 c (0 : Int32)) 602 c (1 : Int32)) 603 c FP.fconst0)) H := hm
  exact W.vret hx hb hr (fun t9 ht9 _ => ⟨⟨_, rfl, (rfl).symm, hb9 ht9 hm⟩, hS.F ht9⟩) hS.2.2 dX7_begins_20
def C7_blowsOff (t : mt) (M : mm) (c : Nat)  : mm :=
  (sF (sI M 602 c (0 : Int32)) 603 c FP.fconst0)
set_option maxHeartbeats 4000000 in
theorem cm7_blowsOff (l : Launch) (E : mE) (t : mt) (M : mm) (c : Nat)  (hc : t c = (6, 0))  : Met l yX7_blowsOff (ws_ yX7_blowsOff cX7_blowsOff 1 none) ({ frames := 0, cells := 0, slots := 0, locals := 0 }) (va_Pc [.ref c] (wP E t M)) (va_Qv (fun (u : mm) => u = C7_blowsOff t M c ) (fun u U => mw E t u U.heap) (eA E)) 0 0 (eA E) := by
  refine Met.ofW (cc := cX7_blowsOff) (maxL := 1) (ret := none) (by decide) rfl ?_
  intro p e s m args below meth c0 s₁ B hml hv
  obtain ⟨rfl, hs, hm⟩ := hv
  have hx := B.exec
  have hb := B.bytes
  have hr := B.returns
  have hts := atoms_spec (ws := ws_ yX7_blowsOff cX7_blowsOff 1 none) B.pre
  have hts : ∀ w ∈ lw_all, w.before _ s = true := fun w h => hts w (List.mem_cons_of_mem _ h)
  have hown : s.vm.findClass RX7 = some m.cls := findClass_of_methodNamed B.named
  have hlocks := B.notSynchronized
  have hS : va_S (eA E) s.heap s.heap [] := va_S.rf
  have hl := lv_entry ([.ref c]) (n := 1) (Nat.le_of_ble_eq_true rfl)
  rw [lg_entry_eq]
  generalize (lg_sl ([.ref c]) ++ List.replicate (1 - (lg_sl ([.ref c])).length) Slot.unset).toArray = ls at hl ⊢
  have hl : lv_has ls 1 [(0, .ref (c))] := hl
  refine lv_aload_n hx hb dX7_blowsOff_0 rfl (lv_at hl 0 rfl) ?_
  refine lv_iconst (v := (0 : Int32)) hx hb dX7_blowsOff_1 (by decide) ?_
  refine pf_602 hx hb hts hown hs hm hS hc (hts _ q189) rfl rfl dX7_blowsOff_2 (fun H locs hm hS => ?_)
  have hm : mw E t ((sI M 602 c (0 : Int32))) H := hm
  refine lv_aload_n hx hb dX7_blowsOff_5 rfl (lv_at hl 0 rfl) ?_
  refine lv_fconst0 hx hb dX7_blowsOff_6 ?_
  refine pf_603 hx hb hts hown hs hm hS hc (hts _ q192) dX7_blowsOff_7 (fun H locs hm hS => ?_)
  have hm : mw E t ((sF (sI M 602 c (0 : Int32)) 603 c FP.fconst0)) H := hm
  exact W.vret hx hb hr (fun t9 ht9 _ => ⟨⟨_, rfl, (rfl).symm, hb9 ht9 hm⟩, hS.F ht9⟩) hS.2.2 dX7_blowsOff_10
def C7_take (t : mt) (M : mm) (c : Nat) (q : Nat) : mm :=
  (sF (sI (sI (sI M 600 c (gI M 600 q)) 601 c (gI M 601 q)) 602 c (gI M 602 q)) 603 c (gF M 603 q))
set_option maxHeartbeats 4000000 in
theorem cm7_take (l : Launch) (E : mE) (t : mt) (M : mm) (c : Nat) (q : Nat) (hc : t c = (6, 0)) (hq : t q = (6, 0)) (hz : gI M 602 q = 0 ∨ gI M 602 q = 1) : Met l yX7_take (ws_ yX7_take cX7_take 2 none) ({ frames := 0, cells := 0, slots := 0, locals := 0 }) (va_Pc [.ref c, .ref q] (wP E t M)) (va_Qv (fun (u : mm) => u = C7_take t M c q) (fun u U => mw E t u U.heap) (eA E)) 0 0 (eA E) := by
  refine Met.ofW (cc := cX7_take) (maxL := 2) (ret := none) (by decide) rfl ?_
  intro p e s m args below meth c0 s₁ B hml hv
  obtain ⟨rfl, hs, hm⟩ := hv
  have hx := B.exec
  have hb := B.bytes
  have hr := B.returns
  have hts := atoms_spec (ws := ws_ yX7_take cX7_take 2 none) B.pre
  have hts : ∀ w ∈ lw_all, w.before _ s = true := fun w h => hts w (List.mem_cons_of_mem _ h)
  have hown : s.vm.findClass RX7 = some m.cls := findClass_of_methodNamed B.named
  have hlocks := B.notSynchronized
  have hS : va_S (eA E) s.heap s.heap [] := va_S.rf
  have hl := lv_entry ([.ref c, .ref q]) (n := 2) (Nat.le_of_ble_eq_true rfl)
  rw [lg_entry_eq]
  generalize (lg_sl ([.ref c, .ref q]) ++ List.replicate (2 - (lg_sl ([.ref c, .ref q])).length) Slot.unset).toArray = ls at hl ⊢
  have hl : lv_has ls 2 [(0, .ref (c)), (1, .ref (q))] := hl
  refine lv_aload_n hx hb dX7_take_0 rfl (lv_at hl 0 rfl) ?_
  refine lv_aload_n hx hb dX7_take_1 rfl (lv_at hl 1 rfl) ?_
  refine gf_600 hx hb hts hown hs hm hq (hts _ q183) dX7_take_2 ?_
  refine pf_600 hx hb hts hown hs hm hS hc (hts _ q183) dX7_take_5 (fun H locs hm hS => ?_)
  have hm : mw E t ((sI M 600 c (gI M 600 q))) H := hm
  refine lv_aload_n hx hb dX7_take_8 rfl (lv_at hl 0 rfl) ?_
  refine lv_aload_n hx hb dX7_take_9 rfl (lv_at hl 1 rfl) ?_
  refine gf_601 hx hb hts hown hs hm hq (hts _ q186) dX7_take_10 ?_
  refine pf_601 hx hb hts hown hs hm hS hc (hts _ q186) dX7_take_13 (fun H locs hm hS => ?_)
  have hm : mw E t ((sI (sI M 600 c (gI M 600 q)) 601 c (gI M 601 q))) H := hm
  refine lv_aload_n hx hb dX7_take_16 rfl (lv_at hl 0 rfl) ?_
  refine lv_aload_n hx hb dX7_take_17 rfl (lv_at hl 1 rfl) ?_
  refine gf_602 hx hb hts hown hs hm hq (hts _ q189) dX7_take_18 ?_
  refine pf_602 hx hb hts hown hs hm hS hc (hts _ q189) (z01n hz) (z01f hz) dX7_take_21 (fun H locs hm hS => ?_)
  have hm : mw E t ((sI (sI (sI M 600 c (gI M 600 q)) 601 c (gI M 601 q)) 602 c (gI M 602 q))) H := hm
  refine lv_aload_n hx hb dX7_take_24 rfl (lv_at hl 0 rfl) ?_
  refine lv_aload_n hx hb dX7_take_25 rfl (lv_at hl 1 rfl) ?_
  refine gf_603 hx hb hts hown hs hm hq (hts _ q192) dX7_take_26 ?_
  refine pf_603 hx hb hts hown hs hm hS hc (hts _ q192) dX7_take_29 (fun H locs hm hS => ?_)
  have hm : mw E t ((sF (sI (sI (sI M 600 c (gI M 600 q)) 601 c (gI M 601 q)) 602 c (gI M 602 q)) 603 c (gF M 603 q))) H := hm
  exact W.vret hx hb hr (fun t9 ht9 _ => ⟨⟨_, rfl, (rfl).symm, hb9 ht9 hm⟩, hS.F ht9⟩) hS.2.2 dX7_take_32
def C8_is (t : mt) (M : mm) (c : Nat) (x : Int32) (y : Int32) (z : UInt32) (d : Int32) : mm :=
  (sI (sF (sI (sI M 700 c x) 701 c y) 702 c z) 703 c d)
set_option maxHeartbeats 4000000 in
theorem cm8_is (l : Launch) (E : mE) (t : mt) (M : mm) (c : Nat) (x : Int32) (y : Int32) (z : UInt32) (d : Int32) (hc : t c = (7, 0))  : Met l yX8_is (ws_ yX8_is cX8_is 5 none) ({ frames := 0, cells := 0, slots := 0, locals := 0 }) (va_Pc [.ref c, .int x, .int y, .float z, .int d] (wP E t M)) (va_Qv (fun (u : mm) => u = C8_is t M c x y z d) (fun u U => mw E t u U.heap) (eA E)) 0 0 (eA E) := by
  refine Met.ofW (cc := cX8_is) (maxL := 5) (ret := none) (by decide) rfl ?_
  intro p e s m args below meth c0 s₁ B hml hv
  obtain ⟨rfl, hs, hm⟩ := hv
  have hx := B.exec
  have hb := B.bytes
  have hr := B.returns
  have hts := atoms_spec (ws := ws_ yX8_is cX8_is 5 none) B.pre
  have hts : ∀ w ∈ lw_all, w.before _ s = true := fun w h => hts w (List.mem_cons_of_mem _ h)
  have hown : s.vm.findClass RX8 = some m.cls := findClass_of_methodNamed B.named
  have hlocks := B.notSynchronized
  have hS : va_S (eA E) s.heap s.heap [] := va_S.rf
  have hl := lv_entry ([.ref c, .int x, .int y, .float z, .int d]) (n := 5) (Nat.le_of_ble_eq_true rfl)
  rw [lg_entry_eq]
  generalize (lg_sl ([.ref c, .int x, .int y, .float z, .int d]) ++ List.replicate (5 - (lg_sl ([.ref c, .int x, .int y, .float z, .int d])).length) Slot.unset).toArray = ls at hl ⊢
  have hl : lv_has ls 5 [(0, .ref (c)), (1, .int (x)), (2, .int (y)), (3, .float (z)), (4, .int (d))] := hl
  refine lv_aload_n hx hb dX8_is_0 rfl (lv_at hl 0 rfl) ?_
  refine lv_iload_n hx hb dX8_is_1 rfl (lv_at hl 1 rfl) ?_
  refine pf_700 hx hb hts hown hs hm hS hc (hts _ q209) dX8_is_2 (fun H locs hm hS => ?_)
  have hm : mw E t ((sI M 700 c x)) H := hm
  refine lv_aload_n hx hb dX8_is_5 rfl (lv_at hl 0 rfl) ?_
  refine lv_iload_n hx hb dX8_is_6 rfl (lv_at hl 2 rfl) ?_
  refine pf_701 hx hb hts hown hs hm hS hc (hts _ q211) dX8_is_7 (fun H locs hm hS => ?_)
  have hm : mw E t ((sI (sI M 700 c x) 701 c y)) H := hm
  refine lv_aload_n hx hb dX8_is_10 rfl (lv_at hl 0 rfl) ?_
  refine lv_fload_n hx hb dX8_is_11 rfl (lv_at hl 3 rfl) ?_
  refine pf_702 hx hb hts hown hs hm hS hc (hts _ q213) dX8_is_12 (fun H locs hm hS => ?_)
  have hm : mw E t ((sF (sI (sI M 700 c x) 701 c y) 702 c z)) H := hm
  refine lv_aload_n hx hb dX8_is_15 rfl (lv_at hl 0 rfl) ?_
  refine lv_iload hx hb dX8_is_16 (lv_at hl 4 rfl) ?_
  refine pf_703 hx hb hts hown hs hm hS hc (hts _ q216) dX8_is_18 (fun H locs hm hS => ?_)
  have hm : mw E t ((sI (sF (sI (sI M 700 c x) 701 c y) 702 c z) 703 c d)) H := hm
  exact W.vret hx hb hr (fun t9 ht9 _ => ⟨⟨_, rfl, (rfl).symm, hb9 ht9 hm⟩, hS.F ht9⟩) hS.2.2 dX8_is_21
def C8_take (t : mt) (M : mm) (c : Nat) (q : Nat) : mm :=
  let u_1 := C8_is t M (c) ((gI M 700 q)) ((gI M 701 q)) ((gF M 702 q)) ((gI M 703 q));
  u_1
set_option maxHeartbeats 4000000 in
theorem cm8_take (l : Launch) (E : mE) (t : mt) (M : mm) (c : Nat) (q : Nat) (hc : t c = (7, 0)) (hq : t q = (7, 0)) : Met l yX8_take (ws_ yX8_take cX8_take 2 none) ({ frames := 1, cells := 0, slots := 0, locals := 24 }) (va_Pc [.ref c, .ref q] (wP E t M)) (va_Qv (fun (u : mm) => u = C8_take t M c q) (fun u U => mw E t u U.heap) (eA E)) 0 0 (eA E) := by
  refine Met.ofW (cc := cX8_take) (maxL := 2) (ret := none) (by decide) rfl ?_
  intro p e s m args below meth c0 s₁ B hml hv
  obtain ⟨rfl, hs, hm⟩ := hv
  have hx := B.exec
  have hb := B.bytes
  have hr := B.returns
  have hts := atoms_spec (ws := ws_ yX8_take cX8_take 2 none) B.pre
  have hts : ∀ w ∈ lw_all, w.before _ s = true := fun w h => hts w (List.mem_cons_of_mem _ h)
  have hown : s.vm.findClass RX8 = some m.cls := findClass_of_methodNamed B.named
  have hlocks := B.notSynchronized
  have hS : va_S (eA E) s.heap s.heap [] := va_S.rf
  have hl := lv_entry ([.ref c, .ref q]) (n := 2) (Nat.le_of_ble_eq_true rfl)
  rw [lg_entry_eq]
  generalize (lg_sl ([.ref c, .ref q]) ++ List.replicate (2 - (lg_sl ([.ref c, .ref q])).length) Slot.unset).toArray = ls at hl ⊢
  have hl : lv_has ls 2 [(0, .ref (c)), (1, .ref (q))] := hl
  refine lv_aload_n hx hb dX8_take_0 rfl (lv_at hl 0 rfl) ?_
  refine lv_aload_n hx hb dX8_take_1 rfl (lv_at hl 1 rfl) ?_
  refine gf_700 hx hb hts hown hs hm hq (hts _ q209) dX8_take_2 ?_
  refine lv_aload_n hx hb dX8_take_5 rfl (lv_at hl 1 rfl) ?_
  refine gf_701 hx hb hts hown hs hm hq (hts _ q211) dX8_take_6 ?_
  refine lv_aload_n hx hb dX8_take_9 rfl (lv_at hl 1 rfl) ?_
  refine gf_702 hx hb hts hown hs hm hq (hts _ q213) dX8_take_10 ?_
  refine lv_aload_n hx hb dX8_take_13 rfl (lv_at hl 1 rfl) ?_
  refine gf_703 hx hb hts hown hs hm hq (hts _ q216) dX8_take_14 ?_
  refine k_callv (va_runV (As := [.int ((gI M 700 q)), .int ((gI M 701 q)), .float ((gF M 702 q)), .int ((gI M 703 q))]) (rest := []) ⟨hx, hb, hml, hown, hts⟩ (cm8_is l E t M  (c) ((gI M 700 q)) ((gI M 701 q)) ((gF M 702 q)) ((gI M 703 q)) hc ) (cwV 4 hts (lw_V q626 q627 q628 q65 q629) rfl rfl rfl (by decide +kernel) ⟨Nat.le_of_ble_eq_true rfl, Nat.le_of_ble_eq_true rfl⟩) (k_preV hs hm hS (mw.recv hs hm (mt_ne hc (by decide)) (ct7 hc) rfl)) rfl rfl hl.1 rfl (lv_room (Nat.le_of_ble_eq_true rfl)) dX8_take_17 ⟨Nat.le_of_ble_eq_true rfl, Nat.le_of_ble_eq_true rfl⟩) hS (fun u_1 H locs hw_1 hm_1 hS => ?_)
  have hu_1 := hw_1
  have hm := hm_1
  subst hu_1
  exact W.vret hx hb hr (fun t9 ht9 _ => ⟨⟨_, rfl, (rfl).symm, hb9 ht9 hm⟩, hS.F ht9⟩) hS.2.2 dX8_take_20
abbrev C4_kind (t : mt) (M : mm) (c : Nat) : Int32 := kd4 t c
set_option maxHeartbeats 4000000 in
theorem cm4_kind (l : Launch) (E : mE) (t : mt) (M : mm) (c : Nat)  (hc : t c = (3, 0))  : Met l yX4_kind (ws_ yX4_kind cX4_kind 1 (some .int)) ({ frames := 0, cells := 0, slots := 0, locals := 0 }) (va_Pc [.ref c] (wP E t M)) (va_Qi (fun (r : Int32) (u : mm) => r = (C4_kind t M c ) ∧ u = M) (fun u U => mw E t u U.heap) (eA E)) 0 0 (eA E) := by
  refine Met.ofW (cc := cX4_kind) (maxL := 1) (ret := (some .int)) (by decide) rfl ?_
  intro p e s m args below meth c0 s₁ B hml hv
  obtain ⟨rfl, hs, hm⟩ := hv
  have hx := B.exec
  have hb := B.bytes
  have hr := B.returns
  have hts := atoms_spec (ws := ws_ yX4_kind cX4_kind 1 (some .int)) B.pre
  have hts : ∀ w ∈ lw_all, w.before _ s = true := fun w h => hts w (List.mem_cons_of_mem _ h)
  have hown : s.vm.findClass RX4 = some m.cls := findClass_of_methodNamed B.named
  have hlocks := B.notSynchronized
  have hS : va_S (eA E) s.heap s.heap [] := va_S.rf
  have hl := lv_entry ([.ref c]) (n := 1) (Nat.le_of_ble_eq_true rfl)
  rw [lg_entry_eq]
  generalize (lg_sl ([.ref c]) ++ List.replicate (1 - (lg_sl ([.ref c])).length) Slot.unset).toArray = ls at hl ⊢
  have hl : lv_has ls 1 [(0, .ref (c))] := hl
  refine lv_iconst (v := (0 : Int32)) hx hb dX4_kind_0 (by decide) ?_
  exact W.iret (v := _) hx hb hr (fun t9 ht9 _ => ⟨⟨_, _, rfl, ⟨(if_neg (is3 hc)).symm, rfl⟩, hb9 ht9 hm⟩, hS.F ht9⟩) hS.2.2 dX4_kind_1
abbrev C5_kind (t : mt) (M : mm) (c : Nat) : Int32 := kd4 t c
set_option maxHeartbeats 4000000 in
theorem cm5_kind (l : Launch) (E : mE) (t : mt) (M : mm) (c : Nat)  (hc : t c = (4, 0))  : Met l yX5_kind (ws_ yX5_kind cX5_kind 1 (some .int)) ({ frames := 0, cells := 0, slots := 0, locals := 0 }) (va_Pc [.ref c] (wP E t M)) (va_Qi (fun (r : Int32) (u : mm) => r = (C5_kind t M c ) ∧ u = M) (fun u U => mw E t u U.heap) (eA E)) 0 0 (eA E) := by
  refine Met.ofW (cc := cX5_kind) (maxL := 1) (ret := (some .int)) (by decide) rfl ?_
  intro p e s m args below meth c0 s₁ B hml hv
  obtain ⟨rfl, hs, hm⟩ := hv
  have hx := B.exec
  have hb := B.bytes
  have hr := B.returns
  have hts := atoms_spec (ws := ws_ yX5_kind cX5_kind 1 (some .int)) B.pre
  have hts : ∀ w ∈ lw_all, w.before _ s = true := fun w h => hts w (List.mem_cons_of_mem _ h)
  have hown : s.vm.findClass RX5 = some m.cls := findClass_of_methodNamed B.named
  have hlocks := B.notSynchronized
  have hS : va_S (eA E) s.heap s.heap [] := va_S.rf
  have hl := lv_entry ([.ref c]) (n := 1) (Nat.le_of_ble_eq_true rfl)
  rw [lg_entry_eq]
  generalize (lg_sl ([.ref c]) ++ List.replicate (1 - (lg_sl ([.ref c])).length) Slot.unset).toArray = ls at hl ⊢
  have hl : lv_has ls 1 [(0, .ref (c))] := hl
  refine lv_iconst (v := (1 : Int32)) hx hb dX5_kind_0 (by decide) ?_
  exact W.iret (v := _) hx hb hr (fun t9 ht9 _ => ⟨⟨_, _, rfl, ⟨(if_pos (is4 hc)).symm, rfl⟩, hb9 ht9 hm⟩, hS.F ht9⟩) hS.2.2 dX5_kind_1
abbrev C4_first (t : mt) (M : mm) (c : Nat) : UInt32 := fst4 t c
set_option maxHeartbeats 4000000 in
theorem cm4_first (l : Launch) (E : mE) (t : mt) (M : mm) (c : Nat)  (hc : t c = (3, 0))  : Met l yX4_first (ws_ yX4_first cX4_first 1 (some .float)) ({ frames := 0, cells := 0, slots := 0, locals := 0 }) (va_Pc [.ref c] (wP E t M)) (va_Qf (fun (r : UInt32) (u : mm) => r = (C4_first t M c ) ∧ u = M) (fun u U => mw E t u U.heap) (eA E)) 0 0 (eA E) := by
  refine Met.ofW (cc := cX4_first) (maxL := 1) (ret := (some .float)) (by decide) rfl ?_
  intro p e s m args below meth c0 s₁ B hml hv
  obtain ⟨rfl, hs, hm⟩ := hv
  have hx := B.exec
  have hb := B.bytes
  have hr := B.returns
  have hts := atoms_spec (ws := ws_ yX4_first cX4_first 1 (some .float)) B.pre
  have hts : ∀ w ∈ lw_all, w.before _ s = true := fun w h => hts w (List.mem_cons_of_mem _ h)
  have hown : s.vm.findClass RX4 = some m.cls := findClass_of_methodNamed B.named
  have hlocks := B.notSynchronized
  have hS : va_S (eA E) s.heap s.heap [] := va_S.rf
  have hl := lv_entry ([.ref c]) (n := 1) (Nat.le_of_ble_eq_true rfl)
  rw [lg_entry_eq]
  generalize (lg_sl ([.ref c]) ++ List.replicate (1 - (lg_sl ([.ref c])).length) Slot.unset).toArray = ls at hl ⊢
  have hl : lv_has ls 1 [(0, .ref (c))] := hl
  refine lv_fconst1 hx hb dX4_first_0 ?_
  exact W.fret (v := _) hx hb hr (fun t9 ht9 _ => ⟨⟨_, _, rfl, ⟨(if_neg (is3 hc)).symm, rfl⟩, hb9 ht9 hm⟩, hS.F ht9⟩) hS.2.2 dX4_first_1
abbrev C5_first (t : mt) (M : mm) (c : Nat) : UInt32 := fst4 t c
set_option maxHeartbeats 4000000 in
theorem cm5_first (l : Launch) (E : mE) (t : mt) (M : mm) (c : Nat)  (hc : t c = (4, 0))  : Met l yX5_first (ws_ yX5_first cX5_first 1 (some .float)) ({ frames := 0, cells := 0, slots := 0, locals := 0 }) (va_Pc [.ref c] (wP E t M)) (va_Qf (fun (r : UInt32) (u : mm) => r = (C5_first t M c ) ∧ u = M) (fun u U => mw E t u U.heap) (eA E)) 0 0 (eA E) := by
  refine Met.ofW (cc := cX5_first) (maxL := 1) (ret := (some .float)) (by decide) rfl ?_
  intro p e s m args below meth c0 s₁ B hml hv
  obtain ⟨rfl, hs, hm⟩ := hv
  have hx := B.exec
  have hb := B.bytes
  have hr := B.returns
  have hts := atoms_spec (ws := ws_ yX5_first cX5_first 1 (some .float)) B.pre
  have hts : ∀ w ∈ lw_all, w.before _ s = true := fun w h => hts w (List.mem_cons_of_mem _ h)
  have hown : s.vm.findClass RX5 = some m.cls := findClass_of_methodNamed B.named
  have hlocks := B.notSynchronized
  have hS : va_S (eA E) s.heap s.heap [] := va_S.rf
  have hl := lv_entry ([.ref c]) (n := 1) (Nat.le_of_ble_eq_true rfl)
  rw [lg_entry_eq]
  generalize (lg_sl ([.ref c]) ++ List.replicate (1 - (lg_sl ([.ref c])).length) Slot.unset).toArray = ls at hl ⊢
  have hl : lv_has ls 1 [(0, .ref (c))] := hl
  refine lv_ldcf (v := 1056964608) hx hb hown (hts _ q1084) dX5_first_0 ?_
  exact W.fret (v := _) hx hb hr (fun t9 ht9 _ => ⟨⟨_, _, rfl, ⟨(if_pos (is4 hc)).symm, rfl⟩, hb9 ht9 hm⟩, hS.F ht9⟩) hS.2.2 dX5_first_2
abbrev C4_rate (t : mt) (M : mm) (c : Nat) : UInt32 := rat4 t c
set_option maxHeartbeats 4000000 in
theorem cm4_rate (l : Launch) (E : mE) (t : mt) (M : mm) (c : Nat)  (hc : t c = (3, 0))  : Met l yX4_rate (ws_ yX4_rate cX4_rate 1 (some .float)) ({ frames := 0, cells := 0, slots := 0, locals := 0 }) (va_Pc [.ref c] (wP E t M)) (va_Qf (fun (r : UInt32) (u : mm) => r = (C4_rate t M c ) ∧ u = M) (fun u U => mw E t u U.heap) (eA E)) 0 0 (eA E) := by
  refine Met.ofW (cc := cX4_rate) (maxL := 1) (ret := (some .float)) (by decide) rfl ?_
  intro p e s m args below meth c0 s₁ B hml hv
  obtain ⟨rfl, hs, hm⟩ := hv
  have hx := B.exec
  have hb := B.bytes
  have hr := B.returns
  have hts := atoms_spec (ws := ws_ yX4_rate cX4_rate 1 (some .float)) B.pre
  have hts : ∀ w ∈ lw_all, w.before _ s = true := fun w h => hts w (List.mem_cons_of_mem _ h)
  have hown : s.vm.findClass RX4 = some m.cls := findClass_of_methodNamed B.named
  have hlocks := B.notSynchronized
  have hS : va_S (eA E) s.heap s.heap [] := va_S.rf
  have hl := lv_entry ([.ref c]) (n := 1) (Nat.le_of_ble_eq_true rfl)
  rw [lg_entry_eq]
  generalize (lg_sl ([.ref c]) ++ List.replicate (1 - (lg_sl ([.ref c])).length) Slot.unset).toArray = ls at hl ⊢
  have hl : lv_has ls 1 [(0, .ref (c))] := hl
  refine lv_ldcf (v := 1039516303) hx hb hown (hts _ q969) dX4_rate_0 ?_
  exact W.fret (v := _) hx hb hr (fun t9 ht9 _ => ⟨⟨_, _, rfl, ⟨(if_neg (is3 hc)).symm, rfl⟩, hb9 ht9 hm⟩, hS.F ht9⟩) hS.2.2 dX4_rate_2
abbrev C5_rate (t : mt) (M : mm) (c : Nat) : UInt32 := rat4 t c
set_option maxHeartbeats 4000000 in
theorem cm5_rate (l : Launch) (E : mE) (t : mt) (M : mm) (c : Nat)  (hc : t c = (4, 0))  : Met l yX5_rate (ws_ yX5_rate cX5_rate 1 (some .float)) ({ frames := 0, cells := 0, slots := 0, locals := 0 }) (va_Pc [.ref c] (wP E t M)) (va_Qf (fun (r : UInt32) (u : mm) => r = (C5_rate t M c ) ∧ u = M) (fun u U => mw E t u U.heap) (eA E)) 0 0 (eA E) := by
  refine Met.ofW (cc := cX5_rate) (maxL := 1) (ret := (some .float)) (by decide) rfl ?_
  intro p e s m args below meth c0 s₁ B hml hv
  obtain ⟨rfl, hs, hm⟩ := hv
  have hx := B.exec
  have hb := B.bytes
  have hr := B.returns
  have hts := atoms_spec (ws := ws_ yX5_rate cX5_rate 1 (some .float)) B.pre
  have hts : ∀ w ∈ lw_all, w.before _ s = true := fun w h => hts w (List.mem_cons_of_mem _ h)
  have hown : s.vm.findClass RX5 = some m.cls := findClass_of_methodNamed B.named
  have hlocks := B.notSynchronized
  have hS : va_S (eA E) s.heap s.heap [] := va_S.rf
  have hl := lv_entry ([.ref c]) (n := 1) (Nat.le_of_ble_eq_true rfl)
  rw [lg_entry_eq]
  generalize (lg_sl ([.ref c]) ++ List.replicate (1 - (lg_sl ([.ref c])).length) Slot.unset).toArray = ls at hl ⊢
  have hl : lv_has ls 1 [(0, .ref (c))] := hl
  refine lv_ldcf (v := 1031127695) hx hb hown (hts _ q965) dX5_rate_0 ?_
  exact W.fret (v := _) hx hb hr (fun t9 ht9 _ => ⟨⟨_, _, rfl, ⟨(if_pos (is4 hc)).symm, rfl⟩, hb9 ht9 hm⟩, hS.F ht9⟩) hS.2.2 dX5_rate_2
abbrev C4_sign (t : mt) (M : mm) (c : Nat) : Int32 := sgn4 t c
set_option maxHeartbeats 4000000 in
theorem cm4_sign (l : Launch) (E : mE) (t : mt) (M : mm) (c : Nat)  (hc : t c = (3, 0))  : Met l yX4_sign (ws_ yX4_sign cX4_sign 1 (some .char)) ({ frames := 0, cells := 0, slots := 0, locals := 0 }) (va_Pc [.ref c] (wP E t M)) (va_Qi (fun (r : Int32) (u : mm) => r = (C4_sign t M c ) ∧ u = M) (fun u U => mw E t u U.heap) (eA E)) 0 0 (eA E) := by
  refine Met.ofW (cc := cX4_sign) (maxL := 1) (ret := (some .char)) (by decide) rfl ?_
  intro p e s m args below meth c0 s₁ B hml hv
  obtain ⟨rfl, hs, hm⟩ := hv
  have hx := B.exec
  have hb := B.bytes
  have hr := B.returns
  have hts := atoms_spec (ws := ws_ yX4_sign cX4_sign 1 (some .char)) B.pre
  have hts : ∀ w ∈ lw_all, w.before _ s = true := fun w h => hts w (List.mem_cons_of_mem _ h)
  have hown : s.vm.findClass RX4 = some m.cls := findClass_of_methodNamed B.named
  have hlocks := B.notSynchronized
  have hS : va_S (eA E) s.heap s.heap [] := va_S.rf
  have hl := lv_entry ([.ref c]) (n := 1) (Nat.le_of_ble_eq_true rfl)
  rw [lg_entry_eq]
  generalize (lg_sl ([.ref c]) ++ List.replicate (1 - (lg_sl ([.ref c])).length) Slot.unset).toArray = ls at hl ⊢
  have hl : lv_has ls 1 [(0, .ref (c))] := hl
  refine lv_bipush (v := (77 : Int32)) hx hb dX4_sign_0 (by decide) ?_
  exact W.zret (v := _) hx hb hr rfl (fun t9 ht9 _ => ⟨⟨_, _, rfl, ⟨(if_neg (is3 hc)).symm, rfl⟩, hb9 ht9 hm⟩, hS.F ht9⟩) hS.2.2 dX4_sign_2
theorem Tz_C4_sign (t : mt) (M : mm) (c : Nat)  : narrow .char (.int (C4_sign t M c )) = .int (C4_sign t M c ) := by
  unfold C4_sign
  (show narrow .char (.int (sgn4 t c)) = .int (sgn4 t c))
  unfold sgn4
  split <;> rfl
abbrev C5_sign (t : mt) (M : mm) (c : Nat) : Int32 := sgn4 t c
set_option maxHeartbeats 4000000 in
theorem cm5_sign (l : Launch) (E : mE) (t : mt) (M : mm) (c : Nat)  (hc : t c = (4, 0))  : Met l yX5_sign (ws_ yX5_sign cX5_sign 1 (some .char)) ({ frames := 0, cells := 0, slots := 0, locals := 0 }) (va_Pc [.ref c] (wP E t M)) (va_Qi (fun (r : Int32) (u : mm) => r = (C5_sign t M c ) ∧ u = M) (fun u U => mw E t u U.heap) (eA E)) 0 0 (eA E) := by
  refine Met.ofW (cc := cX5_sign) (maxL := 1) (ret := (some .char)) (by decide) rfl ?_
  intro p e s m args below meth c0 s₁ B hml hv
  obtain ⟨rfl, hs, hm⟩ := hv
  have hx := B.exec
  have hb := B.bytes
  have hr := B.returns
  have hts := atoms_spec (ws := ws_ yX5_sign cX5_sign 1 (some .char)) B.pre
  have hts : ∀ w ∈ lw_all, w.before _ s = true := fun w h => hts w (List.mem_cons_of_mem _ h)
  have hown : s.vm.findClass RX5 = some m.cls := findClass_of_methodNamed B.named
  have hlocks := B.notSynchronized
  have hS : va_S (eA E) s.heap s.heap [] := va_S.rf
  have hl := lv_entry ([.ref c]) (n := 1) (Nat.le_of_ble_eq_true rfl)
  rw [lg_entry_eq]
  generalize (lg_sl ([.ref c]) ++ List.replicate (1 - (lg_sl ([.ref c])).length) Slot.unset).toArray = ls at hl ⊢
  have hl : lv_has ls 1 [(0, .ref (c))] := hl
  refine lv_bipush (v := (66 : Int32)) hx hb dX5_sign_0 (by decide) ?_
  exact W.zret (v := _) hx hb hr rfl (fun t9 ht9 _ => ⟨⟨_, _, rfl, ⟨(if_pos (is4 hc)).symm, rfl⟩, hb9 ht9 hm⟩, hS.F ht9⟩) hS.2.2 dX5_sign_2
theorem Tz_C5_sign (t : mt) (M : mm) (c : Nat)  : narrow .char (.int (C5_sign t M c )) = .int (C5_sign t M c ) := by
  unfold C5_sign
  (show narrow .char (.int (sgn4 t c)) = .int (sgn4 t c))
  unfold sgn4
  split <;> rfl
def C3_begins (t : mt) (M : mm) (c : Nat) (x : Int32) : mm :=
  (sI (sF (sI M 300 c x) 301 c FP.fconst0) 302 c (1 : Int32))
set_option maxHeartbeats 4000000 in
theorem cm3_begins (l : Launch) (E : mE) (t : mt) (M : mm) (c : Nat) (x : Int32) (hc : isP t c)  : Met l yX3_begins (ws_ yX3_begins cX3_begins 2 none) ({ frames := 0, cells := 0, slots := 0, locals := 0 }) (va_Pc [.ref c, .int x] (wP E t M)) (va_Qv (fun (u : mm) => u = C3_begins t M c x) (fun u U => mw E t u U.heap) (eA E)) 0 0 (eA E) := by
  refine Met.ofW (cc := cX3_begins) (maxL := 2) (ret := none) (by decide) rfl ?_
  intro p e s m args below meth c0 s₁ B hml hv
  obtain ⟨rfl, hs, hm⟩ := hv
  have hx := B.exec
  have hb := B.bytes
  have hr := B.returns
  have hts := atoms_spec (ws := ws_ yX3_begins cX3_begins 2 none) B.pre
  have hts : ∀ w ∈ lw_all, w.before _ s = true := fun w h => hts w (List.mem_cons_of_mem _ h)
  have hown : s.vm.findClass RX3 = some m.cls := findClass_of_methodNamed B.named
  have hlocks := B.notSynchronized
  have hS : va_S (eA E) s.heap s.heap [] := va_S.rf
  have hl := lv_entry ([.ref c, .int x]) (n := 2) (Nat.le_of_ble_eq_true rfl)
  rw [lg_entry_eq]
  generalize (lg_sl ([.ref c, .int x]) ++ List.replicate (2 - (lg_sl ([.ref c, .int x])).length) Slot.unset).toArray = ls at hl ⊢
  have hl : lv_has ls 2 [(0, .ref (c)), (1, .int (x))] := hl
  refine lv_aload_n hx hb dX3_begins_0 rfl (lv_at hl 0 rfl) ?_
  refine lv_iload_n hx hb dX3_begins_1 rfl (lv_at hl 1 rfl) ?_
  refine pf_300 hx hb hts hown hs hm hS hc (hts _ q132) dX3_begins_2 (fun H locs hm hS => ?_)
  have hm : mw E t ((sI M 300 c x)) H := hm
  refine lv_aload_n hx hb dX3_begins_5 rfl (lv_at hl 0 rfl) ?_
  refine lv_fconst0 hx hb dX3_begins_6 ?_
  refine pf_301 hx hb hts hown hs hm hS hc (hts _ q134) dX3_begins_7 (fun H locs hm hS => ?_)
  have hm : mw E t ((sF (sI M 300 c x) 301 c FP.fconst0)) H := hm
  refine lv_aload_n hx hb dX3_begins_10 rfl (lv_at hl 0 rfl) ?_
  refine lv_iconst (v := (1 : Int32)) hx hb dX3_begins_11 (by decide) ?_
  refine pf_302 hx hb hts hown hs hm hS hc (hts _ q138) rfl rfl dX3_begins_12 (fun H locs hm hS => ?_)
  have hm : mw E t ((sI (sF (sI M 300 c x) 301 c FP.fconst0) 302 c (1 : Int32))) H := hm
  exact W.vret hx hb hr (fun t9 ht9 _ => ⟨⟨_, rfl, (rfl).symm, hb9 ht9 hm⟩, hS.F ht9⟩) hS.2.2 dX3_begins_15
def C3_take (t : mt) (M : mm) (c : Nat) (q : Nat) : mm :=
  let u_1 := C3_begins t M (c) ((gI M 300 q));
  (sF u_1 301 c (gF u_1 301 q))
set_option maxHeartbeats 4000000 in
theorem cm3_take (l : Launch) (E : mE) (t : mt) (M : mm) (c : Nat) (q : Nat) (hc : isP t c) (hq : isP t q) : Met l yX3_take (ws_ yX3_take cX3_take 2 none) ({ frames := 1, cells := 0, slots := 0, locals := 21 }) (va_Pc [.ref c, .ref q] (wP E t M)) (va_Qv (fun (u : mm) => u = C3_take t M c q) (fun u U => mw E t u U.heap) (eA E)) 0 0 (eA E) := by
  refine Met.ofW (cc := cX3_take) (maxL := 2) (ret := none) (by decide) rfl ?_
  intro p e s m args below meth c0 s₁ B hml hv
  obtain ⟨rfl, hs, hm⟩ := hv
  have hx := B.exec
  have hb := B.bytes
  have hr := B.returns
  have hts := atoms_spec (ws := ws_ yX3_take cX3_take 2 none) B.pre
  have hts : ∀ w ∈ lw_all, w.before _ s = true := fun w h => hts w (List.mem_cons_of_mem _ h)
  have hown : s.vm.findClass RX3 = some m.cls := findClass_of_methodNamed B.named
  have hlocks := B.notSynchronized
  have hS : va_S (eA E) s.heap s.heap [] := va_S.rf
  have hl := lv_entry ([.ref c, .ref q]) (n := 2) (Nat.le_of_ble_eq_true rfl)
  rw [lg_entry_eq]
  generalize (lg_sl ([.ref c, .ref q]) ++ List.replicate (2 - (lg_sl ([.ref c, .ref q])).length) Slot.unset).toArray = ls at hl ⊢
  have hl : lv_has ls 2 [(0, .ref (c)), (1, .ref (q))] := hl
  refine lv_aload_n hx hb dX3_take_0 rfl (lv_at hl 0 rfl) ?_
  refine lv_aload_n hx hb dX3_take_1 rfl (lv_at hl 1 rfl) ?_
  refine gf_300 hx hb hts hown hs hm hq (hts _ q132) dX3_take_2 ?_
  refine k_callv (hc.elim (fun h9 => va_runU (As := [.int ((gI M 300 q))]) (rest := []) ⟨hx, hb, hml, hown, hts⟩ (cm3_begins l E t M  (c) ((gI M 300 q)) hc ) (va_cwU 1 hts (lw_U q608 q610 q612 q609 q60 q613) rfl rfl rfl rfl (by decide +kernel) ⟨Nat.le_of_ble_eq_true rfl, Nat.le_of_ble_eq_true rfl⟩) (k_preV hs hm hS (mw.recv hs hm (mt_ne h9 (by decide)) (ct3 h9) rfl)) rfl rfl hl.1 rfl (lv_room (Nat.le_of_ble_eq_true rfl)) dX3_take_5 ⟨Nat.le_of_ble_eq_true rfl, Nat.le_of_ble_eq_true rfl⟩) (fun h9 => va_runU (As := [.int ((gI M 300 q))]) (rest := []) ⟨hx, hb, hml, hown, hts⟩ (cm3_begins l E t M  (c) ((gI M 300 q)) hc ) (va_cwU 1 hts (lw_U q608 q610 q611 q609 q60 q613) rfl rfl rfl rfl (by decide +kernel) ⟨Nat.le_of_ble_eq_true rfl, Nat.le_of_ble_eq_true rfl⟩) (k_preV hs hm hS (mw.recv hs hm (mt_ne h9 (by decide)) (ct4 h9) rfl)) rfl rfl hl.1 rfl (lv_room (Nat.le_of_ble_eq_true rfl)) dX3_take_5 ⟨Nat.le_of_ble_eq_true rfl, Nat.le_of_ble_eq_true rfl⟩)) hS (fun u_1 H locs hw_1 hm_1 hS => ?_)
  have hu_1 := hw_1
  have hm := hm_1
  refine lv_aload_n hx hb dX3_take_8 rfl (lv_at hl 0 rfl) ?_
  refine lv_aload_n hx hb dX3_take_9 rfl (lv_at hl 1 rfl) ?_
  refine gf_301 hx hb hts hown hs hm hq (hts _ q134) dX3_take_10 ?_
  refine pf_301 hx hb hts hown hs hm hS hc (hts _ q134) dX3_take_13 (fun H locs hm hS => ?_)
  have hm : mw E t ((sF u_1 301 c (gF u_1 301 q))) H := hm
  subst hu_1
  exact W.vret hx hb hr (fun t9 ht9 _ => ⟨⟨_, rfl, (rfl).symm, hb9 ht9 hm⟩, hS.F ht9⟩) hS.2.2 dX3_take_16
def C3_isPlanted (t : mt) (M : mm) (c : Nat) (x : Int32) : mm :=
  (sF (sI M 300 c x) 301 c (fst4 t c))
set_option maxHeartbeats 4000000 in
theorem cm3_isPlanted (l : Launch) (E : mE) (t : mt) (M : mm) (c : Nat) (x : Int32) (hc : isP t c)  : Met l yX3_isPlanted (ws_ yX3_isPlanted cX3_isPlanted 2 none) ({ frames := 1, cells := 0, slots := 0, locals := 20 }) (va_Pc [.ref c, .int x] (wP E t M)) (va_Qv (fun (u : mm) => u = C3_isPlanted t M c x) (fun u U => mw E t u U.heap) (eA E)) 0 0 (eA E) := by
  refine Met.ofW (cc := cX3_isPlanted) (maxL := 2) (ret := none) (by decide) rfl ?_
  intro p e s m args below meth c0 s₁ B hml hv
  obtain ⟨rfl, hs, hm⟩ := hv
  have hx := B.exec
  have hb := B.bytes
  have hr := B.returns
  have hts := atoms_spec (ws := ws_ yX3_isPlanted cX3_isPlanted 2 none) B.pre
  have hts : ∀ w ∈ lw_all, w.before _ s = true := fun w h => hts w (List.mem_cons_of_mem _ h)
  have hown : s.vm.findClass RX3 = some m.cls := findClass_of_methodNamed B.named
  have hlocks := B.notSynchronized
  have hS : va_S (eA E) s.heap s.heap [] := va_S.rf
  have hl := lv_entry ([.ref c, .int x]) (n := 2) (Nat.le_of_ble_eq_true rfl)
  rw [lg_entry_eq]
  generalize (lg_sl ([.ref c, .int x]) ++ List.replicate (2 - (lg_sl ([.ref c, .int x])).length) Slot.unset).toArray = ls at hl ⊢
  have hl : lv_has ls 2 [(0, .ref (c)), (1, .int (x))] := hl
  refine lv_aload_n hx hb dX3_isPlanted_0 rfl (lv_at hl 0 rfl) ?_
  refine lv_iload_n hx hb dX3_isPlanted_1 rfl (lv_at hl 1 rfl) ?_
  refine pf_300 hx hb hts hown hs hm hS hc (hts _ q132) dX3_isPlanted_2 (fun H locs hm hS => ?_)
  have hm : mw E t ((sI M 300 c x)) H := hm
  refine lv_aload_n hx hb dX3_isPlanted_5 rfl (lv_at hl 0 rfl) ?_
  refine lv_aload_n hx hb dX3_isPlanted_6 rfl (lv_at hl 0 rfl) ?_
  refine k_callf (hc.elim (fun h9 => va_runU (As := []) (rest := [.ref (c)]) ⟨hx, hb, hml, hown, hts⟩ (cm4_first l E t (sI M 300 c x) (c) h9) (va_cwA 0 hts (lw_U q1078 q1080 q1085 q1086 q61 q1087) rfl rfl rfl (hs.2.2.1 _ q1079 rfl) (by decide +kernel) ⟨Nat.le_of_ble_eq_true rfl, Nat.le_of_ble_eq_true rfl⟩) (k_preV hs hm hS (mw.recv hs hm (mt_ne h9 (by decide)) (ct3 h9) rfl)) rfl rfl hl.1 rfl (lv_room (Nat.le_of_ble_eq_true rfl)) dX3_isPlanted_7 ⟨Nat.le_of_ble_eq_true rfl, Nat.le_of_ble_eq_true rfl⟩) (fun h9 => va_runU (As := []) (rest := [.ref (c)]) ⟨hx, hb, hml, hown, hts⟩ (cm5_first l E t (sI M 300 c x) (c) h9) (va_cwA 0 hts (lw_U q1078 q1080 q1081 q1082 q62 q1083) rfl rfl rfl (hs.2.2.1 _ q1079 rfl) (by decide +kernel) ⟨Nat.le_of_ble_eq_true rfl, Nat.le_of_ble_eq_true rfl⟩) (k_preV hs hm hS (mw.recv hs hm (mt_ne h9 (by decide)) (ct4 h9) rfl)) rfl rfl hl.1 rfl (lv_room (Nat.le_of_ble_eq_true rfl)) dX3_isPlanted_7 ⟨Nat.le_of_ble_eq_true rfl, Nat.le_of_ble_eq_true rfl⟩)) hS (fun r_1 u_1 H locs hw_1 hm_1 hS => ?_)
  obtain ⟨hr_1, hu_1⟩ := hw_1
  subst hr_1
  replace hu_1 := hu_1.symm
  subst hu_1
  have hm : mw E t ((sI M 300 c x)) H := hm_1
  refine pf_301 hx hb hts hown hs hm hS hc (hts _ q134) dX3_isPlanted_10 (fun H locs hm hS => ?_)
  have hm : mw E t ((sF (sI M 300 c x) 301 c (fst4 t c))) H := hm
  exact W.vret hx hb hr (fun t9 ht9 _ => ⟨⟨_, rfl, (rfl).symm, hb9 ht9 hm⟩, hS.F ht9⟩) hS.2.2 dX3_isPlanted_13
def C1_in (x : Int32) (lo : Int32) (hi : Int32) : Int32 :=
  if x < lo then
    (0 : Int32)
  else
    if hi < x then
      (0 : Int32)
    else
      (1 : Int32)
set_option maxHeartbeats 4000000 in
theorem cm1_in (l : Launch) (E : mE) (x : Int32) (lo : Int32) (hi : Int32) (H0 : Heap) : Met l yX1_in (ws_ yX1_in cX1_in 3 (some .boolean)) ({ frames := 0, cells := 0, slots := 0, locals := 0 }) (va_Pc [.int x, .int lo, .int hi] (pP E H0)) (va_Qi (fun (r : Int32) (_ : Unit) => r = C1_in x lo hi) (fun _ U => hEq H0 U.heap) (eA E)) 0 0 (eA E) := by
  refine Met.ofW (cc := cX1_in) (maxL := 3) (ret := (some .boolean)) (by decide) rfl ?_
  intro p e s m args below meth c s₁ B hml hv
  obtain ⟨rfl, hs, hv⟩ := hv
  subst hv
  have hm : s.heap = s.heap := rfl
  have hx := B.exec
  have hb := B.bytes
  have hr := B.returns
  have hts := atoms_spec (ws := ws_ yX1_in cX1_in 3 (some .boolean)) B.pre
  have hts : ∀ w ∈ lw_all, w.before _ s = true := fun w h => hts w (List.mem_cons_of_mem _ h)
  have hown : s.vm.findClass RX1 = some m.cls := findClass_of_methodNamed B.named
  have hlocks := B.notSynchronized
  have hS : va_S (eA E) s.heap s.heap [] := va_S.rf
  have hl := lv_entry ([.int x, .int lo, .int hi]) (n := 3) (Nat.le_of_ble_eq_true rfl)
  rw [lg_entry_eq]
  generalize (lg_sl ([.int x, .int lo, .int hi]) ++ List.replicate (3 - (lg_sl ([.int x, .int lo, .int hi])).length) Slot.unset).toArray = ls at hl ⊢
  have hl : lv_has ls 3 [(0, .int (x)), (1, .int (lo)), (2, .int (hi))] := hl
  refine lv_iload_n hx hb dX1_in_0 rfl (lv_at hl 0 rfl) ?_
  refine lv_iload_n hx hb dX1_in_1 rfl (lv_at hl 1 rfl) ?_
  refine lv_icmp_lt (tgt := 14) hx hb dX1_in_2 (by decide) (fun c_1 => ?_) (fun c_1 => ?_)
  · refine lv_iconst (v := (0 : Int32)) hx hb dX1_in_14 (by decide) ?_
    exact W.zret (v := _) hx hb hr rfl (fun t9 ht9 _ => ⟨⟨_, (), rfl, ((if_pos c_1).trans (rfl)).symm, ht9⟩, hS.F ht9⟩) hS.2.2 dX1_in_15
  · refine lv_iload_n hx hb dX1_in_5 rfl (lv_at hl 0 rfl) ?_
    refine lv_iload_n hx hb dX1_in_6 rfl (lv_at hl 2 rfl) ?_
    refine lv_icmp_gt (tgt := 14) hx hb dX1_in_7 (by decide) (fun c_2 => ?_) (fun c_2 => ?_)
    · refine lv_iconst (v := (0 : Int32)) hx hb dX1_in_14 (by decide) ?_
      exact W.zret (v := _) hx hb hr rfl (fun t9 ht9 _ => ⟨⟨_, (), rfl, ((if_neg c_1).trans ((if_pos c_2).trans (rfl))).symm, ht9⟩, hS.F ht9⟩) hS.2.2 dX1_in_15
    · refine lv_iconst (v := (1 : Int32)) hx hb dX1_in_10 (by decide) ?_
      refine lv_goto (tgt := 15) hx hb dX1_in_11 (by decide) ?_
      exact W.zret (v := _) hx hb hr rfl (fun t9 ht9 _ => ⟨⟨_, (), rfl, ((if_neg c_1).trans ((if_neg c_2).trans (rfl))).symm, ht9⟩, hS.F ht9⟩) hS.2.2 dX1_in_15
theorem Tz__in (x : Int32) (lo : Int32) (hi : Int32) : narrow .boolean (.int (C1_in x lo hi)) = .int (C1_in x lo hi) := by
  unfold C1_in
  try dsimp only
  (repeat' split) <;> rfl
def C1_isPlot (x : Int32) : Int32 :=
  let r_1 := C1_in (x) ((0 : Int32)) ((11 : Int32));
  r_1
set_option maxHeartbeats 4000000 in
theorem cm1_isPlot (l : Launch) (E : mE) (x : Int32) (H0 : Heap) : Met l yX1_isPlot (ws_ yX1_isPlot cX1_isPlot 1 (some .boolean)) ({ frames := 1, cells := 0, slots := 0, locals := 22 }) (va_Pc [.int x] (pP E H0)) (va_Qi (fun (r : Int32) (_ : Unit) => r = C1_isPlot x) (fun _ U => hEq H0 U.heap) (eA E)) 0 0 (eA E) := by
  refine Met.ofW (cc := cX1_isPlot) (maxL := 1) (ret := (some .boolean)) (by decide) rfl ?_
  intro p e s m args below meth c s₁ B hml hv
  obtain ⟨rfl, hs, hv⟩ := hv
  subst hv
  have hm : s.heap = s.heap := rfl
  have hx := B.exec
  have hb := B.bytes
  have hr := B.returns
  have hts := atoms_spec (ws := ws_ yX1_isPlot cX1_isPlot 1 (some .boolean)) B.pre
  have hts : ∀ w ∈ lw_all, w.before _ s = true := fun w h => hts w (List.mem_cons_of_mem _ h)
  have hown : s.vm.findClass RX1 = some m.cls := findClass_of_methodNamed B.named
  have hlocks := B.notSynchronized
  have hS : va_S (eA E) s.heap s.heap [] := va_S.rf
  have hl := lv_entry ([.int x]) (n := 1) (Nat.le_of_ble_eq_true rfl)
  rw [lg_entry_eq]
  generalize (lg_sl ([.int x]) ++ List.replicate (1 - (lg_sl ([.int x])).length) Slot.unset).toArray = ls at hl ⊢
  have hl : lv_has ls 1 [(0, .int (x))] := hl
  refine lv_iload_n hx hb dX1_isPlot_0 rfl (lv_at hl 0 rfl) ?_
  refine lv_iconst (v := (0 : Int32)) hx hb dX1_isPlot_1 (by decide) ?_
  refine lv_bipush (v := (11 : Int32)) hx hb dX1_isPlot_2 (by decide) ?_
  refine k_calli (va_runS (As := [.int (x), .int ((0 : Int32)), .int ((11 : Int32))]) (rest := []) ⟨hx, hb, hml, hown, hts⟩ (cm1_in l E (x) ((0 : Int32)) ((11 : Int32)) _) (va_cwS 3 hts (lw_S q699 q700 q58 q701) rfl rfl rfl (by decide +kernel) ⟨Nat.le_of_ble_eq_true rfl, Nat.le_of_ble_eq_true rfl⟩) (k_pure hs hS) rfl rfl hl.1 rfl (lv_room (Nat.le_of_ble_eq_true rfl)) dX1_isPlot_4 ⟨Nat.le_of_ble_eq_true rfl, Nat.le_of_ble_eq_true rfl⟩) hS (fun r_1 u_1 H9 locs hw_1 hm_1 hS => ?_)
  replace hm_1 : _ = H9 := Eq.symm hm_1
  subst hm_1
  have hr_1 := hw_1
  subst hr_1
  exact W.zret (v := _) hx hb hr (Tz__in _ _ _) (fun t9 ht9 _ => ⟨⟨_, (), rfl, (rfl).symm, ht9⟩, hS.F ht9⟩) hS.2.2 dX1_isPlot_7
theorem Tz__isPlot (x : Int32) : narrow .boolean (.int (C1_isPlot x)) = .int (C1_isPlot x) := by
  unfold C1_isPlot
  exact Tz__in _ _ _
def C1_isKind (x : Int32) : Int32 :=
  let r_1 := C1_in (x) ((0 : Int32)) ((1 : Int32));
  r_1
set_option maxHeartbeats 4000000 in
theorem cm1_isKind (l : Launch) (E : mE) (x : Int32) (H0 : Heap) : Met l yX1_isKind (ws_ yX1_isKind cX1_isKind 1 (some .boolean)) ({ frames := 1, cells := 0, slots := 0, locals := 22 }) (va_Pc [.int x] (pP E H0)) (va_Qi (fun (r : Int32) (_ : Unit) => r = C1_isKind x) (fun _ U => hEq H0 U.heap) (eA E)) 0 0 (eA E) := by
  refine Met.ofW (cc := cX1_isKind) (maxL := 1) (ret := (some .boolean)) (by decide) rfl ?_
  intro p e s m args below meth c s₁ B hml hv
  obtain ⟨rfl, hs, hv⟩ := hv
  subst hv
  have hm : s.heap = s.heap := rfl
  have hx := B.exec
  have hb := B.bytes
  have hr := B.returns
  have hts := atoms_spec (ws := ws_ yX1_isKind cX1_isKind 1 (some .boolean)) B.pre
  have hts : ∀ w ∈ lw_all, w.before _ s = true := fun w h => hts w (List.mem_cons_of_mem _ h)
  have hown : s.vm.findClass RX1 = some m.cls := findClass_of_methodNamed B.named
  have hlocks := B.notSynchronized
  have hS : va_S (eA E) s.heap s.heap [] := va_S.rf
  have hl := lv_entry ([.int x]) (n := 1) (Nat.le_of_ble_eq_true rfl)
  rw [lg_entry_eq]
  generalize (lg_sl ([.int x]) ++ List.replicate (1 - (lg_sl ([.int x])).length) Slot.unset).toArray = ls at hl ⊢
  have hl : lv_has ls 1 [(0, .int (x))] := hl
  refine lv_iload_n hx hb dX1_isKind_0 rfl (lv_at hl 0 rfl) ?_
  refine lv_iconst (v := (0 : Int32)) hx hb dX1_isKind_1 (by decide) ?_
  refine lv_iconst (v := (1 : Int32)) hx hb dX1_isKind_2 (by decide) ?_
  refine k_calli (va_runS (As := [.int (x), .int ((0 : Int32)), .int ((1 : Int32))]) (rest := []) ⟨hx, hb, hml, hown, hts⟩ (cm1_in l E (x) ((0 : Int32)) ((1 : Int32)) _) (va_cwS 3 hts (lw_S q699 q700 q58 q701) rfl rfl rfl (by decide +kernel) ⟨Nat.le_of_ble_eq_true rfl, Nat.le_of_ble_eq_true rfl⟩) (k_pure hs hS) rfl rfl hl.1 rfl (lv_room (Nat.le_of_ble_eq_true rfl)) dX1_isKind_3 ⟨Nat.le_of_ble_eq_true rfl, Nat.le_of_ble_eq_true rfl⟩) hS (fun r_1 u_1 H9 locs hw_1 hm_1 hS => ?_)
  replace hm_1 : _ = H9 := Eq.symm hm_1
  subst hm_1
  have hr_1 := hw_1
  subst hr_1
  exact W.zret (v := _) hx hb hr (Tz__in _ _ _) (fun t9 ht9 _ => ⟨⟨_, (), rfl, (rfl).symm, ht9⟩, hS.F ht9⟩) hS.2.2 dX1_isKind_6
theorem Tz__isKind (x : Int32) : narrow .boolean (.int (C1_isKind x)) = .int (C1_isKind x) := by
  unfold C1_isKind
  exact Tz__in _ _ _
def C1_isPlace (x : Int32) (y : Int32) : Int32 :=
  let r_1 := C1_in (x) ((0 : Int32)) ((1 : Int32));
  if r_1 = 0 then
    (0 : Int32)
  else
    let r_3 := C1_in (y) ((0 : Int32)) ((4 : Int32));
    if r_3 = 0 then
      (0 : Int32)
    else
      (1 : Int32)
set_option maxHeartbeats 4000000 in
theorem cm1_isPlace (l : Launch) (E : mE) (x : Int32) (y : Int32) (H0 : Heap) : Met l yX1_isPlace (ws_ yX1_isPlace cX1_isPlace 2 (some .boolean)) ({ frames := 1, cells := 0, slots := 0, locals := 22 }) (va_Pc [.int x, .int y] (pP E H0)) (va_Qi (fun (r : Int32) (_ : Unit) => r = C1_isPlace x y) (fun _ U => hEq H0 U.heap) (eA E)) 0 0 (eA E) := by
  refine Met.ofW (cc := cX1_isPlace) (maxL := 2) (ret := (some .boolean)) (by decide) rfl ?_
  intro p e s m args below meth c s₁ B hml hv
  obtain ⟨rfl, hs, hv⟩ := hv
  subst hv
  have hm : s.heap = s.heap := rfl
  have hx := B.exec
  have hb := B.bytes
  have hr := B.returns
  have hts := atoms_spec (ws := ws_ yX1_isPlace cX1_isPlace 2 (some .boolean)) B.pre
  have hts : ∀ w ∈ lw_all, w.before _ s = true := fun w h => hts w (List.mem_cons_of_mem _ h)
  have hown : s.vm.findClass RX1 = some m.cls := findClass_of_methodNamed B.named
  have hlocks := B.notSynchronized
  have hS : va_S (eA E) s.heap s.heap [] := va_S.rf
  have hl := lv_entry ([.int x, .int y]) (n := 2) (Nat.le_of_ble_eq_true rfl)
  rw [lg_entry_eq]
  generalize (lg_sl ([.int x, .int y]) ++ List.replicate (2 - (lg_sl ([.int x, .int y])).length) Slot.unset).toArray = ls at hl ⊢
  have hl : lv_has ls 2 [(0, .int (x)), (1, .int (y))] := hl
  refine lv_iload_n hx hb dX1_isPlace_0 rfl (lv_at hl 0 rfl) ?_
  refine lv_iconst (v := (0 : Int32)) hx hb dX1_isPlace_1 (by decide) ?_
  refine lv_iconst (v := (1 : Int32)) hx hb dX1_isPlace_2 (by decide) ?_
  refine k_calli (va_runS (As := [.int (x), .int ((0 : Int32)), .int ((1 : Int32))]) (rest := []) ⟨hx, hb, hml, hown, hts⟩ (cm1_in l E (x) ((0 : Int32)) ((1 : Int32)) _) (va_cwS 3 hts (lw_S q699 q700 q58 q701) rfl rfl rfl (by decide +kernel) ⟨Nat.le_of_ble_eq_true rfl, Nat.le_of_ble_eq_true rfl⟩) (k_pure hs hS) rfl rfl hl.1 rfl (lv_room (Nat.le_of_ble_eq_true rfl)) dX1_isPlace_3 ⟨Nat.le_of_ble_eq_true rfl, Nat.le_of_ble_eq_true rfl⟩) hS (fun r_1 u_1 H9 locs hw_1 hm_1 hS => ?_)
  replace hm_1 : _ = H9 := Eq.symm hm_1
  subst hm_1
  have hr_1 := hw_1
  refine lv_if_eq (tgt := 22) hx hb dX1_isPlace_6 (by decide) (fun c_2 => ?_) (fun c_2 => ?_)
  · refine lv_iconst (v := (0 : Int32)) hx hb dX1_isPlace_22 (by decide) ?_
    subst hr_1
    exact W.zret (v := _) hx hb hr rfl (fun t9 ht9 _ => ⟨⟨_, (), rfl, ((if_pos c_2).trans (rfl)).symm, ht9⟩, hS.F ht9⟩) hS.2.2 dX1_isPlace_23
  · refine lv_iload_n hx hb dX1_isPlace_9 rfl (lv_at hl 1 rfl) ?_
    refine lv_iconst (v := (0 : Int32)) hx hb dX1_isPlace_10 (by decide) ?_
    refine lv_iconst (v := (4 : Int32)) hx hb dX1_isPlace_11 (by decide) ?_
    refine k_calli (va_runS (As := [.int (y), .int ((0 : Int32)), .int ((4 : Int32))]) (rest := []) ⟨hx, hb, hml, hown, hts⟩ (cm1_in l E (y) ((0 : Int32)) ((4 : Int32)) _) (va_cwS 3 hts (lw_S q699 q700 q58 q701) rfl rfl rfl (by decide +kernel) ⟨Nat.le_of_ble_eq_true rfl, Nat.le_of_ble_eq_true rfl⟩) (k_pure hs hS) rfl rfl hl.1 rfl (lv_room (Nat.le_of_ble_eq_true rfl)) dX1_isPlace_12 ⟨Nat.le_of_ble_eq_true rfl, Nat.le_of_ble_eq_true rfl⟩) hS (fun r_3 u_3 H9 locs hw_3 hm_3 hS => ?_)
    replace hm_3 : _ = H9 := Eq.symm hm_3
    subst hm_3
    have hr_3 := hw_3
    refine lv_if_eq (tgt := 22) hx hb dX1_isPlace_15 (by decide) (fun c_4 => ?_) (fun c_4 => ?_)
    · refine lv_iconst (v := (0 : Int32)) hx hb dX1_isPlace_22 (by decide) ?_
      subst hr_3
      subst hr_1
      exact W.zret (v := _) hx hb hr rfl (fun t9 ht9 _ => ⟨⟨_, (), rfl, ((if_neg c_2).trans ((if_pos c_4).trans (rfl))).symm, ht9⟩, hS.F ht9⟩) hS.2.2 dX1_isPlace_23
    · refine lv_iconst (v := (1 : Int32)) hx hb dX1_isPlace_18 (by decide) ?_
      refine lv_goto (tgt := 23) hx hb dX1_isPlace_19 (by decide) ?_
      subst hr_3
      subst hr_1
      exact W.zret (v := _) hx hb hr rfl (fun t9 ht9 _ => ⟨⟨_, (), rfl, ((if_neg c_2).trans ((if_neg c_4).trans (rfl))).symm, ht9⟩, hS.F ht9⟩) hS.2.2 dX1_isPlace_23
theorem Tz__isPlace (x : Int32) (y : Int32) : narrow .boolean (.int (C1_isPlace x y)) = .int (C1_isPlace x y) := by
  unfold C1_isPlace
  try dsimp only
  (repeat' split) <;> rfl
def C2_isMember (t : mt) (M : mm) (c : Nat) (x : Int32) : Int32 :=
  let r_1 := C1_in (x) ((0 : Int32)) (((gI M 211 c) - (1 : Int32)));
  r_1
set_option maxHeartbeats 4000000 in
theorem cm2_isMember (l : Launch) (E : mE) (t : mt) (M : mm) (c : Nat) (x : Int32) (hL : lay t c)  : Met l yX2_isMember (ws_ yX2_isMember cX2_isMember 2 (some .boolean)) ({ frames := 1, cells := 0, slots := 0, locals := 22 }) (va_Pc [.ref c, .int x] (wP E t M)) (va_Qi (fun (r : Int32) (u : mm) => r = (C2_isMember t M c x) ∧ u = M) (fun u U => mw E t u U.heap) (eA E)) 0 0 (eA E) := by
  refine Met.ofW (cc := cX2_isMember) (maxL := 2) (ret := (some .boolean)) (by decide) rfl ?_
  intro p e s m args below meth c0 s₁ B hml hv
  obtain ⟨rfl, hs, hm⟩ := hv
  have hx := B.exec
  have hb := B.bytes
  have hr := B.returns
  have hts := atoms_spec (ws := ws_ yX2_isMember cX2_isMember 2 (some .boolean)) B.pre
  have hts : ∀ w ∈ lw_all, w.before _ s = true := fun w h => hts w (List.mem_cons_of_mem _ h)
  have hown : s.vm.findClass RX2 = some m.cls := findClass_of_methodNamed B.named
  have hlocks := B.notSynchronized
  have hS : va_S (eA E) s.heap s.heap [] := va_S.rf
  have hl := lv_entry ([.ref c, .int x]) (n := 2) (Nat.le_of_ble_eq_true rfl)
  rw [lg_entry_eq]
  generalize (lg_sl ([.ref c, .int x]) ++ List.replicate (2 - (lg_sl ([.ref c, .int x])).length) Slot.unset).toArray = ls at hl ⊢
  have hl : lv_has ls 2 [(0, .ref (c)), (1, .int (x))] := hl
  refine lv_iload_n hx hb dX2_isMember_0 rfl (lv_at hl 1 rfl) ?_
  refine lv_iconst (v := (0 : Int32)) hx hb dX2_isMember_1 (by decide) ?_
  refine lv_aload_n hx hb dX2_isMember_2 rfl (lv_at hl 0 rfl) ?_
  refine gf_211 hx hb hts hown hs hm (lay.z hL) (hts _ q245) dX2_isMember_3 ?_
  refine lv_iconst (v := (1 : Int32)) hx hb dX2_isMember_6 (by decide) ?_
  refine lv_isub hx hb dX2_isMember_7 ?_
  refine k_calli (va_runSN (As := [.int (x), .int ((0 : Int32)), .int (((gI M 211 c) - (1 : Int32)))]) (rest := []) ⟨hx, hb, hml, hown, hts⟩ (cm1_in l E (x) ((0 : Int32)) (((gI M 211 c) - (1 : Int32))) _) (⟨va_cnB 3 hts (lw_meth q701) rfl rfl rfl (hs.2.2.1 _ q837 rfl) (hts _ q58) (by decide +kernel) ⟨Nat.le_of_ble_eq_true rfl, Nat.le_of_ble_eq_true rfl⟩, hts _ q700, trivial⟩) (k_pure hs hS) rfl rfl hl.1 rfl (lv_room (Nat.le_of_ble_eq_true rfl)) dX2_isMember_8 ⟨Nat.le_of_ble_eq_true rfl, Nat.le_of_ble_eq_true rfl⟩) hS (fun r_1 u_1 H9 locs hw_1 hm_1 hS => ?_)
  replace hm_1 : _ = H9 := Eq.symm hm_1
  subst hm_1
  have hr_1 := hw_1
  subst hr_1
  exact W.zret (v := _) hx hb hr (Tz__in _ _ _) (fun t9 ht9 _ => ⟨⟨_, _, rfl, ⟨(rfl).symm, rfl⟩, hb9 ht9 hm⟩, hS.F ht9⟩) hS.2.2 dX2_isMember_11
theorem Tz_C2_isMember (t : mt) (M : mm) (c : Nat) (x : Int32) : narrow .boolean (.int (C2_isMember t M c x)) = .int (C2_isMember t M c x) := by
  unfold C2_isMember
  exact Tz__in _ _ _
def C2_isShed (t : mt) (M : mm) (c : Nat) (x : Int32) : Int32 :=
  let r_1 := C1_in (x) ((0 : Int32)) (((gI M 212 c) - (1 : Int32)));
  r_1
set_option maxHeartbeats 4000000 in
theorem cm2_isShed (l : Launch) (E : mE) (t : mt) (M : mm) (c : Nat) (x : Int32) (hL : lay t c)  : Met l yX2_isShed (ws_ yX2_isShed cX2_isShed 2 (some .boolean)) ({ frames := 1, cells := 0, slots := 0, locals := 22 }) (va_Pc [.ref c, .int x] (wP E t M)) (va_Qi (fun (r : Int32) (u : mm) => r = (C2_isShed t M c x) ∧ u = M) (fun u U => mw E t u U.heap) (eA E)) 0 0 (eA E) := by
  refine Met.ofW (cc := cX2_isShed) (maxL := 2) (ret := (some .boolean)) (by decide) rfl ?_
  intro p e s m args below meth c0 s₁ B hml hv
  obtain ⟨rfl, hs, hm⟩ := hv
  have hx := B.exec
  have hb := B.bytes
  have hr := B.returns
  have hts := atoms_spec (ws := ws_ yX2_isShed cX2_isShed 2 (some .boolean)) B.pre
  have hts : ∀ w ∈ lw_all, w.before _ s = true := fun w h => hts w (List.mem_cons_of_mem _ h)
  have hown : s.vm.findClass RX2 = some m.cls := findClass_of_methodNamed B.named
  have hlocks := B.notSynchronized
  have hS : va_S (eA E) s.heap s.heap [] := va_S.rf
  have hl := lv_entry ([.ref c, .int x]) (n := 2) (Nat.le_of_ble_eq_true rfl)
  rw [lg_entry_eq]
  generalize (lg_sl ([.ref c, .int x]) ++ List.replicate (2 - (lg_sl ([.ref c, .int x])).length) Slot.unset).toArray = ls at hl ⊢
  have hl : lv_has ls 2 [(0, .ref (c)), (1, .int (x))] := hl
  refine lv_iload_n hx hb dX2_isShed_0 rfl (lv_at hl 1 rfl) ?_
  refine lv_iconst (v := (0 : Int32)) hx hb dX2_isShed_1 (by decide) ?_
  refine lv_aload_n hx hb dX2_isShed_2 rfl (lv_at hl 0 rfl) ?_
  refine gf_212 hx hb hts hown hs hm (lay.z hL) (hts _ q247) dX2_isShed_3 ?_
  refine lv_iconst (v := (1 : Int32)) hx hb dX2_isShed_6 (by decide) ?_
  refine lv_isub hx hb dX2_isShed_7 ?_
  refine k_calli (va_runSN (As := [.int (x), .int ((0 : Int32)), .int (((gI M 212 c) - (1 : Int32)))]) (rest := []) ⟨hx, hb, hml, hown, hts⟩ (cm1_in l E (x) ((0 : Int32)) (((gI M 212 c) - (1 : Int32))) _) (⟨va_cnB 3 hts (lw_meth q701) rfl rfl rfl (hs.2.2.1 _ q837 rfl) (hts _ q58) (by decide +kernel) ⟨Nat.le_of_ble_eq_true rfl, Nat.le_of_ble_eq_true rfl⟩, hts _ q700, trivial⟩) (k_pure hs hS) rfl rfl hl.1 rfl (lv_room (Nat.le_of_ble_eq_true rfl)) dX2_isShed_8 ⟨Nat.le_of_ble_eq_true rfl, Nat.le_of_ble_eq_true rfl⟩) hS (fun r_1 u_1 H9 locs hw_1 hm_1 hS => ?_)
  replace hm_1 : _ = H9 := Eq.symm hm_1
  subst hm_1
  have hr_1 := hw_1
  subst hr_1
  exact W.zret (v := _) hx hb hr (Tz__in _ _ _) (fun t9 ht9 _ => ⟨⟨_, _, rfl, ⟨(rfl).symm, rfl⟩, hb9 ht9 hm⟩, hS.F ht9⟩) hS.2.2 dX2_isShed_11
theorem Tz_C2_isShed (t : mt) (M : mm) (c : Nat) (x : Int32) : narrow .boolean (.int (C2_isShed t M c x)) = .int (C2_isShed t M c x) := by
  unfold C2_isShed
  exact Tz__in _ _ _
