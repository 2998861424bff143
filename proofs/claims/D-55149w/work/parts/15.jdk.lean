set_option maxRecDepth 100000
/-! methods of the JDK that touch no memory -/
def T_min (x : Int32) (y : Int32) : Int32 :=
  if y < x then
    y
  else
    x
set_option maxHeartbeats 4000000 in
theorem jm_J11_min (l : Launch) (E : mE) (x : Int32) (y : Int32) (H0 : Heap) : Met l yJ11_min (ws_ yJ11_min cJ11_min 2 (some .int)) ({ frames := 0, cells := 0, slots := 0, locals := 0 }) (va_Pc [.int x, .int y] (pP E H0)) (va_Qi (fun (r : Int32) (_ : Unit) => r = T_min x y) (fun _ U => hEq H0 U.heap) (eA E)) 0 0 (eA E) := by
  refine k_ofW (cc := cJ11_min) (maxL := 2) (ret := (some .int)) (by decide +kernel) rfl ?_
  intro p e s m args below meth c s₁ B hml hv
  obtain ⟨rfl, hs, hv⟩ := hv
  subst hv
  have hm : s.heap = s.heap := rfl
  have hx := B.exec
  have hb := B.bytes
  have hr := B.returns
  have hts := atoms_spec (ws := ws_ yJ11_min cJ11_min 2 (some .int)) B.pre
  have hts : ∀ w ∈ lw_all, w.before _ s = true := fun w h => hts w (List.mem_cons_of_mem _ h)
  have hown : s.vm.findClass RJ11 = some m.cls := findClass_of_methodNamed B.named
  have hlocks := B.notSynchronized
  have hS : va_S (eA E) s.heap s.heap [] := va_S.rf
  have hl := lv_entry ([.int x, .int y]) (n := 2) (Nat.le_of_ble_eq_true rfl)
  rw [lg_entry_eq]
  generalize (lg_sl ([.int x, .int y]) ++ List.replicate (2 - (lg_sl ([.int x, .int y])).length) Slot.unset).toArray = ls at hl ⊢
  have hl : lv_has ls 2 [(0, .int (x)), (1, .int (y))] := hl
  refine lv_iload_n hx hb dJ11_min_0 rfl (lv_at hl 0 rfl) ?_
  refine lv_iload_n hx hb dJ11_min_1 rfl (lv_at hl 1 rfl) ?_
  refine lv_icmp_gt (tgt := 9) hx hb dJ11_min_2 (by decide) (fun c_1 => ?_) (fun c_1 => ?_)
  · refine lv_iload_n hx hb dJ11_min_9 rfl (lv_at hl 1 rfl) ?_
    exact W.iret (v := _) hx hb hr (fun t9 ht9 _ => ⟨⟨_, (), rfl, ((if_pos c_1).trans (rfl)).symm, ht9⟩, hS.F ht9⟩) hS.2.2 dJ11_min_10
  · refine lv_iload_n hx hb dJ11_min_5 rfl (lv_at hl 0 rfl) ?_
    refine lv_goto (tgt := 10) hx hb dJ11_min_6 (by decide) ?_
    exact W.iret (v := _) hx hb hr (fun t9 ht9 _ => ⟨⟨_, (), rfl, ((if_neg c_1).trans (rfl)).symm, ht9⟩, hS.F ht9⟩) hS.2.2 dJ11_min_10
def T_max (x : Int32) (y : Int32) : Int32 :=
  if x < y then
    y
  else
    x
set_option maxHeartbeats 4000000 in
theorem jm_J11_max (l : Launch) (E : mE) (x : Int32) (y : Int32) (H0 : Heap) : Met l yJ11_max (ws_ yJ11_max cJ11_max 2 (some .int)) ({ frames := 0, cells := 0, slots := 0, locals := 0 }) (va_Pc [.int x, .int y] (pP E H0)) (va_Qi (fun (r : Int32) (_ : Unit) => r = T_max x y) (fun _ U => hEq H0 U.heap) (eA E)) 0 0 (eA E) := by
  refine k_ofW (cc := cJ11_max) (maxL := 2) (ret := (some .int)) (by decide +kernel) rfl ?_
  intro p e s m args below meth c s₁ B hml hv
  obtain ⟨rfl, hs, hv⟩ := hv
  subst hv
  have hm : s.heap = s.heap := rfl
  have hx := B.exec
  have hb := B.bytes
  have hr := B.returns
  have hts := atoms_spec (ws := ws_ yJ11_max cJ11_max 2 (some .int)) B.pre
  have hts : ∀ w ∈ lw_all, w.before _ s = true := fun w h => hts w (List.mem_cons_of_mem _ h)
  have hown : s.vm.findClass RJ11 = some m.cls := findClass_of_methodNamed B.named
  have hlocks := B.notSynchronized
  have hS : va_S (eA E) s.heap s.heap [] := va_S.rf
  have hl := lv_entry ([.int x, .int y]) (n := 2) (Nat.le_of_ble_eq_true rfl)
  rw [lg_entry_eq]
  generalize (lg_sl ([.int x, .int y]) ++ List.replicate (2 - (lg_sl ([.int x, .int y])).length) Slot.unset).toArray = ls at hl ⊢
  have hl : lv_has ls 2 [(0, .int (x)), (1, .int (y))] := hl
  refine lv_iload_n hx hb dJ11_max_0 rfl (lv_at hl 0 rfl) ?_
  refine lv_iload_n hx hb dJ11_max_1 rfl (lv_at hl 1 rfl) ?_
  refine lv_icmp_lt (tgt := 9) hx hb dJ11_max_2 (by decide) (fun c_1 => ?_) (fun c_1 => ?_)
  · refine lv_iload_n hx hb dJ11_max_9 rfl (lv_at hl 1 rfl) ?_
    exact W.iret (v := _) hx hb hr (fun t9 ht9 _ => ⟨⟨_, (), rfl, ((if_pos c_1).trans (rfl)).symm, ht9⟩, hS.F ht9⟩) hS.2.2 dJ11_max_10
  · refine lv_iload_n hx hb dJ11_max_5 rfl (lv_at hl 0 rfl) ?_
    refine lv_goto (tgt := 10) hx hb dJ11_max_6 (by decide) ?_
    exact W.iret (v := _) hx hb hr (fun t9 ht9 _ => ⟨⟨_, (), rfl, ((if_neg c_1).trans (rfl)).symm, ht9⟩, hS.F ht9⟩) hS.2.2 dJ11_max_10
def T_fnan (x : UInt32) : Int32 :=
  if (Op.cmpValue (FP.fcmp x x) .l) = 0 then
    (0 : Int32)
  else
    (1 : Int32)
set_option maxHeartbeats 4000000 in
theorem jm_J16_isNaN (l : Launch) (E : mE) (x : UInt32) (H0 : Heap) : Met l yJ16_isNaN (ws_ yJ16_isNaN cJ16_isNaN 1 (some .boolean)) ({ frames := 0, cells := 0, slots := 0, locals := 0 }) (va_Pc [.float x] (pP E H0)) (va_Qi (fun (r : Int32) (_ : Unit) => r = T_fnan x) (fun _ U => hEq H0 U.heap) (eA E)) 0 0 (eA E) := by
  refine k_ofW (cc := cJ16_isNaN) (maxL := 1) (ret := (some .boolean)) (by decide +kernel) rfl ?_
  intro p e s m args below meth c s₁ B hml hv
  obtain ⟨rfl, hs, hv⟩ := hv
  subst hv
  have hm : s.heap = s.heap := rfl
  have hx := B.exec
  have hb := B.bytes
  have hr := B.returns
  have hts := atoms_spec (ws := ws_ yJ16_isNaN cJ16_isNaN 1 (some .boolean)) B.pre
  have hts : ∀ w ∈ lw_all, w.before _ s = true := fun w h => hts w (List.mem_cons_of_mem _ h)
  have hown : s.vm.findClass RJ16 = some m.cls := findClass_of_methodNamed B.named
  have hlocks := B.notSynchronized
  have hS : va_S (eA E) s.heap s.heap [] := va_S.rf
  have hl := lv_entry ([.float x]) (n := 1) (Nat.le_of_ble_eq_true rfl)
  rw [lg_entry_eq]
  generalize (lg_sl ([.float x]) ++ List.replicate (1 - (lg_sl ([.float x])).length) Slot.unset).toArray = ls at hl ⊢
  have hl : lv_has ls 1 [(0, .float (x))] := hl
  refine lv_fload_n hx hb dJ16_isNaN_0 rfl (lv_at hl 0 rfl) ?_
  refine lv_fload_n hx hb dJ16_isNaN_1 rfl (lv_at hl 0 rfl) ?_
  refine lv_fcmp hx hb dJ16_isNaN_2 ?_
  refine lv_if_eq (tgt := 10) hx hb dJ16_isNaN_3 (by decide) (fun c_1 => ?_) (fun c_1 => ?_)
  · refine lv_iconst (v := (0 : Int32)) hx hb dJ16_isNaN_10 (by decide) ?_
    exact W.zret (v := _) hx hb hr rfl (fun t9 ht9 _ => ⟨⟨_, (), rfl, ((if_pos c_1).trans (rfl)).symm, ht9⟩, hS.F ht9⟩) hS.2.2 dJ16_isNaN_11
  · refine lv_iconst (v := (1 : Int32)) hx hb dJ16_isNaN_6 (by decide) ?_
    refine lv_goto (tgt := 11) hx hb dJ16_isNaN_7 (by decide) ?_
    exact W.zret (v := _) hx hb hr rfl (fun t9 ht9 _ => ⟨⟨_, (), rfl, ((if_neg c_1).trans (rfl)).symm, ht9⟩, hS.F ht9⟩) hS.2.2 dJ16_isNaN_11
theorem Tz_fnan (x : UInt32) : narrow .boolean (.int (T_fnan x)) = .int (T_fnan x) := by
  unfold T_fnan
  (repeat' split) <;> rfl
def T_fbits (x : UInt32) : Int32 :=
  let r_1 := T_fnan (x)
  if r_1 = 0 then
    (x).toInt32
  else
    (2143289344 : Int32)
set_option maxHeartbeats 4000000 in
theorem jm_J16_floatToIntBits (l : Launch) (E : mE) (x : UInt32) (H0 : Heap) : Met l yJ16_floatToIntBits (ws_ yJ16_floatToIntBits cJ16_floatToIntBits 1 (some .int)) ({ frames := 1, cells := 0, slots := 0, locals := 40 }) (va_Pc [.float x] (pP E H0)) (va_Qi (fun (r : Int32) (_ : Unit) => r = T_fbits x) (fun _ U => hEq H0 U.heap) (eA E)) 0 0 (eA E) := by
  refine k_ofW (cc := cJ16_floatToIntBits) (maxL := 1) (ret := (some .int)) (by decide +kernel) rfl ?_
  intro p e s m args below meth c s₁ B hml hv
  obtain ⟨rfl, hs, hv⟩ := hv
  subst hv
  have hm : s.heap = s.heap := rfl
  have hx := B.exec
  have hb := B.bytes
  have hr := B.returns
  have hts := atoms_spec (ws := ws_ yJ16_floatToIntBits cJ16_floatToIntBits 1 (some .int)) B.pre
  have hts : ∀ w ∈ lw_all, w.before _ s = true := fun w h => hts w (List.mem_cons_of_mem _ h)
  have hown : s.vm.findClass RJ16 = some m.cls := findClass_of_methodNamed B.named
  have hlocks := B.notSynchronized
  have hS : va_S (eA E) s.heap s.heap [] := va_S.rf
  have hl := lv_entry ([.float x]) (n := 1) (Nat.le_of_ble_eq_true rfl)
  rw [lg_entry_eq]
  generalize (lg_sl ([.float x]) ++ List.replicate (1 - (lg_sl ([.float x])).length) Slot.unset).toArray = ls at hl ⊢
  have hl : lv_has ls 1 [(0, .float (x))] := hl
  refine lv_fload_n hx hb dJ16_floatToIntBits_0 rfl (lv_at hl 0 rfl) ?_
  refine k_calli (va_runS (As := [.float (x)]) (rest := []) ⟨hx, hb, hml, hown, hts⟩ (jm_J16_isNaN l E (x) _) (va_cwS 1 hts (lw_S q933 q934 q87 q935) rfl rfl rfl (by decide +kernel) ⟨Nat.le_of_ble_eq_true rfl, Nat.le_of_ble_eq_true rfl⟩) (k_pure hs hS) rfl rfl hl.1 rfl (lv_room (Nat.le_of_ble_eq_true rfl)) dJ16_floatToIntBits_1 ⟨Nat.le_of_ble_eq_true rfl, Nat.le_of_ble_eq_true rfl⟩) hS (fun r_1 u_1 H9 locs hw_1 hm_1 hS => ?_)
  obtain rfl : H9 = _ := hm_1
  have hr_1 := hw_1
  refine lv_if_ne (tgt := 12) hx hb dJ16_floatToIntBits_4 (by decide) (fun c_2 => ?_) (fun c_2 => ?_)
  · refine lv_ldc (v := 2143289344) hx hb hown (hts _ q937) dJ16_floatToIntBits_12 ?_
    subst hr_1
    exact W.iret (v := _) hx hb hr (fun t9 ht9 _ => ⟨⟨_, (), rfl, ((if_neg c_2).trans (rfl)).symm, ht9⟩, hS.F ht9⟩) hS.2.2 dJ16_floatToIntBits_14
  · refine lv_fload_n hx hb dJ16_floatToIntBits_7 rfl (lv_at hl 0 rfl) ?_
    refine vn_f2i hx hb (hml.trans hl.1.symm) hown (hts _ q936) (hts _ q922) (hts _ q921) (hts _ q87) (Nat.le_of_ble_eq_true rfl) (Nat.le_of_ble_eq_true rfl) dJ16_floatToIntBits_8 ?_
    subst hr_1
    exact W.iret (v := _) hx hb hr (fun t9 ht9 _ => ⟨⟨_, (), rfl, ((if_pos c_2).trans (rfl)).symm, ht9⟩, hS.F ht9⟩) hS.2.2 dJ16_floatToIntBits_11
def T_dnan (x : UInt64) : Int32 :=
  if (Op.cmpValue (FP.dcmp x x) .l) = 0 then
    (0 : Int32)
  else
    (1 : Int32)
set_option maxHeartbeats 4000000 in
theorem jm_J24_isNaN (l : Launch) (E : mE) (x : UInt64) (H0 : Heap) : Met l yJ24_isNaN (ws_ yJ24_isNaN cJ24_isNaN 2 (some .boolean)) ({ frames := 0, cells := 0, slots := 0, locals := 0 }) (va_Pc [.double x] (pP E H0)) (va_Qi (fun (r : Int32) (_ : Unit) => r = T_dnan x) (fun _ U => hEq H0 U.heap) (eA E)) 0 0 (eA E) := by
  refine Met.ofW (cc := cJ24_isNaN) (maxL := 2) (ret := (some .boolean)) (by decide) rfl ?_
  intro p e s m args below meth c s₁ B hml hv
  obtain ⟨rfl, hs, hv⟩ := hv
  subst hv
  have hm : s.heap = s.heap := rfl
  have hx := B.exec
  have hb := B.bytes
  have hr := B.returns
  have hts := atoms_spec (ws := ws_ yJ24_isNaN cJ24_isNaN 2 (some .boolean)) B.pre
  have hts : ∀ w ∈ lw_all, w.before _ s = true := fun w h => hts w (List.mem_cons_of_mem _ h)
  have hown : s.vm.findClass RJ24 = some m.cls := findClass_of_methodNamed B.named
  have hlocks := B.notSynchronized
  have hS : va_S (eA E) s.heap s.heap [] := va_S.rf
  have hl := lv_entry ([.double x]) (n := 2) (Nat.le_of_ble_eq_true rfl)
  rw [lg_entry_eq]
  generalize (lg_sl ([.double x]) ++ List.replicate (2 - (lg_sl ([.double x])).length) Slot.unset).toArray = ls at hl ⊢
  have hl : lv_has ls 2 [(0, .double (x))] := hl
  refine lv_dload_n hx hb dJ24_isNaN_0 rfl (lv_at hl 0 rfl) ?_
  refine lv_dload_n hx hb dJ24_isNaN_1 rfl (lv_at hl 0 rfl) ?_
  refine lv_dcmp hx hb dJ24_isNaN_2 ?_
  refine lv_if_eq (tgt := 10) hx hb dJ24_isNaN_3 (by decide) (fun c_1 => ?_) (fun c_1 => ?_)
  · refine lv_iconst (v := (0 : Int32)) hx hb dJ24_isNaN_10 (by decide) ?_
    exact W.zret (v := _) hx hb hr rfl (fun t9 ht9 _ => ⟨⟨_, (), rfl, ((if_pos c_1).trans (rfl)).symm, ht9⟩, hS.F ht9⟩) hS.2.2 dJ24_isNaN_11
  · refine lv_iconst (v := (1 : Int32)) hx hb dJ24_isNaN_6 (by decide) ?_
    refine lv_goto (tgt := 11) hx hb dJ24_isNaN_7 (by decide) ?_
    exact W.zret (v := _) hx hb hr rfl (fun t9 ht9 _ => ⟨⟨_, (), rfl, ((if_neg c_1).trans (rfl)).symm, ht9⟩, hS.F ht9⟩) hS.2.2 dJ24_isNaN_11
theorem Tz_dnan (x : UInt64) : narrow .boolean (.int (T_dnan x)) = .int (T_dnan x) := by
  unfold T_dnan
  (repeat' split) <;> rfl
def T_dbits (x : UInt64) : Int64 :=
  let r_1 := T_dnan (x)
  if r_1 = 0 then
    (x).toInt64
  else
    (9221120237041090560 : Int64)
set_option maxHeartbeats 4000000 in
theorem jm_J24_doubleToLongBits (l : Launch) (E : mE) (x : UInt64) (H0 : Heap) : Met l yJ24_doubleToLongBits (ws_ yJ24_doubleToLongBits cJ24_doubleToLongBits 2 (some .long)) ({ frames := 1, cells := 0, slots := 0, locals := 40 }) (va_Pc [.double x] (pP E H0)) (va_Ql (fun (r : Int64) (_ : Unit) => r = T_dbits x) (fun _ U => hEq H0 U.heap) (eA E)) 0 0 (eA E) := by
  refine Met.ofW (cc := cJ24_doubleToLongBits) (maxL := 2) (ret := (some .long)) (by decide) rfl ?_
  intro p e s m args below meth c s₁ B hml hv
  obtain ⟨rfl, hs, hv⟩ := hv
  subst hv
  have hm : s.heap = s.heap := rfl
  have hx := B.exec
  have hb := B.bytes
  have hr := B.returns
  have hts := atoms_spec (ws := ws_ yJ24_doubleToLongBits cJ24_doubleToLongBits 2 (some .long)) B.pre
  have hts : ∀ w ∈ lw_all, w.before _ s = true := fun w h => hts w (List.mem_cons_of_mem _ h)
  have hown : s.vm.findClass RJ24 = some m.cls := findClass_of_methodNamed B.named
  have hlocks := B.notSynchronized
  have hS : va_S (eA E) s.heap s.heap [] := va_S.rf
  have hl := lv_entry ([.double x]) (n := 2) (Nat.le_of_ble_eq_true rfl)
  rw [lg_entry_eq]
  generalize (lg_sl ([.double x]) ++ List.replicate (2 - (lg_sl ([.double x])).length) Slot.unset).toArray = ls at hl ⊢
  have hl : lv_has ls 2 [(0, .double (x))] := hl
  refine lv_dload_n hx hb dJ24_doubleToLongBits_0 rfl (lv_at hl 0 rfl) ?_
  refine k_calli (va_runS (As := [.double (x)]) (rest := []) ⟨hx, hb, hml, hown, hts⟩ (jm_J24_isNaN l E (x) _) (va_cwS 1 hts (lw_S q671 q672 q96 q673) rfl rfl rfl (by decide +kernel) ⟨Nat.le_of_ble_eq_true rfl, Nat.le_of_ble_eq_true rfl⟩) (k_pure hs hS) rfl rfl hl.1 rfl (lv_room (Nat.le_of_ble_eq_true rfl)) dJ24_doubleToLongBits_1 ⟨Nat.le_of_ble_eq_true rfl, Nat.le_of_ble_eq_true rfl⟩) hS (fun r_1 u_1 H9 locs hw_1 hm_1 hS => ?_)
  obtain rfl : H9 = _ := hm_1
  have hr_1 := hw_1
  refine lv_if_ne (tgt := 12) hx hb dJ24_doubleToLongBits_4 (by decide) (fun c_2 => ?_) (fun c_2 => ?_)
  · refine lv_ldc2 (v := 9221120237041090560) hx hb hown (hts _ q677) dJ24_doubleToLongBits_12 ?_
    subst hr_1
    exact W.lret (v := _) hx hb hr (fun t9 ht9 _ => ⟨⟨_, (), rfl, ((if_neg c_2).trans (rfl)).symm, ht9⟩, hS.F ht9⟩) hS.2.2 dJ24_doubleToLongBits_15
  · refine lv_dload_n hx hb dJ24_doubleToLongBits_7 rfl (lv_at hl 0 rfl) ?_
    refine vn_d2l hx hb (hml.trans hl.1.symm) hown (hts _ q674) (hts _ q676) (hts _ q675) (hts _ q96) (Nat.le_of_ble_eq_true rfl) (Nat.le_of_ble_eq_true rfl) dJ24_doubleToLongBits_8 ?_
    subst hr_1
    exact W.lret (v := _) hx hb hr (fun t9 ht9 _ => ⟨⟨_, (), rfl, ((if_pos c_2).trans (rfl)).symm, ht9⟩, hS.F ht9⟩) hS.2.2 dJ24_doubleToLongBits_11
def T_inc (x : Int32) (n : Int32) : Int32 :=
  if (x + (1 : Int32)) < n then
    (x + (1 : Int32))
  else
    (0 : Int32)
set_option maxHeartbeats 4000000 in
theorem jm_J1_inc (l : Launch) (E : mE) (x : Int32) (n : Int32) (H0 : Heap) : Met l yJ1_inc (ws_ yJ1_inc cJ1_inc 2 (some .int)) ({ frames := 0, cells := 0, slots := 0, locals := 0 }) (va_Pc [.int x, .int n] (pP E H0)) (va_Qi (fun (r : Int32) (_ : Unit) => r = T_inc x n) (fun _ U => hEq H0 U.heap) (eA E)) 0 0 (eA E) := by
  refine Met.ofW (cc := cJ1_inc) (maxL := 2) (ret := (some .int)) (by decide) rfl ?_
  intro p e s m args below meth c s₁ B hml hv
  obtain ⟨rfl, hs, hv⟩ := hv
  subst hv
  have hm : s.heap = s.heap := rfl
  have hx := B.exec
  have hb := B.bytes
  have hr := B.returns
  have hts := atoms_spec (ws := ws_ yJ1_inc cJ1_inc 2 (some .int)) B.pre
  have hts : ∀ w ∈ lw_all, w.before _ s = true := fun w h => hts w (List.mem_cons_of_mem _ h)
  have hown : s.vm.findClass RJ1 = some m.cls := findClass_of_methodNamed B.named
  have hlocks := B.notSynchronized
  have hS : va_S (eA E) s.heap s.heap [] := va_S.rf
  have hl := lv_entry ([.int x, .int n]) (n := 2) (Nat.le_of_ble_eq_true rfl)
  rw [lg_entry_eq]
  generalize (lg_sl ([.int x, .int n]) ++ List.replicate (2 - (lg_sl ([.int x, .int n])).length) Slot.unset).toArray = ls at hl ⊢
  have hl : lv_has ls 2 [(0, .int (x)), (1, .int (n))] := hl
  refine lv_iinc (v := (x + (1 : Int32))) (lv' := [(0, _), (1, _)]) hx hb dJ1_inc_0 hl (k := 0) rfl rfl (by decide) rfl (fun ls hl => ?_)
  refine lv_iload_n hx hb dJ1_inc_3 rfl (lv_at hl 0 rfl) ?_
  refine lv_iload_n hx hb dJ1_inc_4 rfl (lv_at hl 1 rfl) ?_
  refine lv_icmp_lt (tgt := 10) hx hb dJ1_inc_5 (by decide) (fun c_1 => ?_) (fun c_1 => ?_)
  · refine lv_iload_n hx hb dJ1_inc_10 rfl (lv_at hl 0 rfl) ?_
    exact W.iret (v := _) hx hb hr (fun t9 ht9 _ => ⟨⟨_, (), rfl, ((if_pos c_1).trans (rfl)).symm, ht9⟩, hS.F ht9⟩) hS.2.2 dJ1_inc_11
  · refine lv_iconst (v := (0 : Int32)) hx hb dJ1_inc_8 (by decide) ?_
    refine lv_istore_n (lv' := [(0, _), (1, _)]) hx hb dJ1_inc_9 rfl hl (by decide) rfl (fun ls hl => ?_)
    refine lv_iload_n hx hb dJ1_inc_10 rfl (lv_at hl 0 rfl) ?_
    exact W.iret (v := _) hx hb hr (fun t9 ht9 _ => ⟨⟨_, (), rfl, ((if_neg c_1).trans (rfl)).symm, ht9⟩, hS.F ht9⟩) hS.2.2 dJ1_inc_11
def T_dec (x : Int32) (n : Int32) : Int32 :=
  if 0 ≤ (x + (-1 : Int32)) then
    (x + (-1 : Int32))
  else
    (n - (1 : Int32))
set_option maxHeartbeats 4000000 in
theorem jm_J1_dec (l : Launch) (E : mE) (x : Int32) (n : Int32) (H0 : Heap) : Met l yJ1_dec (ws_ yJ1_dec cJ1_dec 2 (some .int)) ({ frames := 0, cells := 0, slots := 0, locals := 0 }) (va_Pc [.int x, .int n] (pP E H0)) (va_Qi (fun (r : Int32) (_ : Unit) => r = T_dec x n) (fun _ U => hEq H0 U.heap) (eA E)) 0 0 (eA E) := by
  refine Met.ofW (cc := cJ1_dec) (maxL := 2) (ret := (some .int)) (by decide) rfl ?_
  intro p e s m args below meth c s₁ B hml hv
  obtain ⟨rfl, hs, hv⟩ := hv
  subst hv
  have hm : s.heap = s.heap := rfl
  have hx := B.exec
  have hb := B.bytes
  have hr := B.returns
  have hts := atoms_spec (ws := ws_ yJ1_dec cJ1_dec 2 (some .int)) B.pre
  have hts : ∀ w ∈ lw_all, w.before _ s = true := fun w h => hts w (List.mem_cons_of_mem _ h)
  have hown : s.vm.findClass RJ1 = some m.cls := findClass_of_methodNamed B.named
  have hlocks := B.notSynchronized
  have hS : va_S (eA E) s.heap s.heap [] := va_S.rf
  have hl := lv_entry ([.int x, .int n]) (n := 2) (Nat.le_of_ble_eq_true rfl)
  rw [lg_entry_eq]
  generalize (lg_sl ([.int x, .int n]) ++ List.replicate (2 - (lg_sl ([.int x, .int n])).length) Slot.unset).toArray = ls at hl ⊢
  have hl : lv_has ls 2 [(0, .int (x)), (1, .int (n))] := hl
  refine lv_iinc (v := (x + (-1 : Int32))) (lv' := [(0, _), (1, _)]) hx hb dJ1_dec_0 hl (k := 0) rfl rfl (by decide) rfl (fun ls hl => ?_)
  refine lv_iload_n hx hb dJ1_dec_3 rfl (lv_at hl 0 rfl) ?_
  refine lv_if_ge (tgt := 11) hx hb dJ1_dec_4 (by decide) (fun c_1 => ?_) (fun c_1 => ?_)
  · refine lv_iload_n hx hb dJ1_dec_11 rfl (lv_at hl 0 rfl) ?_
    exact W.iret (v := _) hx hb hr (fun t9 ht9 _ => ⟨⟨_, (), rfl, ((if_pos c_1).trans (rfl)).symm, ht9⟩, hS.F ht9⟩) hS.2.2 dJ1_dec_12
  · refine lv_iload_n hx hb dJ1_dec_7 rfl (lv_at hl 1 rfl) ?_
    refine lv_iconst (v := (1 : Int32)) hx hb dJ1_dec_8 (by decide) ?_
    refine lv_isub hx hb dJ1_dec_9 ?_
    refine lv_istore_n (lv' := [(0, _), (1, _)]) hx hb dJ1_dec_10 rfl hl (by decide) rfl (fun ls hl => ?_)
    refine lv_iload_n hx hb dJ1_dec_11 rfl (lv_at hl 0 rfl) ?_
    exact W.iret (v := _) hx hb hr (fun t9 ht9 _ => ⟨⟨_, (), rfl, ((if_neg c_1).trans (rfl)).symm, ht9⟩, hS.F ht9⟩) hS.2.2 dJ1_dec_12
def T_sub (x : Int32) (y : Int32) (n : Int32) : Int32 :=
  if 0 ≤ (x - y) then
    (x - y)
  else
    ((x - y) + n)
set_option maxHeartbeats 4000000 in
theorem jm_J1_sub (l : Launch) (E : mE) (x : Int32) (y : Int32) (n : Int32) (H0 : Heap) : Met l yJ1_sub (ws_ yJ1_sub cJ1_sub 3 (some .int)) ({ frames := 0, cells := 0, slots := 0, locals := 0 }) (va_Pc [.int x, .int y, .int n] (pP E H0)) (va_Qi (fun (r : Int32) (_ : Unit) => r = T_sub x y n) (fun _ U => hEq H0 U.heap) (eA E)) 0 0 (eA E) := by
  refine Met.ofW (cc := cJ1_sub) (maxL := 3) (ret := (some .int)) (by decide) rfl ?_
  intro p e s m args below meth c s₁ B hml hv
  obtain ⟨rfl, hs, hv⟩ := hv
  subst hv
  have hm : s.heap = s.heap := rfl
  have hx := B.exec
  have hb := B.bytes
  have hr := B.returns
  have hts := atoms_spec (ws := ws_ yJ1_sub cJ1_sub 3 (some .int)) B.pre
  have hts : ∀ w ∈ lw_all, w.before _ s = true := fun w h => hts w (List.mem_cons_of_mem _ h)
  have hown : s.vm.findClass RJ1 = some m.cls := findClass_of_methodNamed B.named
  have hlocks := B.notSynchronized
  have hS : va_S (eA E) s.heap s.heap [] := va_S.rf
  have hl := lv_entry ([.int x, .int y, .int n]) (n := 3) (Nat.le_of_ble_eq_true rfl)
  rw [lg_entry_eq]
  generalize (lg_sl ([.int x, .int y, .int n]) ++ List.replicate (3 - (lg_sl ([.int x, .int y, .int n])).length) Slot.unset).toArray = ls at hl ⊢
  have hl : lv_has ls 3 [(0, .int (x)), (1, .int (y)), (2, .int (n))] := hl
  refine lv_iload_n hx hb dJ1_sub_0 rfl (lv_at hl 0 rfl) ?_
  refine lv_iload_n hx hb dJ1_sub_1 rfl (lv_at hl 1 rfl) ?_
  refine lv_isub hx hb dJ1_sub_2 ?_
  refine lv_dup hx hb dJ1_sub_3 rfl ?_
  refine lv_istore_n (lv' := [(0, _), (1, _), (2, _)]) hx hb dJ1_sub_4 rfl hl (by decide) rfl (fun ls hl => ?_)
  refine lv_if_ge (tgt := 12) hx hb dJ1_sub_5 (by decide) (fun c_1 => ?_) (fun c_1 => ?_)
  · refine lv_iload_n hx hb dJ1_sub_12 rfl (lv_at hl 0 rfl) ?_
    exact W.iret (v := _) hx hb hr (fun t9 ht9 _ => ⟨⟨_, (), rfl, ((if_pos c_1).trans (rfl)).symm, ht9⟩, hS.F ht9⟩) hS.2.2 dJ1_sub_13
  · refine lv_iload_n hx hb dJ1_sub_8 rfl (lv_at hl 0 rfl) ?_
    refine lv_iload_n hx hb dJ1_sub_9 rfl (lv_at hl 2 rfl) ?_
    refine lv_iadd hx hb dJ1_sub_10 ?_
    refine lv_istore_n (lv' := [(0, _), (1, _), (2, _)]) hx hb dJ1_sub_11 rfl hl (by decide) rfl (fun ls hl => ?_)
    refine lv_iload_n hx hb dJ1_sub_12 rfl (lv_at hl 0 rfl) ?_
    exact W.iret (v := _) hx hb hr (fun t9 ht9 _ => ⟨⟨_, (), rfl, ((if_neg c_1).trans (rfl)).symm, ht9⟩, hS.F ht9⟩) hS.2.2 dJ1_sub_13
