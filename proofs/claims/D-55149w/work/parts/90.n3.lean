set_option maxRecDepth 100000
/-! the constructors of ArrayDeque, StringBuilder, Reader -/
theorem ct48 {E : mE} {t : mt} {M : mm} {a n : Nat} (h : t a = (48, n)) : ct E t M a = .inr (7, [va_rf (gR M 800 a), .int (gI M 801 a), .int (gI M 802 a), va_rf (gR M 803 a), va_rf (gR M 804 a), va_rf (gR M 805 a)]) := ct_k h
theorem ct50 {E : mE} {t : mt} {M : mm} {a n : Nat} (h : t a = (50, n)) : ct E t M a = .inr (9, [va_rf (gR M 1000 a), .int (gI M 1001 a), .int (gI M 1002 a)]) := ct_k h
theorem ct51 {E : mE} {t : mt} {M : mm} {a n : Nat} (h : t a = (51, n)) : ct E t M a = .inr (10, [va_rf (gR M 1100 a), .int (gI M 1101 a), .int (gI M 1102 a), .int (gI M 1103 a)]) := ct_k h
theorem ct_sIa {E : mE} {t : mt} {M : mm} {f a b : Nat} {v : Int32} {e : va_E} (h : ct E t (sI M f a v) a = e) : ct E t (sI M f a v) b = va_up (ct E t M) a e b := by
  by_cases hba : b = a
  · subst hba; rw [va_up_self, h]
  · rw [va_up_ne _ _ hba, ct_sI hba]
/-- a cell is seen as of another kind -/
theorem mw.rek {E : mE} {t : mt} {M M' : mm} {H : Heap} {c : Nat} {x : Nat × Nat} (hm : mw E t M H) (hne : (t c).1 ≠ 0) (he : ct E (m1 t c x) M' c = ct E t M c) (hM : ∀ b, b ≠ c → ct E t M' b = ct E t M b) : mw E (m1 t c x) M' H := by
  refine hm.conv (fun b hb => ?_) (fun b hb hat => ?_)
  · by_cases e : b = c
    · rw [e]; exact hne
    · rw [m1_ne _ _ e] at hb; exact hb
  · by_cases e : b = c
    · rw [e] at hat ⊢; rw [he]; exact hat
    · have : ct E (m1 t c x) M' b = ct E t M b := by
        rw [← hM b e]
        unfold ct
        rw [m1_ne _ _ e]
      rw [this]; exact hat
theorem far.sN {a n f b v : Nat} {M N : mm} (h : far a n M N) (ha : a ≤ b ∧ b < a + n) : far a n M (sN N f b v) := fun z hz =>
  have hne : z ≠ b := by omega
  ⟨(h z hz).1, (h z hz).2.1, fun g => (m2_ne N.2.2.1 v hne).trans ((h z hz).2.2.1 g), (h z hz).2.2.2.1, (h z hz).2.2.2.2.1, (h z hz).2.2.2.2.2⟩
def newQ (t : mt) (M : mm) (c : Nat) (S : mt × mm) : Prop := S.1 = m1 (m1 t (c + 1) (30, 17)) c (10, 0) ∧ far c 2 M S.2 ∧ gI S.2 1001 c = gI M 1001 c ∧ gI S.2 1002 c = gI M 1002 c ∧ aR S.2 (c + 1) = (fun _ => none)
def newS (t : mt) (M : mm) (c : Nat) (S : mt × mm) : Prop := S.1 = m1 (m1 t (c + 1) (23, 16)) c (11, 0) ∧ far c 2 M S.2 ∧ gN S.2 1100 c = c + 1 ∧ gI S.2 1101 c = 0 ∧ gI S.2 1103 c = gI M 1103 c ∧ aI S.2 (c + 1) = (fun _ => 0)
def newR (t : mt) (M : mm) (c : Nat) (S : mt × mm) : Prop := S.1 = m1 (m1 (m1 (m1 t (c + 1) (22, 60)) (c + 2) (20, 60)) (c + 3) (20, 60)) c (8, 0) ∧ far c 4 M S.2 ∧ gI S.2 801 c = gI M 801 c ∧ gI S.2 802 c = gI M 802 c
set_option maxHeartbeats 4000000 in
theorem cmJ0_init (l : Launch) (E : mE) (t : mt) (M : mm) (c : Nat) : Met l yJ0_init (ws_ yJ0_init cJ0_init 1 none) ({ frames := 1, cells := 0, slots := 0, locals := 24 }) (va_Pc [.ref c] (wP E t M)) (va_Qv (fun (u : mm) => u = M) (fun u U => mw E t u U.heap) (eA E)) 0 0 (eA E) := by
  refine Met.ofW (cc := cJ0_init) (maxL := 1) (ret := none) (by decide) rfl ?_
  intro p e s m args below meth c0 s₁ B hml hv
  obtain ⟨rfl, hs, hm⟩ := hv
  have hx := B.exec
  have hb := B.bytes
  have hr := B.returns
  have hts := atoms_spec (ws := ws_ yJ0_init cJ0_init 1 none) B.pre
  have hts : ∀ w ∈ lw_all, w.before _ s = true := fun w h => hts w (List.mem_cons_of_mem _ h)
  have hown : s.vm.findClass RJ0 = some m.cls := findClass_of_methodNamed B.named
  have hlocks := B.notSynchronized
  have hS : va_S (eA E) s.heap s.heap [] := va_S.rf
  have hl := lv_entry ([.ref c]) (n := 1) (Nat.le_of_ble_eq_true rfl)
  rw [lg_entry_eq]
  generalize (lg_sl ([.ref c]) ++ List.replicate (1 - (lg_sl ([.ref c])).length) Slot.unset).toArray = ls at hl ⊢
  have hl : lv_has ls 1 [(0, .ref (c))] := hl
  refine lv_aload_n hx hb dJ0_init_0 rfl (lv_at hl 0 rfl) ?_
  refine W.objInit hx hb hown (hts _ q314) (hts _ q103) (hts _ q104) rfl (by rw [hml]; exact hl.1) rfl dJ0_init_1 (Nat.le_of_ble_eq_true rfl) (Nat.le_of_ble_eq_true rfl) ?_
  show W _ _ _ _ _ _ _ _ _ _ _ _ _ _ _ (F0 m 4 _ _)
  exact W.vret hx hb hr (fun t9 ht9 _ => ⟨⟨_, rfl, rfl, hb9 ht9 hm⟩, hS.F ht9⟩) hS.2.2 dJ0_init_4
set_option maxHeartbeats 4000000 in
theorem cmJ1_init (l : Launch) (E : mE) (t : mt) (M : mm) (c : Nat) (hc : t c = (50, 0)) : Met l yJ1_init (ws_ yJ1_init cJ1_init 1 none) ({ frames := 2, cells := 1, slots := 17, locals := 44 }) (va_Pc [.ref c] (zP E t M (c + 1))) (va_Qv (fun (S : mt × mm) => newQ t M c S) (fun S U => mw E S.1 S.2 U.heap) (eA E)) 1 17 (eA E) := by
  refine Met.ofW (cc := cJ1_init) (maxL := 1) (ret := none) (by decide) rfl ?_
  intro p e s m args below meth c0 s₁ B hml hv
  obtain ⟨rfl, ⟨hs, hm⟩, hz0⟩ := hv
  have hx := B.exec
  have hb := B.bytes
  have hr := B.returns
  have hts := atoms_spec (ws := ws_ yJ1_init cJ1_init 1 none) B.pre
  have hts : ∀ w ∈ lw_all, w.before _ s = true := fun w h => hts w (List.mem_cons_of_mem _ h)
  have hown : s.vm.findClass RJ1 = some m.cls := findClass_of_methodNamed B.named
  have hlocks := B.notSynchronized
  have hS : va_S (eA E) s.heap s.heap [] := va_S.rf
  have hl := lv_entry ([.ref c]) (n := 1) (Nat.le_of_ble_eq_true rfl)
  rw [lg_entry_eq]
  generalize (lg_sl ([.ref c]) ++ List.replicate (1 - (lg_sl ([.ref c])).length) Slot.unset).toArray = ls at hl ⊢
  have hl : lv_has ls 1 [(0, .ref (c))] := hl
  have hin2 : meth.name = "<init>" := (name_of_methodNamed B.named B.method).1
  refine lv_aload_n hx hb dJ1_init_0 rfl (lv_at hl 0 rfl) ?_
  refine k_callv (va_runI (As := []) (rest := []) ⟨hx, hb, hml, hown, hts⟩ (cmJ0_init l E t M c) (cwI 0 hts (lw_meth q313) rfl rfl rfl (hts _ q66) (hts _ q311) (hts _ q312) rfl (by decide +kernel) ⟨Nat.le_of_ble_eq_true rfl, Nat.le_of_ble_eq_true rfl⟩) (k_preS hs hm hS) rfl rfl hl.1 rfl (lv_room (Nat.le_of_ble_eq_true rfl)) dJ1_init_1 ⟨Nat.le_of_ble_eq_true rfl, Nat.le_of_ble_eq_true rfl⟩) hS (fun u_1 H locs hu_1 hm hS => ?_)
  rw [hu_1] at hm
  refine lv_aload_n hx hb dJ1_init_4 rfl (lv_at hl 0 rfl) ?_
  refine lv_bipush (v := (17 : Int32)) hx hb dJ1_init_5 (by decide) ?_
  refine k_size (fun hsz_2 => ?_)
  have hsz_2 : H.size ≤ s.heap.size + 0 := hsz_2
  have hlo_2 := hm.lt (a := c) (mt_ne hc (by decide))
  refine k_newR (kd0 := 30) (j := 10) (N := 17) hx hb hown (hts _ q315) (hs.2.2.1 _ q316 rfl) hs hm hS rfl (fun q => by unfold ct; rw [m1_at]; simp only [aR, wR, m1_at]) (by decide) (by decide) (by decide) (Nat.le_of_ble_eq_true rfl) (Nat.le_of_ble_eq_true rfl) dJ1_init_7 (fun q_2 H hqe_2 hq0_2 hm hS => ?_)
  have hqe_2 : q_2 = (c + 1) := qe_of (n := 0) hqe_2 hsz_2 hz0 hlo_2
  subst hqe_2
  clear hsz_2 hlo_2
  refine k_put (M1 := sR (wR M (c + 1) (fun _ => none)) 1000 c (some (c + 1))) (C := RJ1) (T := TJ1) (N := 3) hx hb hts in_J1 tyJ1 tyJ1_ok nmJ1 hown hs hm hS (mt_ne (push_at hq0_2 hc) (by decide)) (ct50 (push_at hq0_2 hc)) rfl 0 (by decide) (hts _ q317) (fun _ h9 => h9) rfl (tyJ1_ok 0 (by decide)) rfl rfl (Nat.le_of_ble_eq_true rfl) (fun b => ct_sRa ((ct50 (push_at hq0_2 hc)).trans (by simp only [gR, gI, sR, sI, m2_at, m2_nf, ne_eq, Nat.reduceEqDiff, not_false_eq_true]; rfl))) dJ1_init_10 (fun H locs hm hS => ?_)
  have hm : mw E (m1 t (c + 1) (30, 17)) ((sR (wR M (c + 1) (fun _ => none)) 1000 c (some (c + 1)))) H := hm
  have hmz : mw E (m1 (m1 t (c + 1) (30, 17)) c (10, 0)) ((sR (wR M (c + 1) (fun _ => none)) 1000 c (some (c + 1)))) H := hm.rek (mt_ne (push_at hq0_2 hc) (by decide)) (by rw [ct50 (push_at hq0_2 hc), show ct E (m1 (m1 t (c + 1) (30, 17)) c (10, 0)) (sR (wR M (c + 1) (fun _ => none)) 1000 c (some (c + 1))) c = _ from ct10 (m1_at _ _ _)]; simp only [gR, sR, m2_at]; rfl) (fun _ _ => rfl)
  exact W.vret hx hb hr (fun t9 ht9 _ => ⟨⟨(m1 (m1 t (c + 1) (30, 17)) c (10, 0), (sR (wR M (c + 1) (fun _ => none)) 1000 c (some (c + 1)))), rfl, ⟨rfl, ((far.rf c 2 M).wR (by omega)).sR, rfl, rfl, m1_at _ _ _⟩, hb9 (B := fun H9 => mw E _ _ H9) ht9 hmz⟩, hS.F ht9⟩) hS.2.2 dJ1_init_13
set_option maxHeartbeats 4000000 in
theorem cmJ2_init (l : Launch) (E : mE) (t : mt) (M : mm) (c : Nat) (hc : t c = (51, 0)) : Met l yJ2_init (ws_ yJ2_init cJ2_init 2 none) ({ frames := 1, cells := 1, slots := 16, locals := 24 }) (va_Pc [.ref c, .int (16 : Int32)] (zP E t M (c + 1))) (va_Qv (fun (S : mt × mm) => newS t M c S) (fun S U => mw E S.1 S.2 U.heap) (eA E)) 1 16 (eA E) := by
  refine Met.ofW (cc := cJ2_init) (maxL := 2) (ret := none) (by decide) rfl ?_
  intro p e s m args below meth c0 s₁ B hml hv
  obtain ⟨rfl, ⟨hs, hm⟩, hz0⟩ := hv
  have hx := B.exec
  have hb := B.bytes
  have hr := B.returns
  have hts := atoms_spec (ws := ws_ yJ2_init cJ2_init 2 none) B.pre
  have hts : ∀ w ∈ lw_all, w.before _ s = true := fun w h => hts w (List.mem_cons_of_mem _ h)
  have hown : s.vm.findClass RJ2 = some m.cls := findClass_of_methodNamed B.named
  have hlocks := B.notSynchronized
  have hS : va_S (eA E) s.heap s.heap [] := va_S.rf
  have hl := lv_entry ([.ref c, .int (16 : Int32)]) (n := 2) (Nat.le_of_ble_eq_true rfl)
  rw [lg_entry_eq]
  generalize (lg_sl ([.ref c, .int (16 : Int32)]) ++ List.replicate (2 - (lg_sl ([.ref c, .int (16 : Int32)])).length) Slot.unset).toArray = ls at hl ⊢
  have hl : lv_has ls 2 [(0, .ref (c)), (1, .int ((16 : Int32)))] := hl
  have hin2 : meth.name = "<init>" := (name_of_methodNamed B.named B.method).1
  refine lv_aload_n hx hb dJ2_init_0 rfl (lv_at hl 0 rfl) ?_
  refine W.objInit hx hb hown (hts _ q335) (hts _ q103) (hts _ q104) rfl (by rw [hml]; exact hl.1) rfl dJ2_init_1 (Nat.le_of_ble_eq_true rfl) (Nat.le_of_ble_eq_true rfl) ?_
  show W _ _ _ _ _ _ _ _ _ _ _ _ _ _ _ (F0 m 4 _ _)
  refine va_gets hx hb (hs.2.2.2.2.2.1 _ (List.mem_of_getElem? (i := 1) rfl)) hS hown (hts _ q336) (fun _ h9 => h9) dJ2_init_4 ?_
  refine lv_if_eq (tgt := 25) hx hb dJ2_init_7 (by decide) (fun c_1 => absurd c_1 (by decide)) (fun c_1 => ?_)
  refine lv_aload_n hx hb dJ2_init_10 rfl (lv_at hl 0 rfl) ?_
  refine lv_iload_n hx hb dJ2_init_11 rfl (lv_at hl 1 rfl) ?_
  refine k_size (fun hsz_2 => ?_)
  have hsz_2 : s.heap.size ≤ s.heap.size + 0 := hsz_2
  have hlo_2 := hm.lt (a := c) (mt_ne hc (by decide))
  refine k_newG (kd0 := 23) (j := 3) (atype := .byte) (ty := .byte) (N := 16) (a0 := (16, .inl fun _ => 0)) (M1 := fun q => wI M q (fun _ => 0)) hx hb (hts _ q359) rfl hs hm hS rfl (fun h => h) (fun _ => rfl) (fun q b hb9 => by rw [ct_wI hb9]; unfold ct; rw [m1_ne _ _ hb9]) (fun q => by unfold ct; rw [m1_at]; simp only [aI, wI, m1_at]) (by decide) (by decide) (by decide) (Nat.le_of_ble_eq_true rfl) (Nat.le_of_ble_eq_true rfl) dJ2_init_12 (fun q_2 H hqe_2 _ hq0_2 hm hS => ?_)
  have hqe_2 : q_2 = (c + 1) := qe_of (n := 0) hqe_2 hsz_2 hz0 hlo_2
  subst hqe_2
  clear hsz_2 hlo_2
  refine k_put (M1 := sR (wI M (c + 1) (fun _ => 0)) 1100 c (some (c + 1))) (C := RJ3) (T := TJ3) (N := 4) hx hb hts in_J3 tyJ3 tyJ3_ok nmJ3 hown hs hm hS (mt_ne (push_at hq0_2 hc) (by decide)) (ct51 (push_at hq0_2 hc)) rfl 0 (by decide) (hts _ q345) (fun _ h9 => h9) rfl (tyJ3_ok 0 (by decide)) rfl rfl (Nat.le_of_ble_eq_true rfl) (fun b => ct_sRa ((ct51 (push_at hq0_2 hc)).trans (by simp only [gR, gI, sR, sI, m2_at, m2_nf, ne_eq, Nat.reduceEqDiff, not_false_eq_true]; rfl))) dJ2_init_14 (fun H locs hm hS => ?_)
  have hm : mw E (m1 t (c + 1) (23, 16)) ((sR (wI M (c + 1) (fun _ => 0)) 1100 c (some (c + 1)))) H := hm
  refine lv_aload_n hx hb dJ2_init_17 rfl (lv_at hl 0 rfl) ?_
  refine lv_iconst (v := (0 : Int32)) hx hb dJ2_init_18 (by decide) ?_
  refine k_put (M1 := sI (sR (wI M (c + 1) (fun _ => 0)) 1100 c (some (c + 1))) 1101 c (0 : Int32)) (C := RJ3) (T := TJ3) (N := 4) hx hb hts in_J3 tyJ3 tyJ3_ok nmJ3 hown hs hm hS (mt_ne (push_at hq0_2 hc) (by decide)) (ct51 (push_at hq0_2 hc)) rfl 1 (by decide) (hts _ q346) (fun _ h9 => h9) rfl (tyJ3_ok 1 (by decide)) rfl rfl (Nat.le_of_ble_eq_true rfl) (fun b => ct_sIa ((ct51 (push_at hq0_2 hc)).trans (by simp only [gR, gI, sR, sI, m2_at, m2_nf, ne_eq, Nat.reduceEqDiff, not_false_eq_true]; rfl))) dJ2_init_19 (fun H locs hm hS => ?_)
  have hm : mw E (m1 t (c + 1) (23, 16)) ((sI (sR (wI M (c + 1) (fun _ => 0)) 1100 c (some (c + 1))) 1101 c (0 : Int32))) H := hm
  refine lv_goto (tgt := 38) hx hb dJ2_init_22 (by decide) ?_
  have hmz : mw E (m1 (m1 t (c + 1) (23, 16)) c (11, 0)) (sN (sI (sR (wI M (c + 1) (fun _ => 0)) 1100 c (some (c + 1))) 1101 c (0 : Int32)) 1100 c (c + 1)) H := hm.rek (M' := sN (sI (sR (wI M (c + 1) (fun _ => 0)) 1100 c (some (c + 1))) 1101 c (0 : Int32)) 1100 c (c + 1)) (mt_ne (push_at hq0_2 hc) (by decide)) (by rw [ct51 (push_at hq0_2 hc), show ct E (m1 (m1 t (c + 1) (23, 16)) c (11, 0)) (sN (sI (sR (wI M (c + 1) (fun _ => 0)) 1100 c (some (c + 1))) 1101 c (0 : Int32)) 1100 c (c + 1)) c = _ from ct11 (m1_at _ _ _)]; simp only [gR, gN, sR, sN, sI, m2_at]; rfl) (fun b hb9 => ct_sN hb9)
  exact W.vret hx hb hr (fun t9 ht9 _ => ⟨⟨(m1 (m1 t (c + 1) (23, 16)) c (11, 0), sN (sI (sR (wI M (c + 1) (fun _ => 0)) 1100 c (some (c + 1))) 1101 c (0 : Int32)) 1100 c (c + 1)), rfl, ⟨rfl, ((((far.rf c 2 M).wI (by omega)).sR).sI (by omega)).sN (by omega), m2_at _ _ _ _, m2_at _ _ _ _, gI_sI_f (sR (wI M (c + 1) (fun _ => 0)) 1100 c (some (c + 1))) c c (0 : Int32) (show (1103 : Nat) ≠ 1101 by decide), m1_at _ _ _⟩, hb9 (B := fun H9 => mw E _ _ H9) ht9 hmz⟩, hS.F ht9⟩) hS.2.2 dJ2_init_38
set_option maxHeartbeats 4000000 in
theorem cmJ3_init (l : Launch) (E : mE) (t : mt) (M : mm) (c : Nat) (hc : t c = (51, 0)) : Met l yJ3_init (ws_ yJ3_init cJ3_init 1 none) ({ frames := 2, cells := 1, slots := 16, locals := 45 }) (va_Pc [.ref c] (zP E t M (c + 1))) (va_Qv (fun (S : mt × mm) => newS t M c S) (fun S U => mw E S.1 S.2 U.heap) (eA E)) 1 16 (eA E) := by
  refine Met.ofW (cc := cJ3_init) (maxL := 1) (ret := none) (by decide) rfl ?_
  intro p e s m args below meth c0 s₁ B hml hv
  obtain ⟨rfl, ⟨hs, hm⟩, hz0⟩ := hv
  have hx := B.exec
  have hb := B.bytes
  have hr := B.returns
  have hts := atoms_spec (ws := ws_ yJ3_init cJ3_init 1 none) B.pre
  have hts : ∀ w ∈ lw_all, w.before _ s = true := fun w h => hts w (List.mem_cons_of_mem _ h)
  have hown : s.vm.findClass RJ3 = some m.cls := findClass_of_methodNamed B.named
  have hlocks := B.notSynchronized
  have hS : va_S (eA E) s.heap s.heap [] := va_S.rf
  have hl := lv_entry ([.ref c]) (n := 1) (Nat.le_of_ble_eq_true rfl)
  rw [lg_entry_eq]
  generalize (lg_sl ([.ref c]) ++ List.replicate (1 - (lg_sl ([.ref c])).length) Slot.unset).toArray = ls at hl ⊢
  have hl : lv_has ls 1 [(0, .ref (c))] := hl
  have hin2 : meth.name = "<init>" := (name_of_methodNamed B.named B.method).1
  refine lv_aload_n hx hb dJ3_init_0 rfl (lv_at hl 0 rfl) ?_
  refine lv_bipush (v := (16 : Int32)) hx hb dJ3_init_1 (by decide) ?_
  refine k_callv (S := mt × mm) (B := fun S H => mw E S.1 S.2 H) (va_runI (As := [.int ((16 : Int32))]) (rest := []) ⟨hx, hb, hml, hown, hts⟩ (cmJ2_init l E t M c hc) (cwI 1 hts (lw_meth q334) rfl rfl rfl (hts _ q68) (hts _ q332) (hts _ q333) rfl (by decide +kernel) ⟨Nat.le_of_ble_eq_true rfl, Nat.le_of_ble_eq_true rfl⟩) (k_preZ hs hm hz0 hS) rfl rfl hl.1 rfl (lv_room (Nat.le_of_ble_eq_true rfl)) dJ3_init_3 ⟨Nat.le_of_ble_eq_true rfl, Nat.le_of_ble_eq_true rfl⟩) hS (fun u_1 H locs hu_1 hm hS => ?_)
  exact W.vret hx hb hr (fun t9 ht9 _ => ⟨⟨u_1, rfl, hu_1, hb9 (B := fun H9 => mw E _ _ H9) ht9 hm⟩, hS.F ht9⟩) hS.2.2 dJ3_init_6
set_option maxHeartbeats 4000000 in
theorem cm9_init (l : Launch) (E : mE) (t : mt) (M : mm) (c b : Nat) (hc : t c = (48, 0)) (hbc : b = c - 2) : Met l yX9_init (ws_ yX9_init cX9_init 2 none) ({ frames := 1, cells := 3, slots := 180, locals := 24 }) (va_Pc [.ref c, .ref b] (zP E t M (c + 1))) (va_Qv (fun (S : mt × mm) => newR t M c S) (fun S U => mw E S.1 S.2 U.heap) (eA E)) 3 180 (eA E) := by
  refine Met.ofW (cc := cX9_init) (maxL := 2) (ret := none) (by decide) rfl ?_
  intro p e s m args below meth c0 s₁ B hml hv
  obtain ⟨rfl, ⟨hs, hm⟩, hz0⟩ := hv
  have hx := B.exec
  have hb := B.bytes
  have hr := B.returns
  have hts := atoms_spec (ws := ws_ yX9_init cX9_init 2 none) B.pre
  have hts : ∀ w ∈ lw_all, w.before _ s = true := fun w h => hts w (List.mem_cons_of_mem _ h)
  have hown : s.vm.findClass RX9 = some m.cls := findClass_of_methodNamed B.named
  have hlocks := B.notSynchronized
  have hS : va_S (eA E) s.heap s.heap [] := va_S.rf
  have hl := lv_entry ([.ref c, .ref b]) (n := 2) (Nat.le_of_ble_eq_true rfl)
  rw [lg_entry_eq]
  generalize (lg_sl ([.ref c, .ref b]) ++ List.replicate (2 - (lg_sl ([.ref c, .ref b])).length) Slot.unset).toArray = ls at hl ⊢
  have hl : lv_has ls 2 [(0, .ref (c)), (1, .ref (b))] := hl
  have hin2 : meth.name = "<init>" := (name_of_methodNamed B.named B.method).1
  refine lv_aload_n hx hb dX9_init_0 rfl (lv_at hl 0 rfl) ?_
  refine W.objInit hx hb hown (hts _ q365) (hts _ q103) (hts _ q104) rfl (by rw [hml]; exact hl.1) rfl dX9_init_1 (Nat.le_of_ble_eq_true rfl) (Nat.le_of_ble_eq_true rfl) ?_
  show W _ _ _ _ _ _ _ _ _ _ _ _ _ _ _ (F0 m 4 _ _)
  refine lv_aload_n hx hb dX9_init_4 rfl (lv_at hl 0 rfl) ?_
  refine lv_bipush (v := (60 : Int32)) hx hb dX9_init_5 (by decide) ?_
  refine k_size (fun hsz_1 => ?_)
  have hsz_1 : s.heap.size ≤ s.heap.size + 0 := hsz_1
  have hlo_1 := hm.lt (a := c) (mt_ne hc (by decide))
  refine k_newG (kd0 := 22) (j := 2) (atype := .char) (ty := .char) (N := 60) (a0 := (60, .inl fun _ => 0)) (M1 := fun q => wI M q (fun _ => 0)) hx hb (hts _ q386) rfl hs hm hS rfl (fun h => h) (fun _ => rfl) (fun q b hb9 => by rw [ct_wI hb9]; unfold ct; rw [m1_ne _ _ hb9]) (fun q => by unfold ct; rw [m1_at]; simp only [aI, wI, m1_at]) (by decide) (by decide) (by decide) (Nat.le_of_ble_eq_true rfl) (Nat.le_of_ble_eq_true rfl) dX9_init_7 (fun q_1 H hqe_1 _ hq0_1 hm hS => ?_)
  have hqe_1 : q_1 = (c + 1) := qe_of (n := 0) hqe_1 hsz_1 hz0 hlo_1
  subst hqe_1
  clear hsz_1 hlo_1
  refine k_putF (M1 := sR (wI M (c + 1) (fun _ => 0)) 803 c (some (c + 1))) (C := RX9) (T := TX9) (N := 6) hx hb hts in_X9 tyX9 tyX9_ok nmX9 hown hs hm hS (mt_ne (push_at hq0_1 hc) (by decide)) (ct48 (push_at hq0_1 hc)) rfl 3 (by decide) (hts _ q370) (fun _ h9 => h9) rfl hin2 rfl (tyX9_ok 3 (by decide)) rfl rfl (Nat.le_of_ble_eq_true rfl) (fun b => ct_sRa ((ct48 (push_at hq0_1 hc)).trans (by simp only [gR, gI, sR, sI, m2_at, m2_nf, ne_eq, Nat.reduceEqDiff, not_false_eq_true]; rfl))) dX9_init_9 (fun H locs hm hS => ?_)
  have hm : mw E (m1 t (c + 1) (22, 60)) ((sR (wI M (c + 1) (fun _ => 0)) 803 c (some (c + 1)))) H := hm
  refine lv_aload_n hx hb dX9_init_12 rfl (lv_at hl 0 rfl) ?_
  refine lv_bipush (v := (60 : Int32)) hx hb dX9_init_13 (by decide) ?_
  refine k_size (fun hsz_2 => ?_)
  have hsz_2 : H.size ≤ s.heap.size + 1 := hsz_2
  have hlo_2 := hm.lt (a := (c + 1)) (mt_ne (m1_at _ _ _) (by decide))
  refine k_newG (kd0 := 20) (j := 0) (atype := .int) (ty := .int) (N := 60) (a0 := (60, .inl fun _ => 0)) (M1 := fun q => wI (sR (wI M (c + 1) (fun _ => 0)) 803 c (some (c + 1))) q (fun _ => 0)) hx hb (hts _ q147) rfl hs hm hS rfl (fun h => h) (fun _ => rfl) (fun q b hb9 => by rw [ct_wI hb9]; unfold ct; rw [m1_ne _ _ hb9]) (fun q => by unfold ct; rw [m1_at]; simp only [aI, wI, m1_at]) (by decide) (by decide) (by decide) (Nat.le_of_ble_eq_true rfl) (Nat.le_of_ble_eq_true rfl) dX9_init_15 (fun q_2 H hqe_2 _ hq0_2 hm hS => ?_)
  have hqe_2 : q_2 = (c + 2) := qe_of (n := 1) hqe_2 hsz_2 hz0 hlo_2
  subst hqe_2
  clear hsz_2 hlo_2
  refine k_putF (M1 := sR (wI (sR (wI M (c + 1) (fun _ => 0)) 803 c (some (c + 1))) (c + 2) (fun _ => 0)) 804 c (some (c + 2))) (C := RX9) (T := TX9) (N := 6) hx hb hts in_X9 tyX9 tyX9_ok nmX9 hown hs hm hS (mt_ne (push_at hq0_2 (push_at hq0_1 hc)) (by decide)) (ct48 (push_at hq0_2 (push_at hq0_1 hc))) rfl 4 (by decide) (hts _ q371) (fun _ h9 => h9) rfl hin2 rfl (tyX9_ok 4 (by decide)) rfl rfl (Nat.le_of_ble_eq_true rfl) (fun b => ct_sRa ((ct48 (push_at hq0_2 (push_at hq0_1 hc))).trans (by simp only [gR, gI, sR, sI, m2_at, m2_nf, ne_eq, Nat.reduceEqDiff, not_false_eq_true]; rfl))) dX9_init_17 (fun H locs hm hS => ?_)
  have hm : mw E (m1 (m1 t (c + 1) (22, 60)) (c + 2) (20, 60)) ((sR (wI (sR (wI M (c + 1) (fun _ => 0)) 803 c (some (c + 1))) (c + 2) (fun _ => 0)) 804 c (some (c + 2)))) H := hm
  refine lv_aload_n hx hb dX9_init_20 rfl (lv_at hl 0 rfl) ?_
  refine lv_bipush (v := (60 : Int32)) hx hb dX9_init_21 (by decide) ?_
  refine k_size (fun hsz_3 => ?_)
  have hsz_3 : H.size ≤ s.heap.size + 2 := hsz_3
  have hlo_3 := hm.lt (a := (c + 2)) (mt_ne (m1_at _ _ _) (by decide))
  refine k_newG (kd0 := 20) (j := 0) (atype := .int) (ty := .int) (N := 60) (a0 := (60, .inl fun _ => 0)) (M1 := fun q => wI (sR (wI (sR (wI M (c + 1) (fun _ => 0)) 803 c (some (c + 1))) (c + 2) (fun _ => 0)) 804 c (some (c + 2))) q (fun _ => 0)) hx hb (hts _ q147) rfl hs hm hS rfl (fun h => h) (fun _ => rfl) (fun q b hb9 => by rw [ct_wI hb9]; unfold ct; rw [m1_ne _ _ hb9]) (fun q => by unfold ct; rw [m1_at]; simp only [aI, wI, m1_at]) (by decide) (by decide) (by decide) (Nat.le_of_ble_eq_true rfl) (Nat.le_of_ble_eq_true rfl) dX9_init_23 (fun q_3 H hqe_3 _ hq0_3 hm hS => ?_)
  have hqe_3 : q_3 = (c + 3) := qe_of (n := 2) hqe_3 hsz_3 hz0 hlo_3
  subst hqe_3
  clear hsz_3 hlo_3
  refine k_putF (M1 := sR (wI (sR (wI (sR (wI M (c + 1) (fun _ => 0)) 803 c (some (c + 1))) (c + 2) (fun _ => 0)) 804 c (some (c + 2))) (c + 3) (fun _ => 0)) 805 c (some (c + 3))) (C := RX9) (T := TX9) (N := 6) hx hb hts in_X9 tyX9 tyX9_ok nmX9 hown hs hm hS (mt_ne (push_at hq0_3 (push_at hq0_2 (push_at hq0_1 hc))) (by decide)) (ct48 (push_at hq0_3 (push_at hq0_2 (push_at hq0_1 hc)))) rfl 5 (by decide) (hts _ q372) (fun _ h9 => h9) rfl hin2 rfl (tyX9_ok 5 (by decide)) rfl rfl (Nat.le_of_ble_eq_true rfl) (fun b => ct_sRa ((ct48 (push_at hq0_3 (push_at hq0_2 (push_at hq0_1 hc)))).trans (by simp only [gR, gI, sR, sI, m2_at, m2_nf, ne_eq, Nat.reduceEqDiff, not_false_eq_true]; rfl))) dX9_init_25 (fun H locs hm hS => ?_)
  have hm : mw E (m1 (m1 (m1 t (c + 1) (22, 60)) (c + 2) (20, 60)) (c + 3) (20, 60)) ((sR (wI (sR (wI (sR (wI M (c + 1) (fun _ => 0)) 803 c (some (c + 1))) (c + 2) (fun _ => 0)) 804 c (some (c + 2))) (c + 3) (fun _ => 0)) 805 c (some (c + 3)))) H := hm
  refine lv_aload_n hx hb dX9_init_28 rfl (lv_at hl 0 rfl) ?_
  refine lv_aload_n hx hb dX9_init_29 rfl (lv_at hl 1 rfl) ?_
  refine k_putF (M1 := sR (sR (wI (sR (wI (sR (wI M (c + 1) (fun _ => 0)) 803 c (some (c + 1))) (c + 2) (fun _ => 0)) 804 c (some (c + 2))) (c + 3) (fun _ => 0)) 805 c (some (c + 3))) 800 c (some b)) (C := RX9) (T := TX9) (N := 6) hx hb hts in_X9 tyX9 tyX9_ok nmX9 hown hs hm hS (mt_ne (push_at hq0_3 (push_at hq0_2 (push_at hq0_1 hc))) (by decide)) (ct48 (push_at hq0_3 (push_at hq0_2 (push_at hq0_1 hc)))) rfl 0 (by decide) (hts _ q366) (fun _ h9 => h9) rfl hin2 rfl (tyX9_ok 0 (by decide)) rfl rfl (Nat.le_of_ble_eq_true rfl) (fun b => ct_sRa ((ct48 (push_at hq0_3 (push_at hq0_2 (push_at hq0_1 hc)))).trans (by simp only [gR, gI, sR, sI, m2_at, m2_nf, ne_eq, Nat.reduceEqDiff, not_false_eq_true]; rfl))) dX9_init_30 (fun H locs hm hS => ?_)
  have hm : mw E (m1 (m1 (m1 t (c + 1) (22, 60)) (c + 2) (20, 60)) (c + 3) (20, 60)) ((sR (sR (wI (sR (wI (sR (wI M (c + 1) (fun _ => 0)) 803 c (some (c + 1))) (c + 2) (fun _ => 0)) 804 c (some (c + 2))) (c + 3) (fun _ => 0)) 805 c (some (c + 3))) 800 c (some b))) H := hm
  have hmz : mw E (m1 (m1 (m1 (m1 t (c + 1) (22, 60)) (c + 2) (20, 60)) (c + 3) (20, 60)) c (8, 0)) ((sR (sR (wI (sR (wI (sR (wI M (c + 1) (fun _ => 0)) 803 c (some (c + 1))) (c + 2) (fun _ => 0)) 804 c (some (c + 2))) (c + 3) (fun _ => 0)) 805 c (some (c + 3))) 800 c (some b))) H := hm.rek (mt_ne (push_at hq0_3 (push_at hq0_2 (push_at hq0_1 hc))) (by decide)) (by rw [ct48 (push_at hq0_3 (push_at hq0_2 (push_at hq0_1 hc))), show ct E (m1 (m1 (m1 (m1 t (c + 1) (22, 60)) (c + 2) (20, 60)) (c + 3) (20, 60)) c (8, 0)) (sR (sR (wI (sR (wI (sR (wI M (c + 1) (fun _ => 0)) 803 c (some (c + 1))) (c + 2) (fun _ => 0)) 804 c (some (c + 2))) (c + 3) (fun _ => 0)) 805 c (some (c + 3))) 800 c (some b)) c = _ from ct8 (m1_at _ _ _), ← hbc]; simp only [gR, sR, wI, m2_at, m2_nf, ne_eq, Nat.reduceEqDiff, not_false_eq_true]; rfl) (fun _ _ => rfl)
  exact W.vret hx hb hr (fun t9 ht9 _ => ⟨⟨(m1 (m1 (m1 (m1 t (c + 1) (22, 60)) (c + 2) (20, 60)) (c + 3) (20, 60)) c (8, 0), (sR (sR (wI (sR (wI (sR (wI M (c + 1) (fun _ => 0)) 803 c (some (c + 1))) (c + 2) (fun _ => 0)) 804 c (some (c + 2))) (c + 3) (fun _ => 0)) 805 c (some (c + 3))) 800 c (some b))), rfl, ⟨rfl, (far.sR (far.sR ((far.sR ((far.sR ((far.rf c 4 M).wI (by omega))).wI (by omega))).wI (by omega)))), rfl, rfl⟩, hb9 (B := fun H9 => mw E _ _ H9) ht9 hmz⟩, hS.F ht9⟩) hS.2.2 dX9_init_33
