set_option maxRecDepth 100000
/-! the class: searches -/
theorem cw_kd {t : mt} {M : mm} {c : Nat} (hwd : ix 13 (gI M 214 c)) (hrn : ix 21 (gI M 215 c)) {x : UInt32} (hx : kd false 12 x) : kd false 12 (C2_waterThen t M c x) :=
  (kd_least (n := 10) ((kd_most (kd.add (n := 12) hx ((kd.mul kd_08 (kd_i2f (hrn.mono (by decide)))).up (by decide))) kd_100).up (by decide)) ((kd.add (n := 8) (kd_05.up (by decide)) ((kd.mul kd_025 (kd_i2f (hwd.mono (by decide)))).up (by decide))) |>.up (by decide)))
theorem cw_rep {t : mt} {M : mm} {c : Nat} (hwd : ix 13 (gI M 214 c)) (hrn : ix 21 (gI M 215 c)) {x : UInt32} (hx : kd false 12 x) : ∀ k, kd false 12 (rep (C2_waterThen t M c) k x)
  | 0 => hx
  | k + 1 => cw_kd hwd hrn (cw_rep hwd hrn hx k)
def C2_waterIn (t : mt) (M : mm) (c : Nat) (x : Int32) (y : Int32) : UInt32 := rep (C2_waterThen t M c) y.toNatClampNeg (aF M (c + 1) (x).toNatClampNeg)
set_option maxHeartbeats 4000000 in
theorem cm2_waterIn (l : Launch) (E : mE) (t : mt) (M : mm) (c : Nat) (x : Int32) (y : Int32) (hL : lay t c) (hwd : ix 13 (gI M 214 c)) (hrn : ix 21 (gI M 215 c)) (hx1 : ix 12 x) (hy1 : ix 61 y) (hf : ∀ k, k < 12 → kd false 12 (aF M (c + 1) k)) : Met l yX2_waterIn (ws_ yX2_waterIn cX2_waterIn 5 (some .float)) ({ frames := 2, cells := 0, slots := 0, locals := 46 }) (va_Pc [.ref c, .int x, .int y] (wP E t M)) (va_Qf (fun (r : UInt32) (u : mm) => r = (C2_waterIn t M c x y) ∧ u = M) (fun u U => mw E t u U.heap) (eA E)) 0 0 (eA E) := by
  refine Met.ofW (cc := cX2_waterIn) (maxL := 5) (ret := (some .float)) (by decide) rfl ?_
  intro p e s m args below meth c0 s₁ B hml hv
  obtain ⟨rfl, hs, hm⟩ := hv
  have hx := B.exec
  have hb := B.bytes
  have hr := B.returns
  have hts := atoms_spec (ws := ws_ yX2_waterIn cX2_waterIn 5 (some .float)) B.pre
  have hts : ∀ w ∈ lw_all, w.before _ s = true := fun w h => hts w (List.mem_cons_of_mem _ h)
  have hown : s.vm.findClass RX2 = some m.cls := findClass_of_methodNamed B.named
  have hlocks := B.notSynchronized
  have hS : va_S (eA E) s.heap s.heap [] := va_S.rf
  have hl := lv_entry ([.ref c, .int x, .int y]) (n := 5) (Nat.le_of_ble_eq_true rfl)
  rw [lg_entry_eq]
  generalize (lg_sl ([.ref c, .int x, .int y]) ++ List.replicate (5 - (lg_sl ([.ref c, .int x, .int y])).length) Slot.unset).toArray = ls at hl ⊢
  have hl : lv_has ls 5 [(0, .ref (c)), (1, .int (x)), (2, .int (y))] := hl
  refine lv_aload_n hx hb dX2_waterIn_0 rfl (lv_at hl 0 rfl) ?_
  refine gf_200 hx hb hts hown hs hm (lay.z hL) (hts _ q227) dX2_waterIn_1 ?_
  refine lv_iload_n hx hb dX2_waterIn_4 rfl (lv_at hl 1 rfl) ?_
  refine k_fald hx hb hs hm (lay.a1 hL) (ix.at (B := 12) ((hx1).mono (by decide)) (by decide)) dX2_waterIn_5 ?_
  refine lv_fstore_n (lv' := [(3, _), (0, _), (1, _), (2, _)]) hx hb dX2_waterIn_6 rfl hl (by decide) rfl (fun ls hl => ?_)
  refine lv_iconst (v := (0 : Int32)) hx hb dX2_waterIn_7 (by decide) ?_
  refine lv_istore (lv' := [(4, _), (3, _), (0, _), (1, _), (2, _)]) hx hb dX2_waterIn_8 hl (by decide) rfl (fun ls hl => ?_)
  refine k_loop (fun k => (y).toNatClampNeg - k) (fun (k : Nat) H locs ls => (k ≤ (y).toNatClampNeg) ∧ mw E t (M) H ∧ va_S (eA E) s.heap H locs ∧ lv_has ls 5 [(4, .int (nI k)), (3, .float ((rep (C2_waterThen t M c) k (aF M (c + 1) (x).toNatClampNeg)))), (0, .ref (c)), (1, .int (x)), (2, .int (y))]) (fun (k : Nat) ls => F0 m 10 ls []) (fun k => (0, 0)) (fun k ih_1 H locs ls hP => ?_) (0) ⟨(Nat.zero_le _), hm, hS, lv_sub hl [0, 1, 2, 3, 4] rfl⟩
  obtain ⟨hI_1, hm, hS, hl⟩ := hP
  refine lv_iload hx hb dX2_waterIn_10 (lv_at hl 0 rfl) ?_
  refine lv_iload_n hx hb dX2_waterIn_12 rfl (lv_at hl 4 rfl) ?_
  refine lv_icmp_ge (tgt := 28) hx hb dX2_waterIn_13 (by decide) (fun c_2 => ?_) (fun c_2 => ?_)
  · have hkN : k = (y).toNatClampNeg := lp_geI hy1 (by decide) hI_1 c_2
    replace hkN := hkN.symm
    subst hkN
    refine lv_fload_n hx hb dX2_waterIn_28 rfl (lv_at hl 1 rfl) ?_
    exact W.fret (v := _) hx hb hr (fun t9 ht9 _ => ⟨⟨_, _, rfl, ⟨(rfl).symm, rfl⟩, hb9 ht9 hm⟩, hS.F ht9⟩) hS.2.2 dX2_waterIn_29
  · have hk : k < (y).toNatClampNeg := lp_ltI hy1 (by decide) hI_1 c_2
    refine lv_aload_n hx hb dX2_waterIn_16 rfl (lv_at hl 2 rfl) ?_
    refine lv_fload_n hx hb dX2_waterIn_17 rfl (lv_at hl 1 rfl) ?_
    refine k_callf (va_runV (As := [.float ((rep (C2_waterThen t M c) k (aF M (c + 1) (x).toNatClampNeg)))]) (rest := []) ⟨hx, hb, hml, hown, hts⟩ (cm2_waterThen l E t M  (c) ((rep (C2_waterThen t M c) k (aF M (c + 1) (x).toNatClampNeg))) hL hwd hrn (cw_rep hwd hrn (hf _ (ix.nlt hx1)) k)) (cwV 1 hts (lw_V q912 q914 qs10 q59 q915) rfl rfl rfl (by decide +kernel) ⟨Nat.le_of_ble_eq_true rfl, Nat.le_of_ble_eq_true rfl⟩) (k_preV hs hm hS (mw.recv hs hm (mt_ne (lay.z hL) (by decide)) (ct2 (lay.z hL)) rfl)) rfl rfl hl.1 rfl (lv_room (Nat.le_of_ble_eq_true rfl)) dX2_waterIn_18 ⟨Nat.le_of_ble_eq_true rfl, Nat.le_of_ble_eq_true rfl⟩) hS (fun r_3 u_3 H locs hw_3 hm_3 hS => ?_)
    obtain ⟨hr_3, hu_3⟩ := hw_3
    replace hu_3 := hu_3.symm
    subst hu_3
    have hm := hm_3
    refine lv_fstore_n (lv' := [(3, _), (4, _), (0, _), (1, _), (2, _)]) hx hb dX2_waterIn_21 rfl hl (by decide) rfl (fun ls hl => ?_)
    refine lv_iinc (v := nI (k + 1)) (lv' := [(4, _), (3, _), (0, _), (1, _), (2, _)]) hx hb dX2_waterIn_22 hl (k := 1) rfl (nI_succ k).symm (by decide) rfl (fun ls hl => ?_)
    refine lv_goto (tgt := 10) hx hb dX2_waterIn_25 (by decide) ?_
    exact ih_1 (k + 1) (by omega) _ _ _ ⟨(by omega), hm, hS, (by rw [show rep (C2_waterThen t M c) (k + 1) (aF M (c + 1) (x).toNatClampNeg) = r_3 from hr_3.symm]; exact lv_sub hl [0, 1, 2, 3, 4] rfl)⟩
def shedC (M : mm) (c : Nat) (x : Int32) : Nat → Nat → Int32
  | 0, _ => -1
  | n + 1, k => if gI M 602 (c + 54 + k) = 0 then shedC M c x n (k + 1) else if gI M 600 (c + 54 + k) = x then nI k else shedC M c x n (k + 1)
theorem shedC_s {M : mm} {c : Nat} {x : Int32} {n k : Nat} (hk : k < n) : shedC M c x (n - k) k = if gI M 602 (c + 54 + k) = 0 then shedC M c x (n - (k + 1)) (k + 1) else if gI M 600 (c + 54 + k) = x then nI k else shedC M c x (n - (k + 1)) (k + 1) := by
  rw [show n - k = (n - (k + 1)) + 1 by omega]
  rfl
theorem shedC_e {Tr : Int32} {M : mm} {c : Nat} {x : Int32} {n k : Nat} (h : Tr = shedC M c x (n - k) k) (e : k = n) : Tr = -1 := by
  rw [h, e, Nat.sub_self]; rfl
def C2_shedOn (t : mt) (M : mm) (c : Nat) (x : Int32) : Int32 := shedC M c x (gI M 212 c).toNatClampNeg 0
set_option maxHeartbeats 4000000 in
theorem cm2_shedOn (l : Launch) (E : mE) (t : mt) (M : mm) (c : Nat) (x : Int32) (hL : lay t c) (hn : ix 5 (gI M 212 c)) : Met l yX2_shedOn (ws_ yX2_shedOn cX2_shedOn 3 (some .int)) ({ frames := 0, cells := 0, slots := 0, locals := 0 }) (va_Pc [.ref c, .int x] (wP E t M)) (va_Qi (fun (r : Int32) (u : mm) => r = (C2_shedOn t M c x) ∧ u = M) (fun u U => mw E t u U.heap) (eA E)) 0 0 (eA E) := by
  refine Met.ofW (cc := cX2_shedOn) (maxL := 3) (ret := (some .int)) (by decide) rfl ?_
  intro p e s m args below meth c0 s₁ B hml hv
  obtain ⟨rfl, hs, hm⟩ := hv
  have hx := B.exec
  have hb := B.bytes
  have hr := B.returns
  have hts := atoms_spec (ws := ws_ yX2_shedOn cX2_shedOn 3 (some .int)) B.pre
  have hts : ∀ w ∈ lw_all, w.before _ s = true := fun w h => hts w (List.mem_cons_of_mem _ h)
  have hown : s.vm.findClass RX2 = some m.cls := findClass_of_methodNamed B.named
  have hlocks := B.notSynchronized
  have hS : va_S (eA E) s.heap s.heap [] := va_S.rf
  have hl := lv_entry ([.ref c, .int x]) (n := 3) (Nat.le_of_ble_eq_true rfl)
  rw [lg_entry_eq]
  generalize (lg_sl ([.ref c, .int x]) ++ List.replicate (3 - (lg_sl ([.ref c, .int x])).length) Slot.unset).toArray = ls at hl ⊢
  have hl : lv_has ls 3 [(0, .ref (c)), (1, .int (x))] := hl
  refine lv_iconst (v := (0 : Int32)) hx hb dX2_shedOn_0 (by decide) ?_
  refine lv_istore_n (lv' := [(2, _), (0, _), (1, _)]) hx hb dX2_shedOn_1 rfl hl (by decide) rfl (fun ls hl => ?_)
  refine k_loop (fun k => (gI M 212 c).toNatClampNeg - k) (fun (k : Nat) H locs ls => (k ≤ (gI M 212 c).toNatClampNeg ∧ C2_shedOn t M c x = shedC M c x ((gI M 212 c).toNatClampNeg - k) k) ∧ mw E t (M) H ∧ va_S (eA E) s.heap H locs ∧ lv_has ls 3 [(2, .int (nI k)), (0, .ref (c)), (1, .int (x))]) (fun (k : Nat) ls => F0 m 2 ls []) (fun k => (0, 0)) (fun k ih_1 H locs ls hP => ?_) (0) ⟨⟨Nat.zero_le _, rfl⟩, hm, hS, lv_sub hl [0, 1, 2] rfl⟩
  obtain ⟨hI_1, hm, hS, hl⟩ := hP
  have hn5 := (hn.nat (by decide)).1
  refine lv_iload_n hx hb dX2_shedOn_2 rfl (lv_at hl 0 rfl) ?_
  refine lv_aload_n hx hb dX2_shedOn_3 rfl (lv_at hl 1 rfl) ?_
  refine gf_212 hx hb hts hown hs hm (lay.z hL) (hts _ q247) dX2_shedOn_4 ?_
  refine lv_icmp_ge (tgt := 43) hx hb dX2_shedOn_7 (by decide) (fun c_2 => ?_) (fun c_2 => ?_)
  · refine lv_iconst (v := (-1 : Int32)) hx hb dX2_shedOn_43 (by decide) ?_
    exact W.iret (v := _) hx hb hr (fun t9 ht9 _ => ⟨⟨_, _, rfl, ⟨(shedC_e hI_1.2 (lp_geI hn (by decide) hI_1.1 c_2)).symm, rfl⟩, hb9 ht9 hm⟩, hS.F ht9⟩) hS.2.2 dX2_shedOn_44
  · have hk : k < (gI M 212 c).toNatClampNeg := lp_ltI hn (by decide) hI_1.1 c_2
    have hk4 : k < 4 := by omega
    refine lv_aload_n hx hb dX2_shedOn_10 rfl (lv_at hl 1 rfl) ?_
    refine gf_209 hx hb hts hown hs hm (lay.z hL) (hts _ q241) dX2_shedOn_11 ?_
    refine lv_iload_n hx hb dX2_shedOn_14 rfl (lv_at hl 0 rfl) ?_
    refine k_shd hx hb hs hm (lay.a10 hL) (k := k) (cl_nI (by omega)).symm (ix.at (B := 4) (⟨k, hk4, rfl⟩) (by decide)) dX2_shedOn_15 ?_
    refine gfN_602 hx hb hts hown hs hm (lay.shd hL (by omega)) q190 dX2_shedOn_16 ?_
    refine lv_if_eq (tgt := 37) hx hb dX2_shedOn_19 (by decide) (fun c_3 => ?_) (fun c_3 => ?_)
    · refine lv_iinc (v := nI (k + 1)) (lv' := [(2, _), (0, _), (1, _)]) hx hb dX2_shedOn_37 hl (k := 0) rfl (nI_succ k).symm (by decide) rfl (fun ls hl => ?_)
      refine lv_goto (tgt := 2) hx hb dX2_shedOn_40 (by decide) ?_
      exact ih_1 (k + 1) (by omega) _ _ _ ⟨⟨by omega, (hI_1.2.trans (shedC_s hk)).trans (by first | exact if_pos c_3 | exact (if_neg c_2).trans (if_neg c_3))⟩, hm, hS, lv_sub hl [0, 1, 2] rfl⟩
    · refine lv_aload_n hx hb dX2_shedOn_22 rfl (lv_at hl 1 rfl) ?_
      refine gf_209 hx hb hts hown hs hm (lay.z hL) (hts _ q241) dX2_shedOn_23 ?_
      refine lv_iload_n hx hb dX2_shedOn_26 rfl (lv_at hl 0 rfl) ?_
      refine k_shd hx hb hs hm (lay.a10 hL) (k := k) (cl_nI (by omega)).symm (ix.at (B := 4) (⟨k, hk4, rfl⟩) (by decide)) dX2_shedOn_27 ?_
      refine gfN_600 hx hb hts hown hs hm (lay.shd hL (by omega)) q184 dX2_shedOn_28 ?_
      refine lv_iload_n hx hb dX2_shedOn_31 rfl (lv_at hl 2 rfl) ?_
      refine lv_icmp_ne (tgt := 37) hx hb dX2_shedOn_32 (by decide) (fun c_4 => ?_) (fun c_4 => ?_)
      · refine lv_iinc (v := nI (k + 1)) (lv' := [(2, _), (0, _), (1, _)]) hx hb dX2_shedOn_37 hl (k := 0) rfl (nI_succ k).symm (by decide) rfl (fun ls hl => ?_)
        refine lv_goto (tgt := 2) hx hb dX2_shedOn_40 (by decide) ?_
        exact ih_1 (k + 1) (by omega) _ _ _ ⟨⟨by omega, (hI_1.2.trans (shedC_s hk)).trans (by first | exact if_pos c_4 | exact (if_neg c_3).trans (if_neg c_4))⟩, hm, hS, lv_sub hl [0, 1, 2] rfl⟩
      · refine lv_iload_n hx hb dX2_shedOn_35 rfl (lv_at hl 0 rfl) ?_
        exact W.iret (v := _) hx hb hr (fun t9 ht9 _ => ⟨⟨_, _, rfl, ⟨((hI_1.2.trans (shedC_s hk)).trans ((if_neg c_3).trans (if_pos c_4))).symm, rfl⟩, hb9 ht9 hm⟩, hS.F ht9⟩) hS.2.2 dX2_shedOn_36
def lwC (t : mt) (M : mm) (p : Nat) : Nat → Nat → Int32
  | 0, _ => -1
  | n + 1, k => if gI M 602 p = 0 then lwC t M p n (k + 1) else if C7_holds t M p (nI k) = 0 then nI k else lwC t M p n (k + 1)
theorem lwC_s {t : mt} {M : mm} {p n k : Nat} (hk : k < n) : lwC t M p (n - k) k = if gI M 602 p = 0 then lwC t M p (n - (k + 1)) (k + 1) else if C7_holds t M p (nI k) = 0 then nI k else lwC t M p (n - (k + 1)) (k + 1) := by
  rw [show n - k = (n - (k + 1)) + 1 by omega]
  rfl
theorem lwC_e {Tr : Int32} {t : mt} {M : mm} {p n k : Nat} (h : Tr = lwC t M p (n - k) k) (e : k = n) : Tr = -1 := by
  rw [h, e, Nat.sub_self]; rfl
theorem le_12 {k : Nat} (hk : k ≤ 13) (c : ¬ (12 : Int32) < nI k) : k < 13 := by
  rcases Nat.lt_or_ge k 13 with h | h
  · exact h
  · exact absurd (nI_lt (a := 12) (b := k) (by omega) (by omega)) c
theorem gt_12 {k : Nat} (hk : k ≤ 13) (c : (12 : Int32) < nI k) : k = 13 := by
  have := (nI_ltI (a := 12) (b := k) (by decide) (by omega)).mp c
  omega
def C2_leastWind (t : mt) (M : mm) (c : Nat) (x : Int32) : Int32 := lwC t M (c + 54 + (x).toNatClampNeg) 13 0
set_option maxHeartbeats 4000000 in
theorem cm2_leastWind (l : Launch) (E : mE) (t : mt) (M : mm) (c : Nat) (x : Int32) (hL : lay t c) (hx1 : ix 4 x) (hr1 : ix 7 (gI M 601 (c + 54 + (x).toNatClampNeg))) : Met l yX2_leastWind (ws_ yX2_leastWind cX2_leastWind 4 (some .int)) ({ frames := 1, cells := 0, slots := 0, locals := 21 }) (va_Pc [.ref c, .int x] (wP E t M)) (va_Qi (fun (r : Int32) (u : mm) => r = (C2_leastWind t M c x) ∧ u = M) (fun u U => mw E t u U.heap) (eA E)) 0 0 (eA E) := by
  refine Met.ofW (cc := cX2_leastWind) (maxL := 4) (ret := (some .int)) (by decide) rfl ?_
  intro p e s m args below meth c0 s₁ B hml hv
  obtain ⟨rfl, hs, hm⟩ := hv
  have hx := B.exec
  have hb := B.bytes
  have hr := B.returns
  have hts := atoms_spec (ws := ws_ yX2_leastWind cX2_leastWind 4 (some .int)) B.pre
  have hts : ∀ w ∈ lw_all, w.before _ s = true := fun w h => hts w (List.mem_cons_of_mem _ h)
  have hown : s.vm.findClass RX2 = some m.cls := findClass_of_methodNamed B.named
  have hlocks := B.notSynchronized
  have hS : va_S (eA E) s.heap s.heap [] := va_S.rf
  have hl := lv_entry ([.ref c, .int x]) (n := 4) (Nat.le_of_ble_eq_true rfl)
  rw [lg_entry_eq]
  generalize (lg_sl ([.ref c, .int x]) ++ List.replicate (4 - (lg_sl ([.ref c, .int x])).length) Slot.unset).toArray = ls at hl ⊢
  have hl : lv_has ls 4 [(0, .ref (c)), (1, .int (x))] := hl
  refine lv_aload_n hx hb dX2_leastWind_0 rfl (lv_at hl 0 rfl) ?_
  refine gf_209 hx hb hts hown hs hm (lay.z hL) (hts _ q241) dX2_leastWind_1 ?_
  refine lv_iload_n hx hb dX2_leastWind_4 rfl (lv_at hl 1 rfl) ?_
  refine k_shd hx hb hs hm (lay.a10 hL) (k := (x).toNatClampNeg) rfl (ix.at (B := 4) ((hx1).mono (by decide)) (by decide)) dX2_leastWind_5 ?_
  refine lv_astore_n (lv' := [(2, _), (0, _), (1, _)]) hx hb dX2_leastWind_6 rfl hl (by decide) rfl (fun ls hl => ?_)
  refine lv_iconst (v := (0 : Int32)) hx hb dX2_leastWind_7 (by decide) ?_
  refine lv_istore_n (lv' := [(3, _), (2, _), (0, _), (1, _)]) hx hb dX2_leastWind_8 rfl hl (by decide) rfl (fun ls hl => ?_)
  refine k_loop (fun k => 13 - k) (fun (k : Nat) H locs ls => (k ≤ 13 ∧ C2_leastWind t M c x = lwC t M (c + 54 + (x).toNatClampNeg) (13 - k) k) ∧ mw E t (M) H ∧ va_S (eA E) s.heap H locs ∧ lv_has ls 4 [(3, .int (nI k)), (2, .ref ((c + 54 + (x).toNatClampNeg))), (0, .ref (c)), (1, .int (x))]) (fun (k : Nat) ls => F0 m 9 ls []) (fun k => (0, 0)) (fun k ih_1 H locs ls hP => ?_) (0) ⟨⟨Nat.zero_le _, rfl⟩, hm, hS, lv_sub hl [0, 1, 2, 3] rfl⟩
  obtain ⟨hI_1, hm, hS, hl⟩ := hP
  refine lv_iload_n hx hb dX2_leastWind_9 rfl (lv_at hl 0 rfl) ?_
  refine lv_bipush (v := (12 : Int32)) hx hb dX2_leastWind_10 (by decide) ?_
  refine lv_icmp_gt (tgt := 38) hx hb dX2_leastWind_12 (by decide) (fun c_2 => ?_) (fun c_2 => ?_)
  · refine lv_iconst (v := (-1 : Int32)) hx hb dX2_leastWind_38 (by decide) ?_
    exact W.iret (v := _) hx hb hr (fun t9 ht9 _ => ⟨⟨_, _, rfl, ⟨(lwC_e hI_1.2 (gt_12 hI_1.1 c_2)).symm, rfl⟩, hb9 ht9 hm⟩, hS.F ht9⟩) hS.2.2 dX2_leastWind_39
  · have hk : k < 13 := le_12 hI_1.1 c_2
    refine lv_aload_n hx hb dX2_leastWind_15 rfl (lv_at hl 1 rfl) ?_
    refine gfN_602 hx hb hts hown hs hm (lay.shd hL (ix.nlt ((hx1).mono (by decide)))) q190 dX2_leastWind_16 ?_
    refine lv_if_eq (tgt := 32) hx hb dX2_leastWind_19 (by decide) (fun c_3 => ?_) (fun c_3 => ?_)
    · refine lv_iinc (v := nI (k + 1)) (lv' := [(3, _), (2, _), (0, _), (1, _)]) hx hb dX2_leastWind_32 hl (k := 0) rfl (nI_succ k).symm (by decide) rfl (fun ls hl => ?_)
      refine lv_goto (tgt := 9) hx hb dX2_leastWind_35 (by decide) ?_
      exact ih_1 (k + 1) (by omega) _ _ _ ⟨⟨by omega, (hI_1.2.trans (lwC_s hk)).trans (by first | exact if_pos c_3 | exact (if_neg c_2).trans (if_neg (by rw [← $hr1]; exact c_3)))⟩, hm, hS, lv_sub hl [0, 1, 2, 3] rfl⟩
    · refine lv_aload_n hx hb dX2_leastWind_22 rfl (lv_at hl 1 rfl) ?_
      refine lv_iload_n hx hb dX2_leastWind_23 rfl (lv_at hl 0 rfl) ?_
      refine k_calli (va_runV (As := [.int (nI k)]) (rest := []) ⟨hx, hb, hml, hown, hts⟩ (cm7_holds l E t M  ((c + 54 + (x).toNatClampNeg)) (nI k) (lay.shd hL (ix.nlt ((hx1).mono (by decide)))) ⟨k, hk, rfl⟩ hr1) (cwV 1 hts (lw_V q975 q976 q977 q64 q978) rfl rfl rfl (by decide +kernel) ⟨Nat.le_of_ble_eq_true rfl, Nat.le_of_ble_eq_true rfl⟩) (k_preV hs hm hS (mw.recv hs hm (mt_ne (lay.shd hL (ix.nlt ((hx1).mono (by decide)))) (by decide)) (ct6 (lay.shd hL (ix.nlt ((hx1).mono (by decide))))) rfl)) rfl rfl hl.1 rfl (lv_room (Nat.le_of_ble_eq_true rfl)) dX2_leastWind_24 ⟨Nat.le_of_ble_eq_true rfl, Nat.le_of_ble_eq_true rfl⟩) hS (fun r_4 u_4 H locs hw_4 hm_4 hS => ?_)
      obtain ⟨hr_4, hu_4⟩ := hw_4
      replace hu_4 := hu_4.symm
      subst hu_4
      have hm := hm_4
      refine lv_if_ne (tgt := 32) hx hb dX2_leastWind_27 (by decide) (fun c_5 => ?_) (fun c_5 => ?_)
      · refine lv_iinc (v := nI (k + 1)) (lv' := [(3, _), (2, _), (0, _), (1, _)]) hx hb dX2_leastWind_32 hl (k := 0) rfl (nI_succ k).symm (by decide) rfl (fun ls hl => ?_)
        refine lv_goto (tgt := 9) hx hb dX2_leastWind_35 (by decide) ?_
        exact ih_1 (k + 1) (by omega) _ _ _ ⟨⟨by omega, (hI_1.2.trans (lwC_s hk)).trans (by first | exact if_pos c_5 | exact (if_neg c_3).trans (if_neg (by rw [← hr_4]; exact c_5)))⟩, hm, hS, lv_sub hl [0, 1, 2, 3] rfl⟩
      · refine lv_iload_n hx hb dX2_leastWind_30 rfl (lv_at hl 0 rfl) ?_
        subst hr_4
        exact W.iret (v := _) hx hb hr (fun t9 ht9 _ => ⟨⟨_, _, rfl, ⟨((hI_1.2.trans (lwC_s hk)).trans ((if_neg c_3).trans (if_pos c_5))).symm, rfl⟩, hb9 ht9 hm⟩, hS.F ht9⟩) hS.2.2 dX2_leastWind_31
def frC (M : mm) (b : Nat) : Nat → Nat → Int32
  | 0, k => nI k
  | n + 1, k => if aR M b k = none then nI k else frC M b n (k + 1)
theorem frC_s {M : mm} {b n k : Nat} (hk : k < n) : frC M b (n - k) k = if aR M b k = none then nI k else frC M b (n - (k + 1)) (k + 1) := by
  rw [show n - k = (n - (k + 1)) + 1 by omega]
  rfl
theorem frC_e {Tr : Int32} {M : mm} {b n k : Nat} (h : Tr = frC M b (n - k) k) (e : k = n) : Tr = nI k := by
  rw [h, e, Nat.sub_self]; rfl
def C2_free (t : mt) (M : mm) (b : Nat) : Int32 := frC M b 5 0
set_option maxHeartbeats 4000000 in
theorem cm2_free (l : Launch) (E : mE) (t : mt) (M : mm) (b : Nat) (hbn : t b = (25, 5) ∨ t b = (26, 5)) : Met l yX2_free (ws_ yX2_free cX2_free 2 (some .int)) ({ frames := 0, cells := 0, slots := 0, locals := 0 }) (va_Pc [.ref b] (wP E t M)) (va_Qi (fun (r : Int32) (u : mm) => r = (C2_free t M b) ∧ u = M) (fun u U => mw E t u U.heap) (eA E)) 0 0 (eA E) := by
  refine Met.ofW (cc := cX2_free) (maxL := 2) (ret := (some .int)) (by decide) rfl ?_
  intro p e s m args below meth c0 s₁ B hml hv
  obtain ⟨rfl, hs, hm⟩ := hv
  have hx := B.exec
  have hb := B.bytes
  have hr := B.returns
  have hts := atoms_spec (ws := ws_ yX2_free cX2_free 2 (some .int)) B.pre
  have hts : ∀ w ∈ lw_all, w.before _ s = true := fun w h => hts w (List.mem_cons_of_mem _ h)
  have hown : s.vm.findClass RX2 = some m.cls := findClass_of_methodNamed B.named
  have hlocks := B.notSynchronized
  have hS : va_S (eA E) s.heap s.heap [] := va_S.rf
  have hl := lv_entry ([.ref b]) (n := 2) (Nat.le_of_ble_eq_true rfl)
  rw [lg_entry_eq]
  generalize (lg_sl ([.ref b]) ++ List.replicate (2 - (lg_sl ([.ref b])).length) Slot.unset).toArray = ls at hl ⊢
  have hl : lv_has ls 2 [(0, .ref (b))] := hl
  refine lv_iconst (v := (0 : Int32)) hx hb dX2_free_0 (by decide) ?_
  refine lv_istore_n (lv' := [(1, _), (0, _)]) hx hb dX2_free_1 rfl hl (by decide) rfl (fun ls hl => ?_)
  refine k_loop (fun k => 5 - k) (fun (k : Nat) H locs ls => (k ≤ 5 ∧ C2_free t M b = frC M b (5 - k) k) ∧ mw E t (M) H ∧ va_S (eA E) s.heap H locs ∧ lv_has ls 2 [(1, .int (nI k)), (0, .ref (b))]) (fun (k : Nat) ls => F0 m 2 ls []) (fun k => (0, 0)) (fun k ih_1 H locs ls hP => ?_) (0) ⟨⟨Nat.zero_le _, rfl⟩, hm, hS, lv_sub hl [0, 1] rfl⟩
  obtain ⟨hI_1, hm, hS, hl⟩ := hP
  refine lv_iload_n hx hb dX2_free_2 rfl (lv_at hl 0 rfl) ?_
  refine lv_iconst (v := (5 : Int32)) hx hb dX2_free_3 (by decide) ?_
  refine lv_icmp_ge (tgt := 19) hx hb dX2_free_4 (by decide) (fun c_2 => ?_) (fun c_2 => ?_)
  · refine lv_iload_n hx hb dX2_free_19 rfl (lv_at hl 0 rfl) ?_
    exact W.iret (v := _) hx hb hr (fun t9 ht9 _ => ⟨⟨_, _, rfl, ⟨((show C2_free t M b = nI k from by first | exact frC_e hI_1.2 (lp_ge (by decide) hI_1.1 c_2) | exact (hI_1.2.trans (frC_s hk)).trans (if_pos c_2))).symm, rfl⟩, hb9 ht9 hm⟩, hS.F ht9⟩) hS.2.2 dX2_free_20
  · have hk : k < 5 := lp_lt (by decide) hI_1.1 c_2
    refine lv_aload_n hx hb dX2_free_7 rfl (lv_at hl 1 rfl) ?_
    refine lv_iload_n hx hb dX2_free_8 rfl (lv_at hl 0 rfl) ?_
    refine k_aald2 hx hb hs hm hbn (ix.at (B := 5) (⟨k, hk, rfl⟩) (by decide)) dX2_free_9 ?_
    rw [show (nI k).toNatClampNeg = k from cl_nI (by omega)]
    refine lv_ifnullQ (tgt := 19) hx hb dX2_free_10 (by decide) (fun c_3 => ?_) (fun c_3 => ?_)
    · refine lv_iload_n hx hb dX2_free_19 rfl (lv_at hl 0 rfl) ?_
      exact W.iret (v := _) hx hb hr (fun t9 ht9 _ => ⟨⟨_, _, rfl, ⟨((show C2_free t M b = nI k from by first | exact frC_e hI_1.2 (lp_ge (by decide) hI_1.1 c_3) | exact (hI_1.2.trans (frC_s hk)).trans (if_pos c_3))).symm, rfl⟩, hb9 ht9 hm⟩, hS.F ht9⟩) hS.2.2 dX2_free_20
    · refine lv_iinc (v := nI (k + 1)) (lv' := [(1, _), (0, _)]) hx hb dX2_free_13 hl (k := 0) rfl (nI_succ k).symm (by decide) rfl (fun ls hl => ?_)
      refine lv_goto (tgt := 2) hx hb dX2_free_16 (by decide) ?_
      exact ih_1 (k + 1) (by omega) _ _ _ ⟨⟨by omega, (hI_1.2.trans (frC_s hk)).trans (if_neg c_3)⟩, hm, hS, lv_sub hl [0, 1] rfl⟩
def C2_bench (t : mt) (M : mm) (c : Nat) (x : Int32) : Nat :=
  if x = 0 then
    (c + 7)
  else
    (c + 8)
set_option maxHeartbeats 4000000 in
theorem cm2_bench (l : Launch) (E : mE) (t : mt) (M : mm) (c : Nat) (x : Int32) (hL : lay t c)  : Met l yX2_bench (ws_ yX2_bench cX2_bench 2 (some (.array (.object RX3)))) ({ frames := 0, cells := 0, slots := 0, locals := 0 }) (va_Pc [.ref c, .int x] (wP E t M)) (va_Qq (fun (r : Option Nat) (u : mm) => r = some (C2_bench t M c x) ∧ u = M) (fun u U => mw E t u U.heap) (eA E)) 0 0 (eA E) := by
  refine Met.ofW (cc := cX2_bench) (maxL := 2) (ret := (some (.array (.object RX3)))) (by decide) rfl ?_
  intro p e s m args below meth c0 s₁ B hml hv
  obtain ⟨rfl, hs, hm⟩ := hv
  have hx := B.exec
  have hb := B.bytes
  have hr := B.returns
  have hts := atoms_spec (ws := ws_ yX2_bench cX2_bench 2 (some (.array (.object RX3)))) B.pre
  have hts : ∀ w ∈ lw_all, w.before _ s = true := fun w h => hts w (List.mem_cons_of_mem _ h)
  have hown : s.vm.findClass RX2 = some m.cls := findClass_of_methodNamed B.named
  have hlocks := B.notSynchronized
  have hS : va_S (eA E) s.heap s.heap [] := va_S.rf
  have hl := lv_entry ([.ref c, .int x]) (n := 2) (Nat.le_of_ble_eq_true rfl)
  rw [lg_entry_eq]
  generalize (lg_sl ([.ref c, .int x]) ++ List.replicate (2 - (lg_sl ([.ref c, .int x])).length) Slot.unset).toArray = ls at hl ⊢
  have hl : lv_has ls 2 [(0, .ref (c)), (1, .int (x))] := hl
  refine lv_iload_n hx hb dX2_bench_0 rfl (lv_at hl 1 rfl) ?_
  refine lv_if_ne (tgt := 11) hx hb dX2_bench_1 (by decide) (fun c_1 => ?_) (fun c_1 => ?_)
  · refine lv_aload_n hx hb dX2_bench_11 rfl (lv_at hl 0 rfl) ?_
    refine gf_207 hx hb hts hown hs hm (lay.z hL) (hts _ q238) dX2_bench_12 ?_
    exact W.aret (v := _) hx hb hr (Or.inr ⟨_, rfl⟩) (Or.inr ⟨_, rfl⟩) (fun t9 ht9 _ => ⟨⟨some _, _, rfl, ⟨congrArg some ((if_neg c_1).trans (rfl)).symm, rfl⟩, hb9 ht9 hm⟩, hS.F ht9⟩) hS.2.2 dX2_bench_15
  · refine lv_aload_n hx hb dX2_bench_4 rfl (lv_at hl 0 rfl) ?_
    refine gf_206 hx hb hts hown hs hm (lay.z hL) (hts _ q237) dX2_bench_5 ?_
    refine lv_goto (tgt := 15) hx hb dX2_bench_8 (by decide) ?_
    exact W.aret (v := _) hx hb hr (Or.inr ⟨_, rfl⟩) (Or.inr ⟨_, rfl⟩) (fun t9 ht9 _ => ⟨⟨some _, _, rfl, ⟨congrArg some ((if_pos c_1).trans (rfl)).symm, rfl⟩, hb9 ht9 hm⟩, hS.F ht9⟩) hS.2.2 dX2_bench_15
theorem bench_k {t : mt} {M : mm} {c : Nat} {x : Int32} {n : Nat} (hL : lay t c) (h : n = C2_bench t M c x) : t n = (25, 5) ∨ t n = (26, 5) := by
  rw [h]
  unfold C2_bench
  split
  · exact Or.inl hL.a7
  · exact Or.inr hL.a8
def spC (M : mm) (b : Nat) : Nat → Nat → Nat
  | 0, k => k
  | n + 1, k => if gI M 302 (b + 7 + 2 * k) = 0 then k else spC M b n (k + 1)
theorem spC_s {M : mm} {b n k : Nat} (hk : k < n) : spC M b (n - k) k = if gI M 302 (b + 7 + 2 * k) = 0 then k else spC M b (n - (k + 1)) (k + 1) := by
  rw [show n - k = (n - (k + 1)) + 1 by omega]
  rfl
theorem spC_e {Tr : Nat} {M : mm} {b n k : Nat} (h : Tr = spC M b (n - k) k) (e : k = n) : Tr = k := by
  rw [h, e, Nat.sub_self]; rfl
def spB (c : Nat) (x : Int32) : Nat := if x = 0 then c + 5 else c + 6
theorem spB_k {t : mt} {c n : Nat} {x : Int32} (hL : lay t c) (h : n = spB c x) : t n = (31, 18) := by
  rw [h]
  unfold spB
  split
  · exact hL.a5
  · exact hL.a6
theorem spB_p {t : mt} {c n k : Nat} {x : Int32} (hL : lay t c) (h : n = spB c x) (hk : k < 18) : isP t (n + 7 + 2 * k) := by
  rw [h]
  unfold spB
  split
  · left; rw [show c + 5 + 7 + 2 * k = c + 12 + 2 * k by omega]; exact hL.mar hk
  · right; rw [show c + 6 + 7 + 2 * k = c + 13 + 2 * k by omega]; exact hL.bea hk
def C2_spare (t : mt) (M : mm) (c : Nat) (x : Int32) : Nat := spB c x + 7 + 2 * spC M (spB c x) 17 0
set_option maxHeartbeats 4000000 in
theorem cm2_spare (l : Launch) (E : mE) (t : mt) (M : mm) (c : Nat) (x : Int32) (hL : lay t c)  : Met l yX2_spare (ws_ yX2_spare cX2_spare 4 (some (.object "CliffPlots$Plant"))) ({ frames := 0, cells := 0, slots := 0, locals := 0 }) (va_Pc [.ref c, .int x] (wP E t M)) (va_Qq (fun (r : Option Nat) (u : mm) => r = some (C2_spare t M c x) ∧ u = M) (fun u U => mw E t u U.heap) (eA E)) 0 0 (eA E) := by
  refine Met.ofW (cc := cX2_spare) (maxL := 4) (ret := (some (.object "CliffPlots$Plant"))) (by decide) rfl ?_
  intro p e s m args below meth c0 s₁ B hml hv
  obtain ⟨rfl, hs, hm⟩ := hv
  have hx := B.exec
  have hb := B.bytes
  have hr := B.returns
  have hts := atoms_spec (ws := ws_ yX2_spare cX2_spare 4 (some (.object "CliffPlots$Plant"))) B.pre
  have hts : ∀ w ∈ lw_all, w.before _ s = true := fun w h => hts w (List.mem_cons_of_mem _ h)
  have hown : s.vm.findClass RX2 = some m.cls := findClass_of_methodNamed B.named
  have hlocks := B.notSynchronized
  have hS : va_S (eA E) s.heap s.heap [] := va_S.rf
  have hl := lv_entry ([.ref c, .int x]) (n := 4) (Nat.le_of_ble_eq_true rfl)
  rw [lg_entry_eq]
  generalize (lg_sl ([.ref c, .int x]) ++ List.replicate (4 - (lg_sl ([.ref c, .int x])).length) Slot.unset).toArray = ls at hl ⊢
  have hl : lv_has ls 4 [(0, .ref (c)), (1, .int (x))] := hl
  refine lv_iload_n hx hb dX2_spare_0 rfl (lv_at hl 1 rfl) ?_
  refine k_join (fun (x2 : Nat) H locs ls => x2 = (if x = 0 then (c + 5) else (c + 6)) ∧ mw E t (M) H ∧ va_S (eA E) s.heap H locs ∧ lv_has ls 4 [(0, .ref (c)), (1, .int (x))]) (fun (x2 : Nat) ls => F0 m 15 ls [.ref (x2)]) (fun x2 H locs ls hJ => ?_) (fun J2 => ?_)
  · obtain ⟨hX2, hm, hS, hl⟩ := hJ
    refine lv_astore_n (lv' := [(2, _), (0, _), (1, _)]) hx hb dX2_spare_15 rfl hl (by decide) rfl (fun ls hl => ?_)
    refine lv_iconst (v := (0 : Int32)) hx hb dX2_spare_16 (by decide) ?_
    refine lv_istore_n (lv' := [(3, _), (2, _), (0, _), (1, _)]) hx hb dX2_spare_17 rfl hl (by decide) rfl (fun ls hl => ?_)
    refine k_loop (fun k => 17 - k) (fun (k : Nat) H locs ls => (k ≤ 17 ∧ spC M (spB c x) 17 0 = spC M (spB c x) (17 - k) k) ∧ mw E t (M) H ∧ va_S (eA E) s.heap H locs ∧ lv_has ls 4 [(3, .int (nI k)), (2, .ref (x2)), (0, .ref (c)), (1, .int (x))]) (fun (k : Nat) ls => F0 m 18 ls []) (fun k => (0, 0)) (fun k ih_3 H locs ls hP => ?_) (0) ⟨⟨Nat.zero_le _, rfl⟩, hm, hS, lv_sub hl [0, 1, 2, 3] rfl⟩
    obtain ⟨hI_3, hm, hS, hl⟩ := hP
    refine lv_iload_n hx hb dX2_spare_18 rfl (lv_at hl 0 rfl) ?_
    refine lv_bipush (v := (17 : Int32)) hx hb dX2_spare_19 (by decide) ?_
    refine lv_icmp_ge (tgt := 39) hx hb dX2_spare_21 (by decide) (fun c_4 => ?_) (fun c_4 => ?_)
    · have hk18 : k < 18 := by omega
      refine lv_aload_n hx hb dX2_spare_39 rfl (lv_at hl 1 rfl) ?_
      refine lv_iload_n hx hb dX2_spare_40 rfl (lv_at hl 0 rfl) ?_
      refine k_sp hx hb hs hm (spB_k hL hX2) (k := k) (cl_nI (by omega)).symm (vi k (by omega) (by decide)) dX2_spare_41 ?_
      subst hX2
      exact W.aret (v := _) hx hb hr (Or.inl ⟨_, rfl⟩) (Or.inr ⟨_, rfl⟩) (fun t9 ht9 _ => ⟨⟨some _, _, rfl, ⟨congrArg some ((show spB c x + 7 + 2 * spC M (spB c x) 17 0 = spB c x + 7 + 2 * k from by rw [(show spC M (spB c x) 17 0 = k from by first | exact spC_e hI_3.2 (lp_ge (by decide) hI_3.1 c_4) | exact (hI_3.2.trans (spC_s (lp_lt (by decide) hI_3.1 trivial))).trans (if_pos c_4))])).symm, rfl⟩, hb9 ht9 hm⟩, hS.F ht9⟩) hS.2.2 dX2_spare_42
    · have hk : k < 17 := lp_lt (by decide) hI_3.1 c_4
      refine lv_aload_n hx hb dX2_spare_24 rfl (lv_at hl 1 rfl) ?_
      refine lv_iload_n hx hb dX2_spare_25 rfl (lv_at hl 0 rfl) ?_
      refine k_sp hx hb hs hm (spB_k hL hX2) (k := k) (cl_nI (by omega)).symm (vi k (by omega) (by decide)) dX2_spare_26 ?_
      refine gfN_302 hx hb hts hown hs hm (spB_p hL hX2 (by omega)) q137 dX2_spare_27 ?_
      refine lv_if_eq (tgt := 39) hx hb dX2_spare_30 (by decide) (fun c_5 => ?_) (fun c_5 => ?_)
      · have hk18 : k < 18 := by omega
        refine lv_aload_n hx hb dX2_spare_39 rfl (lv_at hl 1 rfl) ?_
        refine lv_iload_n hx hb dX2_spare_40 rfl (lv_at hl 0 rfl) ?_
        refine k_sp hx hb hs hm (spB_k hL hX2) (k := k) (cl_nI (by omega)).symm (vi k (by omega) (by decide)) dX2_spare_41 ?_
        subst hX2
        exact W.aret (v := _) hx hb hr (Or.inl ⟨_, rfl⟩) (Or.inr ⟨_, rfl⟩) (fun t9 ht9 _ => ⟨⟨some _, _, rfl, ⟨congrArg some ((show spB c x + 7 + 2 * spC M (spB c x) 17 0 = spB c x + 7 + 2 * k from by rw [(show spC M (spB c x) 17 0 = k from by first | exact spC_e hI_3.2 (lp_ge (by decide) hI_3.1 c_5) | exact (hI_3.2.trans (spC_s (lp_lt (by decide) hI_3.1 c_4))).trans (if_pos c_5))])).symm, rfl⟩, hb9 ht9 hm⟩, hS.F ht9⟩) hS.2.2 dX2_spare_42
      · refine lv_iinc (v := nI (k + 1)) (lv' := [(3, _), (2, _), (0, _), (1, _)]) hx hb dX2_spare_33 hl (k := 0) rfl (nI_succ k).symm (by decide) rfl (fun ls hl => ?_)
        refine lv_goto (tgt := 18) hx hb dX2_spare_36 (by decide) ?_
        exact ih_3 (k + 1) (by omega) _ _ _ ⟨⟨by omega, (hI_3.2.trans (spC_s hk)).trans (if_neg (by have h9 : x2 = spB c x := hX2; rw [← h9]; exact c_5))⟩, hm, hS, lv_sub hl [0, 1, 2, 3] rfl⟩
  · refine lv_if_ne (tgt := 11) hx hb dX2_spare_1 (by decide) (fun c_1 => ?_) (fun c_1 => ?_)
    · refine lv_aload_n hx hb dX2_spare_11 rfl (lv_at hl 0 rfl) ?_
      refine gf_205 hx hb hts hown hs hm (lay.z hL) (hts _ q236) dX2_spare_12 ?_
      exact J2 ((c + 6)) _ _ _ ⟨((if_neg c_1).trans (rfl)).symm, hm, hS, lv_sub hl [0, 1] rfl⟩
    · refine lv_aload_n hx hb dX2_spare_4 rfl (lv_at hl 0 rfl) ?_
      refine gf_204 hx hb hts hown hs hm (lay.z hL) (hts _ q235) dX2_spare_5 ?_
      refine lv_goto (tgt := 15) hx hb dX2_spare_8 (by decide) ?_
      exact J2 ((c + 5)) _ _ _ ⟨((if_pos c_1).trans (rfl)).symm, hm, hS, lv_sub hl [0, 1] rfl⟩
