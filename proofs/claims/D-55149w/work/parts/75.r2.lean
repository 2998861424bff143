set_option maxRecDepth 100000
/-! the reader: a whole text; what it does -/
/-- reading on, f orders at the most -/
def rdL (t : mt) (c : Nat) : Nat → mm → Int32 × Int32 × mm
  | 0, M => (0, 0, M)
  | f + 1, M => if (C9_order t M c).1 = 0 then (if (C9_skip t (C9_order t M c).2.2 c 59).1 = 0 then (if CJ3_length t (C9_skip t (C9_order t M c).2.2 c 59).2 (c - 2) ≤ gI (C9_skip t (C9_order t M c).2.2 c 59).2 801 c then (0, 0, (C9_skip t (C9_order t M c).2.2 c 59).2) else (1, gI (C9_skip t (C9_order t M c).2.2 c 59).2 801 c, (C9_skip t (C9_order t M c).2.2 c 59).2)) else rdL t c f (C9_skip t (C9_order t M c).2.2 c 59).2) else ((C9_order t M c).1, (C9_order t M c).2.1, (C9_order t M c).2.2)
  termination_by f => f
theorem rdL_s (t : mt) (c f : Nat) (M : mm) : rdL t c (f + 1) M = if (C9_order t M c).1 = 0 then (if (C9_skip t (C9_order t M c).2.2 c 59).1 = 0 then (if CJ3_length t (C9_skip t (C9_order t M c).2.2 c 59).2 (c - 2) ≤ gI (C9_skip t (C9_order t M c).2.2 c 59).2 801 c then (0, 0, (C9_skip t (C9_order t M c).2.2 c 59).2) else (1, gI (C9_skip t (C9_order t M c).2.2 c 59).2 801 c, (C9_skip t (C9_order t M c).2.2 c 59).2)) else rdL t c f (C9_skip t (C9_order t M c).2.2 c 59).2) else ((C9_order t M c).1, (C9_order t M c).2.1, (C9_order t M c).2.2) := by rw [rdL]
def C9_read (t : mt) (M : mm) (c : Nat) : Int32 × Int32 × mm := rdL t c 61 (sI (sI M 801 c (0 : Int32)) 802 c (0 : Int32))
section RL
variable {t : mt} {M y1 u1 u2 : mm} {c n k m b y2 : Nat} {r2 r3 : Int32} {X : Int32 × Int32 × mm}
theorem rd.le (h : rd t M c n k m b) : m + b ≤ 60 := by
  obtain ⟨-, h1, -, a, -, h3, h4⟩ := h
  omega
theorem rd_l1 (hI : rdL t c (61 - y2) y1 = X) (hy : y2 ≤ 60) (c1 : ¬ (C9_order t y1 c).1 = 0) : X = ((C9_order t y1 c).1, (C9_order t y1 c).2.1, (C9_order t y1 c).2.2) := by
  rw [← hI, show 61 - y2 = (60 - y2) + 1 by omega, rdL_s, if_neg c1]
theorem rd_l2 (hI : rdL t c (61 - y2) y1 = X) (hy : y2 ≤ 60) (hu1 : u1 = (C9_order t y1 c).2.2) (c1 : (C9_order t y1 c).1 = 0) (hr2 : r2 = (C9_skip t u1 c 59).1) (hu2 : u2 = (C9_skip t u1 c 59).2) (c2 : r2 = 0) (hr3 : r3 = CJ3_length t u2 (c - 2)) : X = if r3 ≤ gI u2 801 c then (0, 0, u2) else (1, gI u2 801 c, u2) := by
  rw [← hI, show 61 - y2 = (60 - y2) + 1 by omega, rdL_s, if_pos c1, ← hu1, if_pos (by rw [← hr2]; exact c2), ← hu2, ← hr3]
theorem rd_l3 (hI : rdL t c (61 - y2) y1 = X) (hy : y2 ≤ 60) (hu1 : u1 = (C9_order t y1 c).2.2) (c1 : (C9_order t y1 c).1 = 0) (hr2 : r2 = (C9_skip t u1 c 59).1) (hu2 : u2 = (C9_skip t u1 c 59).2) (c2 : ¬ r2 = 0) : rdL t c (61 - (y2 + 1)) u2 = X := by
  rw [← hI, show 61 - y2 = (60 - y2) + 1 by omega, rdL_s, if_pos c1, ← hu1, if_neg (by rw [← hr2]; exact c2), ← hu2, show 61 - (y2 + 1) = 60 - y2 by omega]
theorem rd_start (h : sbP t M (c - 2) n k) (hk : k ≤ 60) : rd t (sI (sI M 801 c (0 : Int32)) 802 c (0 : Int32)) c n k 0 0 := by
  obtain ⟨g1, g2, g3, g4, g5⟩ := h
  refine ⟨⟨g1, g2, g3, ?_, ?_⟩, hk, gI_sI_at _ _ _ _, 0, ?_, by omega, by omega⟩
  · rw [gI_sI_f _ _ _ _ (by decide), gI_sI_f _ _ _ _ (by decide)]; exact g4
  · rw [gI_sI_f _ _ _ _ (by decide), gI_sI_f _ _ _ _ (by decide)]; exact g5
  · rw [gI_sI_f _ _ _ _ (by decide), gI_sI_at]; rfl
end RL
set_option maxHeartbeats 4000000 in
theorem cm9_read (l : Launch) (E : mE) (hl9 : l.stackTraces = false) (t : mt) (M : mm) (c : Nat)  (hR : layR t c) (n k : Nat) (hB : sbP t M (c - 2) n k) (hk60 : k ≤ 60) : vx_Met l yX9_read (ws_ yX9_read cX9_read 1 none) ({ frames := 11, cells := 430, slots := 3000, locals := 223 }) (va_Pc [.ref c] (wP E t M)) (va_Qv (fun (u : mm) => (C9_read t M c ).1 = 0 ∧ u = (C9_read t M c ).2.2) (fun u U => mw E t u U.heap) (eA E)) (vx_X (fun (u : mm) => ¬ (C9_read t M c ).1 = 0 ∧ u = (C9_read t M c ).2.2) (fun En q u U => XF E t (C9_read t M c ).2.1 En q u U.heap) (eA E)) 430 3000 (eA E) := by
  refine vx_ofW (cc := cX9_read) (maxL := 1) (ret := none) (by decide) rfl ?_
  intro p e s m args below meth c0 s₁ B hml hno hv
  obtain ⟨rfl, hs, hm⟩ := hv
  have hx := B.exec
  have hb := B.bytes
  have hr := B.returns
  have hts := atoms_spec (ws := ws_ yX9_read cX9_read 1 none) B.pre
  have hts : ∀ w ∈ lw_all, w.before _ s = true := fun w h => hts w (List.mem_cons_of_mem _ h)
  have hown : s.vm.findClass RX9 = some m.cls := findClass_of_methodNamed B.named
  have hlocks := B.notSynchronized
  have hout : ∀ pc : Nat, ∀ x ∈ c0.exceptionTable.toList, covers x pc = false := fun _ x h => (hno x h).elim
  have hS : va_S (eA E) s.heap s.heap [] := va_S.rf
  have hl := lv_entry ([.ref c]) (n := 1) (Nat.le_of_ble_eq_true rfl)
  rw [lg_entry_eq]
  generalize (lg_sl ([.ref c]) ++ List.replicate (1 - (lg_sl ([.ref c])).length) Slot.unset).toArray = ls at hl ⊢
  have hl : lv_has ls 1 [(0, .ref (c))] := hl
  refine lv_aload_n hx hb dX9_read_0 rfl (lv_at hl 0 rfl) ?_
  refine lv_iconst (v := (0 : Int32)) hx hb dX9_read_1 (by decide) ?_
  refine pf_801 hx hb hts hown hs hm hS hR.z (hts _ q367) dX9_read_2 (fun H locs hm hS => ?_)
  have hm : mw E t ((sI M 801 c (0 : Int32))) H := hm
  refine lv_aload_n hx hb dX9_read_5 rfl (lv_at hl 0 rfl) ?_
  refine lv_iconst (v := (0 : Int32)) hx hb dX9_read_6 (by decide) ?_
  refine pf_802 hx hb hts hown hs hm hS hR.z (hts _ q368) dX9_read_7 (fun H locs hm hS => ?_)
  have hm : mw E t ((sI (sI M 801 c (0 : Int32)) 802 c (0 : Int32))) H := hm
  refine k_loop (fun y => 61 - y.2) (fun (y : mm × Nat) H locs ls => (rd t y.1 c n k y.2 0 ∧ rdL t c (61 - y.2) y.1 = C9_read t M c) ∧ mw E t (y.1) H ∧ va_S (eA E) s.heap H locs ∧ lv_has ls 1 [(0, .ref (c))]) (fun (y : mm × Nat) ls => F0 m 10 ls []) (fun y => (7 * y.2, 49 * y.2)) (fun y ih_1 H locs ls hP => ?_) (((sI (sI M 801 c (0 : Int32)) 802 c (0 : Int32)), 0)) ⟨⟨rd_start hB hk60, rfl⟩, hm, hS, lv_sub hl [0] rfl⟩
  obtain ⟨hI_1, hm, hS, hl⟩ := hP
  have hy60 : y.2 ≤ 60 := hI_1.1.le
  refine lv_aload_n hx hb dX9_read_10 rfl (lv_at hl 0 rfl) ?_
  refine kx_callv (BX := fun En q u H => XF E t (C9_order t y.1 (c) ).2.1 En q u H) (vx_runV (As := []) (rest := []) ⟨hx, hb, hml, hown, hts⟩ (cm9_order l E hl9 t y.1  (c)  hR n k y.2 0 hI_1.1 (by decide)) (cwV 0 hts (lw_V q1361 q1363 qs14 q72 q1364) rfl rfl rfl (by decide +kernel) ⟨Nat.le_of_ble_eq_true rfl, Nat.le_of_ble_eq_true rfl⟩) (k_preV hs hm hS (mw.recv hs hm (mt_ne hR.z (by decide)) (ct8 hR.z) rfl)) rfl rfl hl.1 rfl (lv_room (Nat.le_of_ble_eq_true rfl)) dX9_read_11 ⟨(show 7 * y.2 + 7 ≤ 430 from by omega), (show 49 * y.2 + 49 ≤ 3000 from by omega)⟩) hS (fun En_2 ce_2 q_2 u9_2 H locs hp_2 hB_2 hS h1_2 h2_2 h3_2 => ?_) (fun u_2 H locs hw_2 hm_2 hS => ?_)
  · obtain ⟨c_2, hu9_2⟩ := hp_2
    replace hu9_2 := hu9_2.symm
    subst hu9_2
    have e9 : C9_read t M c  = ((C9_order t y.1 (c) ).1, (C9_order t y.1 (c) ).2.1, (C9_order t y.1 (c) ).2.2) := (rd_l1 hI_1.2 hy60 c_2)
    exact kx_out (BX := fun En q u H => XF E t (C9_read t M c ).2.1 En q u H) (u := (C9_order t y.1 (c) ).2.2) (fun x h => (hno x h).elim) hlocks (xf_leafv e9 c_2 hB_2).1 (xf_leafv e9 c_2 hB_2).2 hS h1_2 h2_2 h3_2 ((show 7 * y.2 + 7 ≤ 430 from by omega)) ((show 49 * y.2 + 49 ≤ 3000 from by omega))
  · obtain ⟨c_2, hu_2⟩ := hw_2
    have hm := hm_2
    have hbz : rd t u_2 c n k (y.2 + 1) 0 := by rw [hu_2]; exact corder_rd hI_1.1 (by decide) c_2
    refine lv_aload_n hx hb dX9_read_14 rfl (lv_at hl 0 rfl) ?_
    refine lv_bipush (v := (59 : Int32)) hx hb dX9_read_15 (by decide) ?_
    refine k_calli (va_runV (As := [.int ((59 : Int32))]) (rest := []) ⟨hx, hb, hml, hown, hts⟩ (cm9_skip l E t u_2  (c) ((59 : Int32)) hR n k (y.2 + 1) 0 hbz) (cwV 1 hts (lw_V q1365 q1367 qs15 q72 q1368) rfl rfl rfl (by decide +kernel) ⟨Nat.le_of_ble_eq_true rfl, Nat.le_of_ble_eq_true rfl⟩) (k_preV hs hm hS (mw.recv hs hm (mt_ne hR.z (by decide)) (ct8 hR.z) rfl)) rfl rfl hl.1 rfl (lv_room (Nat.le_of_ble_eq_true rfl)) dX9_read_17 ⟨(show 7 * y.2 + 7 ≤ 430 from by omega), (show 49 * y.2 + 49 ≤ 3000 from by omega)⟩) hS (fun r_3 u_3 H locs hw_3 hm_3 hS => ?_)
    obtain ⟨hr_3, hu_3⟩ := hw_3
    have hm := hm_3
    refine lv_if_ne (tgt := 10) hx hb dX9_read_20 (by decide) (fun c_4 => ?_) (fun c_4 => ?_)
    · exact ih_1 ((u_3, y.2 + 1)) ((show 61 - (y.2 + 1) < 61 - y.2 from by omega)) _ _ _ ⟨⟨(show rd t u_3 c n k (y.2 + 1) 0 from by rw [hu_3]; exact (cskip_rd hbz (by decide) (x := (59 : Int32)) (by decide)).1), rd_l3 hI_1.2 hy60 hu_2 c_2 hr_3 hu_3 c_4⟩, hm, hS, lv_sub hl [0] rfl⟩
    · refine lv_aload_n hx hb dX9_read_23 rfl (lv_at hl 0 rfl) ?_
      refine gf_801 hx hb hts hown hs hm hR.z (hts _ q367) dX9_read_24 ?_
      refine lv_aload_n hx hb dX9_read_27 rfl (lv_at hl 0 rfl) ?_
      refine gf_800 hx hb hts hown hs hm hR.z (hts _ q366) dX9_read_28 ?_
      refine k_calli (va_runV (As := []) (rest := [.int ((gI u_3 801 c))]) ⟨hx, hb, hml, hown, hts⟩ (cmJ3_length l E t u_3  ((c - 2))  hR.2.2.2.2.1 ) (cwV 0 hts (lw_V q1373 q1250 q1251 q69 q1252) rfl rfl rfl (by decide +kernel) ⟨Nat.le_of_ble_eq_true rfl, Nat.le_of_ble_eq_true rfl⟩) (k_preV hs hm hS (mw.recv hs hm (mt_ne hR.2.2.2.2.1 (by decide)) (ct11 hR.2.2.2.2.1) rfl)) rfl rfl hl.1 rfl (lv_room (Nat.le_of_ble_eq_true rfl)) dX9_read_31 ⟨(show 7 * y.2 + 7 ≤ 430 from by omega), (show 49 * y.2 + 49 ≤ 3000 from by omega)⟩) hS (fun r_5 u_5 H locs hw_5 hm_5 hS => ?_)
      obtain ⟨hr_5, hu_5⟩ := hw_5
      replace hu_5 := hu_5.symm
      subst hu_5
      have hm := hm_5
      refine lv_icmp_ge (tgt := 49) hx hb dX9_read_34 (by decide) (fun c_6 => ?_) (fun c_6 => ?_)
      · refine vx_ret ?_
        refine W.widen (k := 430) (n := 3000) ((show 7 * y.2 + 7 ≤ 430 from by omega)) ((show 49 * y.2 + 49 ≤ 3000 from by omega)) ?_
        exact W.vret hx hb hr (fun t9 ht9 _ => ⟨⟨_, rfl, pp4v ((rd_l2 hI_1.2 hy60 hu_2 c_2 hr_3 hu_3 c_4 hr_5).trans (if_pos c_6)), hb9 ht9 hm⟩, hS.F ht9⟩) hS.2.2 dX9_read_49
      · have hfX : s.vm.findClass RX12 = some (E.1.1 20) := (hs.2.1.1 20 _ rfl).2.1
        refine k_newX hx hb hown (hts _ q1391) (hts _ q1392) (hts _ q93) hs hm hS hfX ((show 7 * y.2 + 7 + 1 ≤ 430 from by omega)) ((show 49 * y.2 + 49 + 7 ≤ 3000 from by omega)) dX9_read_37 (fun q_7 H kX hkX hbl hq0 hqA hm hS => ?_)
        refine lv_dup hx hb dX9_read_40 rfl ?_
        refine lv_aload_n hx hb dX9_read_41 rfl (lv_at hl 0 rfl) ?_
        refine gf_801 hx hb hts hown hs hm hR.z (hts _ q367) dX9_read_42 ?_
        refine k_callv (B := fun (u : mm) H => mw E (m1 t q_7 (12, 0)) u H) (va_runI (As := [.int (gI u_3 801 c)]) (rest := [.ref q_7]) ⟨hx, hb, hml, hown, hts⟩ (cm12_init l E hl9 t (u_3) q_7 (gI u_3 801 c)) (cwI 1 hts (lw_meth q1402) rfl rfl rfl (hts _ q93) (hts _ q1400) (hts _ q1401) rfl (by decide +kernel) ⟨Nat.le_of_ble_eq_true rfl, Nat.le_of_ble_eq_true rfl⟩) (k_preX hs hm hS hkX hbl hq0 hqA) rfl rfl hl.1 rfl (lv_room (Nat.le_of_ble_eq_true rfl)) dX9_read_45 ⟨(show 7 * y.2 + 7 + 1 ≤ 430 from by omega), (show 49 * y.2 + 49 + 7 ≤ 3000 from by omega)⟩) hS (fun u9 H locs hu9 hm hS => ?_)
        subst hu9
        refine vx_athrow hx hb dX9_read_48 ?_
        have htq : m1 t q_7 (12, 0) q_7 = (12, 0) := m1_at t q_7 (12, 0)
        obtain ⟨ce, h1_8, h2_8, h3_8⟩ := kx_cell hs ((ct12 htq : _) ▸ hm.one (mt_ne htq (by decide))) (show clA[20]? = some (RX12, TXF, 1) from rfl)
        have hB9 : XF E t (gI u_3 801 c) "CliffPlots$Fault" q_7 (u_3) H := ⟨rfl, hq0, hm⟩
        have e9 : C9_read t M c  = ((1 : Int32), (gI u_3 801 c), u_3) := (rd_l2 hI_1.2 hy60 hu_2 c_2 hr_3 hu_3 c_4 hr_5).trans (if_neg c_6)
        exact kx_out (BX := fun En q u H => XF E t (C9_read t M c ).2.1 En q u H) (u := u_3) (fun x h => (hno x h).elim) hlocks (xf_leafv e9 (by decide) hB9).1 (xf_leafv e9 (by decide) hB9).2 hS h1_8 h2_8 h3_8 ((show 7 * y.2 + 7 + 1 ≤ 430 from by omega)) ((show 49 * y.2 + 49 + 7 ≤ 3000 from by omega))
def C9_isRight (t : mt) (M : mm) (c : Nat) (d : Nat) (x : Int32) : Int32 :=
  if (aI M (c + 1) (x).toNatClampNeg) = (99 : Int32) then
    (1 : Int32)
  else
    if (aI M (c + 1) (x).toNatClampNeg) = (100 : Int32) then
      let r_3 := C2_isMember t M (d) ((aI M (c + 2) (x).toNatClampNeg));
      if r_3 = 0 then
        (0 : Int32)
      else
        let r_5 := C1_isPlot ((aI M (c + 3) (x).toNatClampNeg));
        if r_5 = 0 then
          (0 : Int32)
        else
          (1 : Int32)
    else
      if (aI M (c + 1) (x).toNatClampNeg) = (110 : Int32) then
        let r_8 := C1_in ((aI M (c + 2) (x).toNatClampNeg)) ((0 : Int32)) ((20 : Int32));
        r_8
      else
        if (aI M (c + 1) (x).toNatClampNeg) = (112 : Int32) then
          let r_10 := C1_in ((aI M (c + 2) (x).toNatClampNeg)) ((1 : Int32)) ((60 : Int32));
          r_10
        else
          if (aI M (c + 1) (x).toNatClampNeg) = (119 : Int32) then
            let r_12 := C1_in ((aI M (c + 2) (x).toNatClampNeg)) ((0 : Int32)) ((12 : Int32));
            r_12
          else
            let r_13 := C2_isMember t M (d) ((aI M (c + 2) (x).toNatClampNeg));
            r_13
set_option maxHeartbeats 4000000 in
theorem cm9_isRight (l : Launch) (E : mE) (t : mt) (M : mm) (c : Nat) (d : Nat) (x : Int32) (hR : layR t c) (hD : lay t d) (hx1 : ix 60 x) : Met l yX9_isRight (ws_ yX9_isRight cX9_isRight 3 (some .boolean)) ({ frames := 2, cells := 0, slots := 0, locals := 43 }) (va_Pc [.ref c, .ref d, .int x] (wP E t M)) (va_Qi (fun (r : Int32) (u : mm) => r = (C9_isRight t M c d x) ∧ u = M) (fun u U => mw E t u U.heap) (eA E)) 0 0 (eA E) := by
  refine Met.ofW (cc := cX9_isRight) (maxL := 3) (ret := (some .boolean)) (by decide) rfl ?_
  intro p e s m args below meth c0 s₁ B hml hv
  obtain ⟨rfl, hs, hm⟩ := hv
  have hx := B.exec
  have hb := B.bytes
  have hr := B.returns
  have hts := atoms_spec (ws := ws_ yX9_isRight cX9_isRight 3 (some .boolean)) B.pre
  have hts : ∀ w ∈ lw_all, w.before _ s = true := fun w h => hts w (List.mem_cons_of_mem _ h)
  have hown : s.vm.findClass RX9 = some m.cls := findClass_of_methodNamed B.named
  have hlocks := B.notSynchronized
  have hS : va_S (eA E) s.heap s.heap [] := va_S.rf
  have hl := lv_entry ([.ref c, .ref d, .int x]) (n := 3) (Nat.le_of_ble_eq_true rfl)
  rw [lg_entry_eq]
  generalize (lg_sl ([.ref c, .ref d, .int x]) ++ List.replicate (3 - (lg_sl ([.ref c, .ref d, .int x])).length) Slot.unset).toArray = ls at hl ⊢
  have hl : lv_has ls 3 [(0, .ref (c)), (1, .ref (d)), (2, .int (x))] := hl
  refine lv_aload_n hx hb dX9_isRight_0 rfl (lv_at hl 0 rfl) ?_
  refine gf_803 hx hb hts hown hs hm hR.z (hts _ q370) dX9_isRight_1 ?_
  refine lv_iload_n hx hb dX9_isRight_4 rfl (lv_at hl 2 rfl) ?_
  refine k_cald hx hb hs hm hR.2.1 (ix.at (B := 60) ((hx1).mono (by decide)) (by decide)) dX9_isRight_5 ?_
  by_cases c_1 : (aI M (c + 1) (x).toNatClampNeg) = (99 : Int32)
  · refine lv_lookup (off := 107) (tgt := 113) hx hb dX9_isRight_6 (by decide) (by rw [c_1]; decide) (by decide) ?_
    refine lv_iconst (v := (1 : Int32)) hx hb dX9_isRight_113 (by decide) ?_
    exact W.zret (v := _) hx hb hr rfl (fun t9 ht9 _ => ⟨⟨_, _, rfl, ⟨((if_pos c_1).trans (rfl)).symm, rfl⟩, hb9 ht9 hm⟩, hS.F ht9⟩) hS.2.2 dX9_isRight_114
  · by_cases c_2 : (aI M (c + 1) (x).toNatClampNeg) = (100 : Int32)
    · refine lv_lookup (off := 50) (tgt := 56) hx hb dX9_isRight_6 (by decide) (by rw [c_2]; decide) (by decide) ?_
      refine lv_aload_n hx hb dX9_isRight_56 rfl (lv_at hl 1 rfl) ?_
      refine lv_aload_n hx hb dX9_isRight_57 rfl (lv_at hl 0 rfl) ?_
      refine gf_804 hx hb hts hown hs hm hR.z (hts _ q371) dX9_isRight_58 ?_
      refine lv_iload_n hx hb dX9_isRight_61 rfl (lv_at hl 2 rfl) ?_
      refine k_iald hx hb hs hm hR.2.2.1 (ix.at (B := 60) ((hx1).mono (by decide)) (by decide)) dX9_isRight_62 ?_
      refine k_calli (va_runV (As := [.int ((aI M (c + 2) (x).toNatClampNeg))]) (rest := []) ⟨hx, hb, hml, hown, hts⟩ (cm2_isMember l E t M  (d) ((aI M (c + 2) (x).toNatClampNeg)) hD ) (cwV 1 hts (lw_V q1604 q834 q835 q59 q836) rfl rfl rfl (by decide +kernel) ⟨Nat.le_of_ble_eq_true rfl, Nat.le_of_ble_eq_true rfl⟩) (k_preV hs hm hS (mw.recv hs hm (mt_ne (lay.z hD) (by decide)) (ct2 (lay.z hD)) rfl)) rfl rfl hl.1 rfl (lv_room (Nat.le_of_ble_eq_true rfl)) dX9_isRight_63 ⟨Nat.le_of_ble_eq_true rfl, Nat.le_of_ble_eq_true rfl⟩) hS (fun r_3 u_3 H locs hw_3 hm_3 hS => ?_)
      obtain ⟨hr_3, hu_3⟩ := hw_3
      replace hu_3 := hu_3.symm
      subst hu_3
      have hm := hm_3
      refine lv_if_eq (tgt := 85) hx hb dX9_isRight_66 (by decide) (fun c_4 => ?_) (fun c_4 => ?_)
      · refine lv_iconst (v := (0 : Int32)) hx hb dX9_isRight_85 (by decide) ?_
        subst hr_3
        exact W.zret (v := _) hx hb hr rfl (fun t9 ht9 _ => ⟨⟨_, _, rfl, ⟨((if_neg c_1).trans ((if_pos c_2).trans ((if_pos c_4).trans (rfl)))).symm, rfl⟩, hb9 ht9 hm⟩, hS.F ht9⟩) hS.2.2 dX9_isRight_86
      · refine lv_aload_n hx hb dX9_isRight_69 rfl (lv_at hl 0 rfl) ?_
        refine gf_805 hx hb hts hown hs hm hR.z (hts _ q372) dX9_isRight_70 ?_
        refine lv_iload_n hx hb dX9_isRight_73 rfl (lv_at hl 2 rfl) ?_
        refine k_iald hx hb hs hm hR.2.2.2.1 (ix.at (B := 60) ((hx1).mono (by decide)) (by decide)) dX9_isRight_74 ?_
        refine k_calli (va_runSN (As := [.int ((aI M (c + 3) (x).toNatClampNeg))]) (rest := []) ⟨hx, hb, hml, hown, hts⟩ (cm1_isPlot l E ((aI M (c + 3) (x).toNatClampNeg)) _) (⟨va_cnB 1 hts (lw_meth q840) rfl rfl rfl (hs.2.2.1 _ q1605 rfl) (hts _ q58) (by decide +kernel) ⟨Nat.le_of_ble_eq_true rfl, Nat.le_of_ble_eq_true rfl⟩, hts _ q839, trivial⟩) (k_pure hs hS) rfl rfl hl.1 rfl (lv_room (Nat.le_of_ble_eq_true rfl)) dX9_isRight_75 ⟨Nat.le_of_ble_eq_true rfl, Nat.le_of_ble_eq_true rfl⟩) hS (fun r_5 u_5 H9 locs hw_5 hm_5 hS => ?_)
        replace hm_5 : _ = H9 := Eq.symm hm_5
        subst hm_5
        have hr_5 := hw_5
        refine lv_if_eq (tgt := 85) hx hb dX9_isRight_78 (by decide) (fun c_6 => ?_) (fun c_6 => ?_)
        · refine lv_iconst (v := (0 : Int32)) hx hb dX9_isRight_85 (by decide) ?_
          subst hr_5
          subst hr_3
          exact W.zret (v := _) hx hb hr rfl (fun t9 ht9 _ => ⟨⟨_, _, rfl, ⟨((if_neg c_1).trans ((if_pos c_2).trans ((if_neg c_4).trans ((if_pos c_6).trans (rfl))))).symm, rfl⟩, hb9 ht9 hm⟩, hS.F ht9⟩) hS.2.2 dX9_isRight_86
        · refine lv_iconst (v := (1 : Int32)) hx hb dX9_isRight_81 (by decide) ?_
          refine lv_goto (tgt := 86) hx hb dX9_isRight_82 (by decide) ?_
          subst hr_5
          subst hr_3
          exact W.zret (v := _) hx hb hr rfl (fun t9 ht9 _ => ⟨⟨_, _, rfl, ⟨((if_neg c_1).trans ((if_pos c_2).trans ((if_neg c_4).trans ((if_neg c_6).trans (rfl))))).symm, rfl⟩, hb9 ht9 hm⟩, hS.F ht9⟩) hS.2.2 dX9_isRight_86
    · by_cases c_7 : (aI M (c + 1) (x).toNatClampNeg) = (110 : Int32)
      · refine lv_lookup (off := 94) (tgt := 100) hx hb dX9_isRight_6 (by decide) (by rw [c_7]; decide) (by decide) ?_
        refine lv_aload_n hx hb dX9_isRight_100 rfl (lv_at hl 0 rfl) ?_
        refine gf_804 hx hb hts hown hs hm hR.z (hts _ q371) dX9_isRight_101 ?_
        refine lv_iload_n hx hb dX9_isRight_104 rfl (lv_at hl 2 rfl) ?_
        refine k_iald hx hb hs hm hR.2.2.1 (ix.at (B := 60) ((hx1).mono (by decide)) (by decide)) dX9_isRight_105 ?_
        refine lv_iconst (v := (0 : Int32)) hx hb dX9_isRight_106 (by decide) ?_
        refine lv_bipush (v := (20 : Int32)) hx hb dX9_isRight_107 (by decide) ?_
        refine k_calli (va_runSN (As := [.int ((aI M (c + 2) (x).toNatClampNeg)), .int ((0 : Int32)), .int ((20 : Int32))]) (rest := []) ⟨hx, hb, hml, hown, hts⟩ (cm1_in l E ((aI M (c + 2) (x).toNatClampNeg)) ((0 : Int32)) ((20 : Int32)) _) (⟨va_cnB 3 hts (lw_meth q701) rfl rfl rfl (hs.2.2.1 _ q1390 rfl) (hts _ q58) (by decide +kernel) ⟨Nat.le_of_ble_eq_true rfl, Nat.le_of_ble_eq_true rfl⟩, hts _ q700, trivial⟩) (k_pure hs hS) rfl rfl hl.1 rfl (lv_room (Nat.le_of_ble_eq_true rfl)) dX9_isRight_109 ⟨Nat.le_of_ble_eq_true rfl, Nat.le_of_ble_eq_true rfl⟩) hS (fun r_8 u_8 H9 locs hw_8 hm_8 hS => ?_)
        replace hm_8 : _ = H9 := Eq.symm hm_8
        subst hm_8
        have hr_8 := hw_8
        subst hr_8
        exact W.zret (v := _) hx hb hr (Tz__in _ _ _) (fun t9 ht9 _ => ⟨⟨_, _, rfl, ⟨((if_neg c_1).trans ((if_neg c_2).trans ((if_pos c_7).trans (rfl)))).symm, rfl⟩, hb9 ht9 hm⟩, hS.F ht9⟩) hS.2.2 dX9_isRight_112
      · by_cases c_9 : (aI M (c + 1) (x).toNatClampNeg) = (112 : Int32)
        · refine lv_lookup (off := 109) (tgt := 115) hx hb dX9_isRight_6 (by decide) (by rw [c_9]; decide) (by decide) ?_
          refine lv_aload_n hx hb dX9_isRight_115 rfl (lv_at hl 0 rfl) ?_
          refine gf_804 hx hb hts hown hs hm hR.z (hts _ q371) dX9_isRight_116 ?_
          refine lv_iload_n hx hb dX9_isRight_119 rfl (lv_at hl 2 rfl) ?_
          refine k_iald hx hb hs hm hR.2.2.1 (ix.at (B := 60) ((hx1).mono (by decide)) (by decide)) dX9_isRight_120 ?_
          refine lv_iconst (v := (1 : Int32)) hx hb dX9_isRight_121 (by decide) ?_
          refine lv_bipush (v := (60 : Int32)) hx hb dX9_isRight_122 (by decide) ?_
          refine k_calli (va_runSN (As := [.int ((aI M (c + 2) (x).toNatClampNeg)), .int ((1 : Int32)), .int ((60 : Int32))]) (rest := []) ⟨hx, hb, hml, hown, hts⟩ (cm1_in l E ((aI M (c + 2) (x).toNatClampNeg)) ((1 : Int32)) ((60 : Int32)) _) (⟨va_cnB 3 hts (lw_meth q701) rfl rfl rfl (hs.2.2.1 _ q1390 rfl) (hts _ q58) (by decide +kernel) ⟨Nat.le_of_ble_eq_true rfl, Nat.le_of_ble_eq_true rfl⟩, hts _ q700, trivial⟩) (k_pure hs hS) rfl rfl hl.1 rfl (lv_room (Nat.le_of_ble_eq_true rfl)) dX9_isRight_124 ⟨Nat.le_of_ble_eq_true rfl, Nat.le_of_ble_eq_true rfl⟩) hS (fun r_10 u_10 H9 locs hw_10 hm_10 hS => ?_)
          replace hm_10 : _ = H9 := Eq.symm hm_10
          subst hm_10
          have hr_10 := hw_10
          subst hr_10
          exact W.zret (v := _) hx hb hr (Tz__in _ _ _) (fun t9 ht9 _ => ⟨⟨_, _, rfl, ⟨((if_neg c_1).trans ((if_neg c_2).trans ((if_neg c_7).trans ((if_pos c_9).trans (rfl))))).symm, rfl⟩, hb9 ht9 hm⟩, hS.F ht9⟩) hS.2.2 dX9_isRight_127
        · by_cases c_11 : (aI M (c + 1) (x).toNatClampNeg) = (119 : Int32)
          · refine lv_lookup (off := 81) (tgt := 87) hx hb dX9_isRight_6 (by decide) (by rw [c_11]; decide) (by decide) ?_
            refine lv_aload_n hx hb dX9_isRight_87 rfl (lv_at hl 0 rfl) ?_
            refine gf_804 hx hb hts hown hs hm hR.z (hts _ q371) dX9_isRight_88 ?_
            refine lv_iload_n hx hb dX9_isRight_91 rfl (lv_at hl 2 rfl) ?_
            refine k_iald hx hb hs hm hR.2.2.1 (ix.at (B := 60) ((hx1).mono (by decide)) (by decide)) dX9_isRight_92 ?_
            refine lv_iconst (v := (0 : Int32)) hx hb dX9_isRight_93 (by decide) ?_
            refine lv_bipush (v := (12 : Int32)) hx hb dX9_isRight_94 (by decide) ?_
            refine k_calli (va_runSN (As := [.int ((aI M (c + 2) (x).toNatClampNeg)), .int ((0 : Int32)), .int ((12 : Int32))]) (rest := []) ⟨hx, hb, hml, hown, hts⟩ (cm1_in l E ((aI M (c + 2) (x).toNatClampNeg)) ((0 : Int32)) ((12 : Int32)) _) (⟨va_cnB 3 hts (lw_meth q701) rfl rfl rfl (hs.2.2.1 _ q1390 rfl) (hts _ q58) (by decide +kernel) ⟨Nat.le_of_ble_eq_true rfl, Nat.le_of_ble_eq_true rfl⟩, hts _ q700, trivial⟩) (k_pure hs hS) rfl rfl hl.1 rfl (lv_room (Nat.le_of_ble_eq_true rfl)) dX9_isRight_96 ⟨Nat.le_of_ble_eq_true rfl, Nat.le_of_ble_eq_true rfl⟩) hS (fun r_12 u_12 H9 locs hw_12 hm_12 hS => ?_)
            replace hm_12 : _ = H9 := Eq.symm hm_12
            subst hm_12
            have hr_12 := hw_12
            subst hr_12
            exact W.zret (v := _) hx hb hr (Tz__in _ _ _) (fun t9 ht9 _ => ⟨⟨_, _, rfl, ⟨((if_neg c_1).trans ((if_neg c_2).trans ((if_neg c_7).trans ((if_neg c_9).trans ((if_pos c_11).trans (rfl)))))).symm, rfl⟩, hb9 ht9 hm⟩, hS.F ht9⟩) hS.2.2 dX9_isRight_99
          · refine lv_lookup (off := 122) (tgt := 128) hx hb dX9_isRight_6 (by decide) (lk_c rfl c_1 (lk_c rfl c_2 (lk_c rfl c_7 (lk_c rfl c_9 (lk_c rfl c_11 (rfl)))))) (by decide) ?_
            refine lv_aload_n hx hb dX9_isRight_128 rfl (lv_at hl 1 rfl) ?_
            refine lv_aload_n hx hb dX9_isRight_129 rfl (lv_at hl 0 rfl) ?_
            refine gf_804 hx hb hts hown hs hm hR.z (hts _ q371) dX9_isRight_130 ?_
            refine lv_iload_n hx hb dX9_isRight_133 rfl (lv_at hl 2 rfl) ?_
            refine k_iald hx hb hs hm hR.2.2.1 (ix.at (B := 60) ((hx1).mono (by decide)) (by decide)) dX9_isRight_134 ?_
            refine k_calli (va_runV (As := [.int ((aI M (c + 2) (x).toNatClampNeg))]) (rest := []) ⟨hx, hb, hml, hown, hts⟩ (cm2_isMember l E t M  (d) ((aI M (c + 2) (x).toNatClampNeg)) hD ) (cwV 1 hts (lw_V q1604 q834 q835 q59 q836) rfl rfl rfl (by decide +kernel) ⟨Nat.le_of_ble_eq_true rfl, Nat.le_of_ble_eq_true rfl⟩) (k_preV hs hm hS (mw.recv hs hm (mt_ne (lay.z hD) (by decide)) (ct2 (lay.z hD)) rfl)) rfl rfl hl.1 rfl (lv_room (Nat.le_of_ble_eq_true rfl)) dX9_isRight_135 ⟨Nat.le_of_ble_eq_true rfl, Nat.le_of_ble_eq_true rfl⟩) hS (fun r_13 u_13 H locs hw_13 hm_13 hS => ?_)
            obtain ⟨hr_13, hu_13⟩ := hw_13
            replace hu_13 := hu_13.symm
            subst hu_13
            have hm := hm_13
            subst hr_13
            exact W.zret (v := _) hx hb hr (Tz_C2_isMember _ _ _ _) (fun t9 ht9 _ => ⟨⟨_, _, rfl, ⟨((if_neg c_1).trans ((if_neg c_2).trans ((if_neg c_7).trans ((if_neg c_9).trans ((if_neg c_11).trans (rfl)))))).symm, rfl⟩, hb9 ht9 hm⟩, hS.F ht9⟩) hS.2.2 dX9_isRight_138
theorem Tz_C9_isRight (t : mt) (M : mm) (c : Nat) (d : Nat) (x : Int32) : narrow .boolean (.int (C9_isRight t M c d x)) = .int (C9_isRight t M c d x) := by
  unfold C9_isRight
  try dsimp only
  (repeat' split) <;> first | rfl | exact Tz__in _ _ _
section CR
variable {t : mt} {M : mm} {c d : Nat} {x : Int32}
theorem cr_m (hi : ¬ C9_isRight t M c d x = 0) (h1 : ¬ aI M (c + 1) x.toNatClampNeg = 99) (h2 : ¬ aI M (c + 1) x.toNatClampNeg = 100) (h3 : ¬ aI M (c + 1) x.toNatClampNeg = 110) (h4 : ¬ aI M (c + 1) x.toNatClampNeg = 112) (h5 : ¬ aI M (c + 1) x.toNatClampNeg = 119) : ¬ C2_isMember t M d (aI M (c + 2) x.toNatClampNeg) = 0 := by
  unfold C9_isRight at hi
  rw [if_neg h1, if_neg h2, if_neg h3, if_neg h4, if_neg h5] at hi
  exact hi
theorem cr_d (hw : wfK M d) (hi : ¬ C9_isRight t M c d x = 0) (h : aI M (c + 1) x.toNatClampNeg = 100) : ix 6 (aI M (c + 2) x.toNatClampNeg) ∧ ix 12 (aI M (c + 3) x.toNatClampNeg) := by
  unfold C9_isRight at hi
  rw [if_neg (by rw [h]; decide), if_pos h] at hi
  dsimp only at hi
  by_cases e1 : C2_isMember t M d (aI M (c + 2) x.toNatClampNeg) = 0
  · rw [if_pos e1] at hi; exact absurd rfl hi
  · rw [if_neg e1] at hi
    by_cases e2 : C1_isPlot (aI M (c + 3) x.toNatClampNeg) = 0
    · rw [if_pos e2] at hi; exact absurd rfl hi
    · exact ⟨(cmem_ix hw.n1 e1).1, cplot_ix e2⟩
theorem cr_r (hw : wfK M d) (hi : ¬ C9_isRight t M c d x = 0) (h : aI M (c + 1) x.toNatClampNeg = 114) : ix 6 (aI M (c + 2) x.toNatClampNeg) ∧ (gI M 500 (d + 48 + (aI M (c + 2) x.toNatClampNeg).toNatClampNeg) = -1 ∨ ix 12 (gI M 500 (d + 48 + (aI M (c + 2) x.toNatClampNeg).toNatClampNeg))) := by
  have := cmem_ix hw.n1 (cr_m hi (by rw [h]; decide) (by rw [h]; decide) (by rw [h]; decide) (by rw [h]; decide) (by rw [h]; decide))
  exact ⟨this.1, hw.mp _ this.1.nlt this.2⟩
theorem cr_v (hw : wfK M d) (hi : ¬ C9_isRight t M c d x = 0) (h : aI M (c + 1) x.toNatClampNeg = 118) : ix 6 (aI M (c + 2) x.toNatClampNeg) :=
  (cmem_ix hw.n1 (cr_m hi (by rw [h]; decide) (by rw [h]; decide) (by rw [h]; decide) (by rw [h]; decide) (by rw [h]; decide))).1
theorem cr_p (hw : wfK M d) (hi : ¬ C9_isRight t M c d x = 0) (h1 : ¬ aI M (c + 1) x.toNatClampNeg = 99) (h2 : ¬ aI M (c + 1) x.toNatClampNeg = 100) (h3 : ¬ aI M (c + 1) x.toNatClampNeg = 110) (h5 : ¬ aI M (c + 1) x.toNatClampNeg = 119) : ix 61 (aI M (c + 2) x.toNatClampNeg) := by
  by_cases h4 : aI M (c + 1) x.toNatClampNeg = 112
  · unfold C9_isRight at hi
    rw [if_neg h1, if_neg h2, if_neg h3, if_pos h4] at hi
    exact cin1_ix hi
  · exact (cmem_ix hw.n1 (cr_m hi h1 h2 h3 h4 h5)).1.mono (by decide)
end CR
def C9_does (t : mt) (M : mm) (c : Nat) (d : Nat) (x : Int32) : Int32 × Int32 × Int32 × mm :=
  if (aI M (c + 1) (x).toNatClampNeg) = (99 : Int32) then
    let r_2 := (C2_count t M (d) ).1;
    let u_2 := (C2_count t M (d) ).2;
    ((0 : Int32), (0 : Int32), r_2, u_2)
  else
    if (aI M (c + 1) (x).toNatClampNeg) = (100 : Int32) then
      let r_4 := (C2_dig t M (d) ((aI M (c + 2) (x).toNatClampNeg)) ((aI M (c + 3) (x).toNatClampNeg))).2.2.1;
      let u_4 := (C2_dig t M (d) ((aI M (c + 2) (x).toNatClampNeg)) ((aI M (c + 3) (x).toNatClampNeg))).2.2.2;
      if (C2_dig t M (d) ((aI M (c + 2) (x).toNatClampNeg)) ((aI M (c + 3) (x).toNatClampNeg))).1 = 0 then
        ((0 : Int32), (0 : Int32), r_4, u_4)
      else
        ((C2_dig t M (d) ((aI M (c + 2) (x).toNatClampNeg)) ((aI M (c + 3) (x).toNatClampNeg))).1, (C2_dig t M (d) ((aI M (c + 2) (x).toNatClampNeg)) ((aI M (c + 3) (x).toNatClampNeg))).2.1, (0 : Int32), (C2_dig t M (d) ((aI M (c + 2) (x).toNatClampNeg)) ((aI M (c + 3) (x).toNatClampNeg))).2.2.2)
    else
      if (aI M (c + 1) (x).toNatClampNeg) = (110 : Int32) then
        ((0 : Int32), (0 : Int32), (aI M (c + 2) (x).toNatClampNeg), (sI M 215 d (aI M (c + 2) (x).toNatClampNeg)))
      else
        if (aI M (c + 1) (x).toNatClampNeg) = (114 : Int32) then
          let r_7 := (C2_rest t M (d) ((aI M (c + 2) (x).toNatClampNeg))).2.2.1;
          let u_7 := (C2_rest t M (d) ((aI M (c + 2) (x).toNatClampNeg))).2.2.2;
          if (C2_rest t M (d) ((aI M (c + 2) (x).toNatClampNeg))).1 = 0 then
            ((0 : Int32), (0 : Int32), r_7, u_7)
          else
            ((C2_rest t M (d) ((aI M (c + 2) (x).toNatClampNeg))).1, (C2_rest t M (d) ((aI M (c + 2) (x).toNatClampNeg))).2.1, (0 : Int32), (C2_rest t M (d) ((aI M (c + 2) (x).toNatClampNeg))).2.2.2)
        else
          if (aI M (c + 1) (x).toNatClampNeg) = (118 : Int32) then
            if (aI M (c + 3) (x).toNatClampNeg) = (1 : Int32) then
              let r_11 := (C2_vote t M (d) ((aI M (c + 2) (x).toNatClampNeg)) ((1 : Int32))).1;
              let u_11 := (C2_vote t M (d) ((aI M (c + 2) (x).toNatClampNeg)) ((1 : Int32))).2;
              ((0 : Int32), (0 : Int32), r_11, u_11)
            else
              let r_10 := (C2_vote t M (d) ((aI M (c + 2) (x).toNatClampNeg)) ((0 : Int32))).1;
              let u_10 := (C2_vote t M (d) ((aI M (c + 2) (x).toNatClampNeg)) ((0 : Int32))).2;
              ((0 : Int32), (0 : Int32), r_10, u_10)
          else
            if (aI M (c + 1) (x).toNatClampNeg) = (119 : Int32) then
              ((0 : Int32), (0 : Int32), (aI M (c + 2) (x).toNatClampNeg), (sI M 214 d (aI M (c + 2) (x).toNatClampNeg)))
            else
              let r_13 := (C2_pass t M (d) ((aI M (c + 2) (x).toNatClampNeg))).1;
              let u_13 := (C2_pass t M (d) ((aI M (c + 2) (x).toNatClampNeg))).2;
              ((0 : Int32), (0 : Int32), r_13, u_13)
set_option maxHeartbeats 4000000 in
theorem cm9_does (l : Launch) (E : mE) (hl9 : l.stackTraces = false) (t : mt) (M : mm) (c : Nat) (d : Nat) (x : Int32) (hR : layR t c) (hD : lay t d) (hx1 : ix 60 x) (hw : wfK M d) (hi : ¬ C9_isRight t M c d x = 0) : vx_Met l yX9_does (ws_ yX9_does cX9_does 3 (some .int)) ({ frames := 10, cells := 60, slots := 720, locals := 205 }) (va_Pc [.ref c, .ref d, .int x] (wP E t M)) (va_Qi (fun (r : Int32) (u : mm) => (C9_does t M c d x).1 = 0 ∧ r = (C9_does t M c d x).2.2.1 ∧ u = (C9_does t M c d x).2.2.2) (fun u U => mw E t u U.heap) (eA E)) (vx_X (fun (u : mm) => ¬ (C9_does t M c d x).1 = 0 ∧ u = (C9_does t M c d x).2.2.2) (fun En q u U => XR E t (C9_does t M c d x).1 (C9_does t M c d x).2.1 En q u U.heap) (eA E)) 60 720 (eA E) := by
  refine vx_ofW (cc := cX9_does) (maxL := 3) (ret := (some .int)) (by decide) rfl ?_
  intro p e s m args below meth c0 s₁ B hml hno hv
  obtain ⟨rfl, hs, hm⟩ := hv
  have hx := B.exec
  have hb := B.bytes
  have hr := B.returns
  have hts := atoms_spec (ws := ws_ yX9_does cX9_does 3 (some .int)) B.pre
  have hts : ∀ w ∈ lw_all, w.before _ s = true := fun w h => hts w (List.mem_cons_of_mem _ h)
  have hown : s.vm.findClass RX9 = some m.cls := findClass_of_methodNamed B.named
  have hlocks := B.notSynchronized
  have hout : ∀ pc : Nat, ∀ x ∈ c0.exceptionTable.toList, covers x pc = false := fun _ x h => (hno x h).elim
  have hS : va_S (eA E) s.heap s.heap [] := va_S.rf
  have hl := lv_entry ([.ref c, .ref d, .int x]) (n := 3) (Nat.le_of_ble_eq_true rfl)
  rw [lg_entry_eq]
  generalize (lg_sl ([.ref c, .ref d, .int x]) ++ List.replicate (3 - (lg_sl ([.ref c, .ref d, .int x])).length) Slot.unset).toArray = ls at hl ⊢
  have hl : lv_has ls 3 [(0, .ref (c)), (1, .ref (d)), (2, .int (x))] := hl
  refine lv_aload_n hx hb dX9_does_0 rfl (lv_at hl 0 rfl) ?_
  refine gf_803 hx hb hts hown hs hm hR.z (hts _ q370) dX9_does_1 ?_
  refine lv_iload_n hx hb dX9_does_4 rfl (lv_at hl 2 rfl) ?_
  refine k_cald hx hb hs hm hR.2.1 (ix.at (B := 60) ((hx1).mono (by decide)) (by decide)) dX9_does_5 ?_
  by_cases c_1 : (aI M (c + 1) (x).toNatClampNeg) = (99 : Int32)
  · refine lv_lookup (off := 146) (tgt := 152) hx hb dX9_does_6 (by decide) (by rw [c_1]; decide) (by decide) ?_
    refine lv_aload_n hx hb dX9_does_152 rfl (lv_at hl 1 rfl) ?_
    refine k_calli (va_runV (As := []) (rest := []) ⟨hx, hb, hml, hown, hts⟩ (cm2_count l E t M  (d)  hD hw.n1) (cwV 0 hts (lw_V q1613 q631 q632 q59 q633) rfl rfl rfl (by decide +kernel) ⟨Nat.le_of_ble_eq_true rfl, Nat.le_of_ble_eq_true rfl⟩) (k_preV hs hm hS (mw.recv hs hm (mt_ne (lay.z hD) (by decide)) (ct2 (lay.z hD)) rfl)) rfl rfl hl.1 rfl (lv_room (Nat.le_of_ble_eq_true rfl)) dX9_does_153 ⟨Nat.le_of_ble_eq_true rfl, Nat.le_of_ble_eq_true rfl⟩) hS (fun r_2 u_2 H locs hw_2 hm_2 hS => ?_)
    obtain ⟨hr_2, hu_2⟩ := hw_2
    have hm := hm_2
    subst hu_2
    subst hr_2
    refine vx_ret ?_
    refine W.widen (k := 60) (n := 720) (Nat.le_of_ble_eq_true rfl) (Nat.le_of_ble_eq_true rfl) ?_
    exact W.iret (v := _) hx hb hr (fun t9 ht9 _ => ⟨⟨_, _, rfl, pp4 ((if_pos c_1).trans (rfl)), hb9 ht9 hm⟩, hS.F ht9⟩) hS.2.2 dX9_does_156
  · by_cases c_3 : (aI M (c + 1) (x).toNatClampNeg) = (100 : Int32)
    · refine lv_lookup (off := 58) (tgt := 64) hx hb dX9_does_6 (by decide) (by rw [c_3]; decide) (by decide) ?_
      refine lv_aload_n hx hb dX9_does_64 rfl (lv_at hl 1 rfl) ?_
      refine lv_aload_n hx hb dX9_does_65 rfl (lv_at hl 0 rfl) ?_
      refine gf_804 hx hb hts hown hs hm hR.z (hts _ q371) dX9_does_66 ?_
      refine lv_iload_n hx hb dX9_does_69 rfl (lv_at hl 2 rfl) ?_
      refine k_iald hx hb hs hm hR.2.2.1 (ix.at (B := 60) ((hx1).mono (by decide)) (by decide)) dX9_does_70 ?_
      refine lv_aload_n hx hb dX9_does_71 rfl (lv_at hl 0 rfl) ?_
      refine gf_805 hx hb hts hown hs hm hR.z (hts _ q372) dX9_does_72 ?_
      refine lv_iload_n hx hb dX9_does_75 rfl (lv_at hl 2 rfl) ?_
      refine k_iald hx hb hs hm hR.2.2.2.1 (ix.at (B := 60) ((hx1).mono (by decide)) (by decide)) dX9_does_76 ?_
      refine kx_calli (BX := fun En q u H => XR E t (C2_dig t M (d) ((aI M (c + 2) (x).toNatClampNeg)) ((aI M (c + 3) (x).toNatClampNeg))).1 (C2_dig t M (d) ((aI M (c + 2) (x).toNatClampNeg)) ((aI M (c + 3) (x).toNatClampNeg))).2.1 En q u H) (vx_runV (As := [.int ((aI M (c + 2) (x).toNatClampNeg)), .int ((aI M (c + 3) (x).toNatClampNeg))]) (rest := []) ⟨hx, hb, hml, hown, hts⟩ (cm2_dig l E hl9 t M  (d) ((aI M (c + 2) (x).toNatClampNeg)) ((aI M (c + 3) (x).toNatClampNeg)) hD (cr_d hw hi c_3).1 (cr_d hw hi c_3).2) (cwV 2 hts (lw_V q1610 q860 q861 q59 q862) rfl rfl rfl (by decide +kernel) ⟨Nat.le_of_ble_eq_true rfl, Nat.le_of_ble_eq_true rfl⟩) (k_preV hs hm hS (mw.recv hs hm (mt_ne (lay.z hD) (by decide)) (ct2 (lay.z hD)) rfl)) rfl rfl hl.1 rfl (lv_room (Nat.le_of_ble_eq_true rfl)) dX9_does_77 ⟨Nat.le_of_ble_eq_true rfl, Nat.le_of_ble_eq_true rfl⟩) hS (fun En_4 ce_4 q_4 u9_4 H locs hp_4 hB_4 hS h1_4 h2_4 h3_4 => ?_) (fun r_4 u_4 H locs hw_4 hm_4 hS => ?_)
      · obtain ⟨c_4, hu9_4⟩ := hp_4
        replace hu9_4 := hu9_4.symm
        subst hu9_4
        have e9 : C9_does t M c d x = ((C2_dig t M (d) ((aI M (c + 2) (x).toNatClampNeg)) ((aI M (c + 3) (x).toNatClampNeg))).1, (C2_dig t M (d) ((aI M (c + 2) (x).toNatClampNeg)) ((aI M (c + 3) (x).toNatClampNeg))).2.1, (0 : Int32), (C2_dig t M (d) ((aI M (c + 2) (x).toNatClampNeg)) ((aI M (c + 3) (x).toNatClampNeg))).2.2.2) := (if_neg c_1).trans ((if_pos c_3).trans ((if_neg c_4).trans (rfl)))
        exact kx_out (BX := fun En q u H => XR E t (C9_does t M c d x).1 (C9_does t M c d x).2.1 En q u H) (u := (C2_dig t M (d) ((aI M (c + 2) (x).toNatClampNeg)) ((aI M (c + 3) (x).toNatClampNeg))).2.2.2) (fun x h => (hno x h).elim) hlocks (xr_leaf e9 c_4 hB_4).1 (xr_leaf e9 c_4 hB_4).2 hS h1_4 h2_4 h3_4 (Nat.le_of_ble_eq_true rfl) (Nat.le_of_ble_eq_true rfl)
      · obtain ⟨c_4, hr_4, hu_4⟩ := hw_4
        have hm := hm_4
        subst hu_4
        subst hr_4
        refine vx_ret ?_
        refine W.widen (k := 60) (n := 720) (Nat.le_of_ble_eq_true rfl) (Nat.le_of_ble_eq_true rfl) ?_
        exact W.iret (v := _) hx hb hr (fun t9 ht9 _ => ⟨⟨_, _, rfl, pp4 ((if_neg c_1).trans ((if_pos c_3).trans ((if_pos c_4).trans (rfl)))), hb9 ht9 hm⟩, hS.F ht9⟩) hS.2.2 dX9_does_80
    · by_cases c_5 : (aI M (c + 1) (x).toNatClampNeg) = (110 : Int32)
      · refine lv_lookup (off := 103) (tgt := 109) hx hb dX9_does_6 (by decide) (by rw [c_5]; decide) (by decide) ?_
        refine lv_aload_n hx hb dX9_does_109 rfl (lv_at hl 1 rfl) ?_
        refine lv_aload_n hx hb dX9_does_110 rfl (lv_at hl 0 rfl) ?_
        refine gf_804 hx hb hts hown hs hm hR.z (hts _ q371) dX9_does_111 ?_
        refine lv_iload_n hx hb dX9_does_114 rfl (lv_at hl 2 rfl) ?_
        refine k_iald hx hb hs hm hR.2.2.1 (ix.at (B := 60) ((hx1).mono (by decide)) (by decide)) dX9_does_115 ?_
        refine pfN_215 hx hb hts hown hs hm hS (lay.z hD) q255 dX9_does_116 (fun H locs hm hS => ?_)
        have hm : mw E t ((sI M 215 d (aI M (c + 2) (x).toNatClampNeg))) H := hm
        refine lv_aload_n hx hb dX9_does_119 rfl (lv_at hl 0 rfl) ?_
        refine gf_804 hx hb hts hown hs hm hR.z (hts _ q371) dX9_does_120 ?_
        refine lv_iload_n hx hb dX9_does_123 rfl (lv_at hl 2 rfl) ?_
        refine k_iald hx hb hs hm hR.2.2.1 (ix.at (B := 60) ((hx1).mono (by decide)) (by decide)) dX9_does_124 ?_
        refine vx_ret ?_
        refine W.widen (k := 60) (n := 720) (Nat.le_of_ble_eq_true rfl) (Nat.le_of_ble_eq_true rfl) ?_
        exact W.iret (v := _) hx hb hr (fun t9 ht9 _ => ⟨⟨_, _, rfl, pp4 ((if_neg c_1).trans ((if_neg c_3).trans ((if_pos c_5).trans (rfl)))), hb9 ht9 hm⟩, hS.F ht9⟩) hS.2.2 dX9_does_125
      · by_cases c_6 : (aI M (c + 1) (x).toNatClampNeg) = (114 : Int32)
        · refine lv_lookup (off := 75) (tgt := 81) hx hb dX9_does_6 (by decide) (by rw [c_6]; decide) (by decide) ?_
          refine lv_aload_n hx hb dX9_does_81 rfl (lv_at hl 1 rfl) ?_
          refine lv_aload_n hx hb dX9_does_82 rfl (lv_at hl 0 rfl) ?_
          refine gf_804 hx hb hts hown hs hm hR.z (hts _ q371) dX9_does_83 ?_
          refine lv_iload_n hx hb dX9_does_86 rfl (lv_at hl 2 rfl) ?_
          refine k_iald hx hb hs hm hR.2.2.1 (ix.at (B := 60) ((hx1).mono (by decide)) (by decide)) dX9_does_87 ?_
          refine kx_calli (BX := fun En q u H => XR E t (C2_rest t M (d) ((aI M (c + 2) (x).toNatClampNeg))).1 (C2_rest t M (d) ((aI M (c + 2) (x).toNatClampNeg))).2.1 En q u H) (vx_runV (As := [.int ((aI M (c + 2) (x).toNatClampNeg))]) (rest := []) ⟨hx, hb, hml, hown, hts⟩ (cm2_rest l E hl9 t M  (d) ((aI M (c + 2) (x).toNatClampNeg)) hD (cr_r hw hi c_6).1 (cr_r hw hi c_6).2) (cwV 1 hts (lw_V q1611 q872 q873 q59 q874) rfl rfl rfl (by decide +kernel) ⟨Nat.le_of_ble_eq_true rfl, Nat.le_of_ble_eq_true rfl⟩) (k_preV hs hm hS (mw.recv hs hm (mt_ne (lay.z hD) (by decide)) (ct2 (lay.z hD)) rfl)) rfl rfl hl.1 rfl (lv_room (Nat.le_of_ble_eq_true rfl)) dX9_does_88 ⟨Nat.le_of_ble_eq_true rfl, Nat.le_of_ble_eq_true rfl⟩) hS (fun En_7 ce_7 q_7 u9_7 H locs hp_7 hB_7 hS h1_7 h2_7 h3_7 => ?_) (fun r_7 u_7 H locs hw_7 hm_7 hS => ?_)
          · obtain ⟨c_7, hu9_7⟩ := hp_7
            replace hu9_7 := hu9_7.symm
            subst hu9_7
            have e9 : C9_does t M c d x = ((C2_rest t M (d) ((aI M (c + 2) (x).toNatClampNeg))).1, (C2_rest t M (d) ((aI M (c + 2) (x).toNatClampNeg))).2.1, (0 : Int32), (C2_rest t M (d) ((aI M (c + 2) (x).toNatClampNeg))).2.2.2) := (if_neg c_1).trans ((if_neg c_3).trans ((if_neg c_5).trans ((if_pos c_6).trans ((if_neg c_7).trans (rfl)))))
            exact kx_out (BX := fun En q u H => XR E t (C9_does t M c d x).1 (C9_does t M c d x).2.1 En q u H) (u := (C2_rest t M (d) ((aI M (c + 2) (x).toNatClampNeg))).2.2.2) (fun x h => (hno x h).elim) hlocks (xr_leaf e9 c_7 hB_7).1 (xr_leaf e9 c_7 hB_7).2 hS h1_7 h2_7 h3_7 (Nat.le_of_ble_eq_true rfl) (Nat.le_of_ble_eq_true rfl)
          · obtain ⟨c_7, hr_7, hu_7⟩ := hw_7
            have hm := hm_7
            subst hu_7
            subst hr_7
            refine vx_ret ?_
            refine W.widen (k := 60) (n := 720) (Nat.le_of_ble_eq_true rfl) (Nat.le_of_ble_eq_true rfl) ?_
            exact W.iret (v := _) hx hb hr (fun t9 ht9 _ => ⟨⟨_, _, rfl, pp4 ((if_neg c_1).trans ((if_neg c_3).trans ((if_neg c_5).trans ((if_pos c_6).trans ((if_pos c_7).trans (rfl)))))), hb9 ht9 hm⟩, hS.F ht9⟩) hS.2.2 dX9_does_91
        · by_cases c_8 : (aI M (c + 1) (x).toNatClampNeg) = (118 : Int32)
          · refine lv_lookup (off := 120) (tgt := 126) hx hb dX9_does_6 (by decide) (by rw [c_8]; decide) (by decide) ?_
            refine lv_aload_n hx hb dX9_does_126 rfl (lv_at hl 1 rfl) ?_
            refine lv_aload_n hx hb dX9_does_127 rfl (lv_at hl 0 rfl) ?_
            refine gf_804 hx hb hts hown hs hm hR.z (hts _ q371) dX9_does_128 ?_
            refine lv_iload_n hx hb dX9_does_131 rfl (lv_at hl 2 rfl) ?_
            refine k_iald hx hb hs hm hR.2.2.1 (ix.at (B := 60) ((hx1).mono (by decide)) (by decide)) dX9_does_132 ?_
            refine lv_aload_n hx hb dX9_does_133 rfl (lv_at hl 0 rfl) ?_
            refine gf_805 hx hb hts hown hs hm hR.z (hts _ q372) dX9_does_134 ?_
            refine lv_iload_n hx hb dX9_does_137 rfl (lv_at hl 2 rfl) ?_
            refine k_iald hx hb hs hm hR.2.2.2.1 (ix.at (B := 60) ((hx1).mono (by decide)) (by decide)) dX9_does_138 ?_
            refine lv_iconst (v := (1 : Int32)) hx hb dX9_does_139 (by decide) ?_
            refine lv_icmp_ne (tgt := 147) hx hb dX9_does_140 (by decide) (fun c_9 => ?_) (fun c_9 => ?_)
            · refine lv_iconst (v := (0 : Int32)) hx hb dX9_does_147 (by decide) ?_
              refine k_calli (va_runV (As := [.int ((aI M (c + 2) (x).toNatClampNeg)), .int ((0 : Int32))]) (rest := []) ⟨hx, hb, hml, hown, hts⟩ (cm2_vote l E t M  (d) ((aI M (c + 2) (x).toNatClampNeg)) ((0 : Int32)) hD hw.n1 (cr_v hw hi c_8)) (cwV 2 hts (lw_V q1612 q1215 q1216 q59 q1217) rfl rfl rfl (by decide +kernel) ⟨Nat.le_of_ble_eq_true rfl, Nat.le_of_ble_eq_true rfl⟩) (k_preV hs hm hS (mw.recv hs hm (mt_ne (lay.z hD) (by decide)) (ct2 (lay.z hD)) rfl)) rfl rfl hl.1 rfl (lv_room (Nat.le_of_ble_eq_true rfl)) dX9_does_148 ⟨Nat.le_of_ble_eq_true rfl, Nat.le_of_ble_eq_true rfl⟩) hS (fun r_10 u_10 H locs hw_10 hm_10 hS => ?_)
              obtain ⟨hr_10, hu_10⟩ := hw_10
              have hm := hm_10
              subst hu_10
              subst hr_10
              refine vx_ret ?_
              refine W.widen (k := 60) (n := 720) (Nat.le_of_ble_eq_true rfl) (Nat.le_of_ble_eq_true rfl) ?_
              exact W.iret (v := _) hx hb hr (fun t9 ht9 _ => ⟨⟨_, _, rfl, pp4 ((if_neg c_1).trans ((if_neg c_3).trans ((if_neg c_5).trans ((if_neg c_6).trans ((if_pos c_8).trans ((if_neg c_9).trans (rfl))))))), hb9 ht9 hm⟩, hS.F ht9⟩) hS.2.2 dX9_does_151
            · refine lv_iconst (v := (1 : Int32)) hx hb dX9_does_143 (by decide) ?_
              refine lv_goto (tgt := 148) hx hb dX9_does_144 (by decide) ?_
              refine k_calli (va_runV (As := [.int ((aI M (c + 2) (x).toNatClampNeg)), .int ((1 : Int32))]) (rest := []) ⟨hx, hb, hml, hown, hts⟩ (cm2_vote l E t M  (d) ((aI M (c + 2) (x).toNatClampNeg)) ((1 : Int32)) hD hw.n1 (cr_v hw hi c_8)) (cwV 2 hts (lw_V q1612 q1215 q1216 q59 q1217) rfl rfl rfl (by decide +kernel) ⟨Nat.le_of_ble_eq_true rfl, Nat.le_of_ble_eq_true rfl⟩) (k_preV hs hm hS (mw.recv hs hm (mt_ne (lay.z hD) (by decide)) (ct2 (lay.z hD)) rfl)) rfl rfl hl.1 rfl (lv_room (Nat.le_of_ble_eq_true rfl)) dX9_does_148 ⟨Nat.le_of_ble_eq_true rfl, Nat.le_of_ble_eq_true rfl⟩) hS (fun r_11 u_11 H locs hw_11 hm_11 hS => ?_)
              obtain ⟨hr_11, hu_11⟩ := hw_11
              have hm := hm_11
              subst hu_11
              subst hr_11
              refine vx_ret ?_
              refine W.widen (k := 60) (n := 720) (Nat.le_of_ble_eq_true rfl) (Nat.le_of_ble_eq_true rfl) ?_
              exact W.iret (v := _) hx hb hr (fun t9 ht9 _ => ⟨⟨_, _, rfl, pp4 ((if_neg c_1).trans ((if_neg c_3).trans ((if_neg c_5).trans ((if_neg c_6).trans ((if_pos c_8).trans ((if_pos c_9).trans (rfl))))))), hb9 ht9 hm⟩, hS.F ht9⟩) hS.2.2 dX9_does_151
          · by_cases c_12 : (aI M (c + 1) (x).toNatClampNeg) = (119 : Int32)
            · refine lv_lookup (off := 86) (tgt := 92) hx hb dX9_does_6 (by decide) (by rw [c_12]; decide) (by decide) ?_
              refine lv_aload_n hx hb dX9_does_92 rfl (lv_at hl 1 rfl) ?_
              refine lv_aload_n hx hb dX9_does_93 rfl (lv_at hl 0 rfl) ?_
              refine gf_804 hx hb hts hown hs hm hR.z (hts _ q371) dX9_does_94 ?_
              refine lv_iload_n hx hb dX9_does_97 rfl (lv_at hl 2 rfl) ?_
              refine k_iald hx hb hs hm hR.2.2.1 (ix.at (B := 60) ((hx1).mono (by decide)) (by decide)) dX9_does_98 ?_
              refine pfN_214 hx hb hts hown hs hm hS (lay.z hD) q252 dX9_does_99 (fun H locs hm hS => ?_)
              have hm : mw E t ((sI M 214 d (aI M (c + 2) (x).toNatClampNeg))) H := hm
              refine lv_aload_n hx hb dX9_does_102 rfl (lv_at hl 0 rfl) ?_
              refine gf_804 hx hb hts hown hs hm hR.z (hts _ q371) dX9_does_103 ?_
              refine lv_iload_n hx hb dX9_does_106 rfl (lv_at hl 2 rfl) ?_
              refine k_iald hx hb hs hm hR.2.2.1 (ix.at (B := 60) ((hx1).mono (by decide)) (by decide)) dX9_does_107 ?_
              refine vx_ret ?_
              refine W.widen (k := 60) (n := 720) (Nat.le_of_ble_eq_true rfl) (Nat.le_of_ble_eq_true rfl) ?_
              exact W.iret (v := _) hx hb hr (fun t9 ht9 _ => ⟨⟨_, _, rfl, pp4 ((if_neg c_1).trans ((if_neg c_3).trans ((if_neg c_5).trans ((if_neg c_6).trans ((if_neg c_8).trans ((if_pos c_12).trans (rfl))))))), hb9 ht9 hm⟩, hS.F ht9⟩) hS.2.2 dX9_does_108
            · refine lv_lookup (off := 151) (tgt := 157) hx hb dX9_does_6 (by decide) (lk_c rfl c_1 (lk_c rfl c_3 (lk_c rfl c_5 (lk_c rfl c_6 (lk_c rfl c_8 (lk_c rfl c_12 (rfl))))))) (by decide) ?_
              refine lv_aload_n hx hb dX9_does_157 rfl (lv_at hl 1 rfl) ?_
              refine lv_aload_n hx hb dX9_does_158 rfl (lv_at hl 0 rfl) ?_
              refine gf_804 hx hb hts hown hs hm hR.z (hts _ q371) dX9_does_159 ?_
              refine lv_iload_n hx hb dX9_does_162 rfl (lv_at hl 2 rfl) ?_
              refine k_iald hx hb hs hm hR.2.2.1 (ix.at (B := 60) ((hx1).mono (by decide)) (by decide)) dX9_does_163 ?_
              refine k_calli (va_runV (As := [.int ((aI M (c + 2) (x).toNatClampNeg))]) (rest := []) ⟨hx, hb, hml, hown, hts⟩ (cm2_pass l E t M  (d) ((aI M (c + 2) (x).toNatClampNeg)) hD (cr_p hw hi c_1 c_3 c_5 c_12) (hw.wfC hD)) (cwV 1 hts (lw_V q1614 q946 q947 q59 q948) rfl rfl rfl (by decide +kernel) ⟨Nat.le_of_ble_eq_true rfl, Nat.le_of_ble_eq_true rfl⟩) (k_preV hs hm hS (mw.recv hs hm (mt_ne (lay.z hD) (by decide)) (ct2 (lay.z hD)) rfl)) rfl rfl hl.1 rfl (lv_room (Nat.le_of_ble_eq_true rfl)) dX9_does_164 ⟨Nat.le_of_ble_eq_true rfl, Nat.le_of_ble_eq_true rfl⟩) hS (fun r_13 u_13 H locs hw_13 hm_13 hS => ?_)
              obtain ⟨hr_13, hu_13⟩ := hw_13
              have hm := hm_13
              subst hu_13
              subst hr_13
              refine vx_ret ?_
              refine W.widen (k := 60) (n := 720) (Nat.le_of_ble_eq_true rfl) (Nat.le_of_ble_eq_true rfl) ?_
              exact W.iret (v := _) hx hb hr (fun t9 ht9 _ => ⟨⟨_, _, rfl, pp4 ((if_neg c_1).trans ((if_neg c_3).trans ((if_neg c_5).trans ((if_neg c_6).trans ((if_neg c_8).trans ((if_neg c_12).trans (rfl))))))), hb9 ht9 hm⟩, hS.F ht9⟩) hS.2.2 dX9_does_167
