set_option maxRecDepth 100000
/-! CliffPlots: dug, restore -/
section KLW
variable {p : Program} {l : Launch} {e : Env} {R : Room} {s : State} {m : MethodId} {args : Array Value} {below : List Frame} {meth : Method} {c : Code} {H : Heap} {locs : List Loc} {cells slots : Nat} {Q : State → Prop}
variable {cc : ByteArray} {pc : Nat} {ls : Array Slot} {rest : List Value}
theorem ldcwFX {T : State} (X : Stand p l e R s m args below meth c T locs cells slots) (hexec : p.tables.exec = Jvm.exec) {own : String} {index : Nat} {b : UInt32} (hown : s.vm.findClass own = some m.cls)
    (hconst : (Cond.constantFloat own index b).before args s = true) {g : JFrame} (hg : g.method = m) (hdg : decode c.code g.pc = .ok (.ldc_w index, 3)) :
    ∀ target, Steps p.tables e below (T.setTop { g with pc := g.pc + 3, stack := .float b :: g.stack }) target → Steps p.tables e below (T.setTop g) target := by
  obtain ⟨k, cf, hk, hcf, hcp⟩ := Cond.constantFloat_spec hown hconst
  obtain ⟨k', hk', he⟩ := X.warmed.alike.2.2 _ _ hk
  intro target hrest
  subst hg
  jvm_step X.here [hexec, hdg, ldc_w.wp_float (s := T) (f := g) X.here.top hk' (by rw [he]; exact hcf) hcp]
  exact hrest
theorem k_ldcwf (hexec : p.tables.exec = Jvm.exec) (hb : c.code = cc) {own : String} {index : Nat} {v : UInt32} (hown : s.vm.findClass own = some m.cls) (hconst : (Jvm.Cond.constantFloat own index v).before args s = true) (hdg : decode cc pc = .ok (.ldc_w index, 3)) (k : W p l e R s m args below meth c H locs cells slots Q (F0 m (pc + 3) ls (.float v :: rest))) : W p l e R s m args below meth c H locs cells slots Q (F0 m pc ls rest) := by
  intro T hT X
  obtain ⟨t, a, b⟩ := k T hT X
  exact ⟨t, ldcwFX X hexec hown hconst (g := F0 m pc ls rest) rfl (by rw [hb]; exact hdg) t a, b⟩
end KLW
theorem dug_ix {t : mt} {M : mm} {c : Nat} : ix 13 (C2_dug t M c) := by
  have key : ∀ k, ∃ j, j ≤ k ∧ L_dug t M c k = nI j := by
    intro k
    induction k with
    | zero => exact ⟨0, Nat.le_refl _, by rw [L_dug_0]; rfl⟩
    | succ k ih =>
      obtain ⟨j, h1, h2⟩ := ih
      rw [L_dug_s]
      unfold S_dug
      dsimp only
      rw [h2]
      split
      · exact ⟨j, by omega, by show nI j + nI 0 = _; rw [nI_add]; rfl⟩
      · exact ⟨j + 1, by omega, nI_1 j⟩
  obtain ⟨j, h1, h2⟩ := key 12
  exact ⟨j, by omega, h2⟩
theorem dug_nan {t : mt} {M : mm} {c : Nat} {r : Int32} (h : r = C2_dug t M c) : vf_n32 (FP.fdiv (FP.i2f r) (1094713344 : UInt32)) := by
  obtain ⟨j, hj, e⟩ := dug_ix (t := t) (M := M) (c := c)
  rw [h, e]
  have key : ∀ j, j < 13 → (FP.fdiv (FP.i2f (nI j)) (1094713344 : UInt32)) &&& 0x7fffffff ≤ 0x7f800000 := by decide +kernel
  exact key j hj
theorem rs_leaf {t : mt} {M y1 : mm} {c : Nat} {K Ky : List Nat} {r1 : Int32} (hd : dq M (c + 193) K) (hl : K.length < 17) (hc : ¬ gI M 103 c = 0) (e : rsM t c Ky.length y1 = rsM t c K.length (C2_take t M (c + 1) (c + 129))) (hy : dq y1 (c + 193) Ky) (hly : Ky.length < 17) (h1 : r1 = CJ1_isEmpty t y1 (c + 193)) (h0 : ¬ r1 = 0) : (if gI M 103 c = 0 then ((5 : Int32), (0 : Int32), M) else ((0 : Int32), gI (rsM t c (CJ1_size t M (c + 193)).toNatClampNeg (C2_take t M (c + 1) (c + 129))) 211 (c + 1), rsM t c (CJ1_size t M (c + 193)).toNatClampNeg (C2_take t M (c + 1) (c + 129)))) = ((0 : Int32), gI y1 211 (c + 1), y1) := by
  rw [if_neg hc, hd.size hl, cl_nI (by omega), ← e]
  have : Ky = [] := by
    rw [h1, hy.isEmpty hly] at h0
    by_cases e9 : Ky = []
    · exact e9
    · exact absurd (if_neg e9) h0
  subst this
  rfl
def C1_dug (t : mt) (M : mm) (c : Nat)  : UInt32 :=
  let r_1 := C2_dug t M ((c + 1)) ;
  (FP.fdiv (FP.i2f r_1) (1094713344 : UInt32))
set_option maxHeartbeats 4000000 in
theorem cm1_dug (l : Launch) (E : mE) (t : mt) (M : mm) (c : Nat)  (hA : layA t c) (K S : List Nat) (hw : wfA M c K S) : Met l yX1_dug (ws_ yX1_dug cX1_dug 1 (some .float)) ({ frames := 1, cells := 0, slots := 0, locals := 22 }) (va_Pc [.ref c] (wP E t M)) (va_Qf (fun (r : UInt32) (u : mm) => r = (C1_dug t M c ) ∧ u = M) (fun u U => mw E t u U.heap) (eA E)) 0 0 (eA E) := by
  refine Met.ofW (cc := cX1_dug) (maxL := 1) (ret := (some .float)) (by decide) rfl ?_
  intro p e s m args below meth c0 s₁ B hml hv
  obtain ⟨rfl, hs, hm⟩ := hv
  have hx := B.exec
  have hb := B.bytes
  have hr := B.returns
  have hts := atoms_spec (ws := ws_ yX1_dug cX1_dug 1 (some .float)) B.pre
  have hts : ∀ w ∈ lw_all, w.before _ s = true := fun w h => hts w (List.mem_cons_of_mem _ h)
  have hown : s.vm.findClass RX1 = some m.cls := findClass_of_methodNamed B.named
  have hlocks := B.notSynchronized
  have hS : va_S (eA E) s.heap s.heap [] := va_S.rf
  have hl := lv_entry ([.ref c]) (n := 1) (Nat.le_of_ble_eq_true rfl)
  rw [lg_entry_eq]
  generalize (lg_sl ([.ref c]) ++ List.replicate (1 - (lg_sl ([.ref c])).length) Slot.unset).toArray = ls at hl ⊢
  have hl : lv_has ls 1 [(0, .ref (c))] := hl
  refine lv_aload_n hx hb dX1_dug_0 rfl (lv_at hl 0 rfl) ?_
  refine gf_100 hx hb hts hown hs hm hA.z (hts _ q519) dX1_dug_1 ?_
  refine k_calli (va_runV (As := []) (rest := []) ⟨hx, hb, hml, hown, hts⟩ (cm2_dug l E t M  ((c + 1))  hA.c1 ) (cwV 0 hts (lw_V q682 q683 q684 q59 q685) rfl rfl rfl (by decide +kernel) ⟨Nat.le_of_ble_eq_true rfl, Nat.le_of_ble_eq_true rfl⟩) (k_preV hs hm hS (mw.recv hs hm (mt_ne (lay.z hA.c1) (by decide)) (ct2 (lay.z hA.c1)) rfl)) rfl rfl hl.1 rfl (lv_room (Nat.le_of_ble_eq_true rfl)) dX1_dug_4 ⟨Nat.le_of_ble_eq_true rfl, Nat.le_of_ble_eq_true rfl⟩) hS (fun r_1 u_1 H locs hw_1 hm_1 hS => ?_)
  obtain ⟨hr_1, hu_1⟩ := hw_1
  replace hu_1 := hu_1.symm
  subst hu_1
  have hm := hm_1
  refine lv_i2f hx hb dX1_dug_7 ?_
  refine k_ldcwf (v := 1094713344) hx hb hown (hts _ q686) dX1_dug_8 ?_
  refine lv_fdiv hx hb dX1_dug_11 (dug_nan hr_1) ?_
  subst hr_1
  exact W.fret (v := _) hx hb hr (fun t9 ht9 _ => ⟨⟨_, _, rfl, ⟨(rfl).symm, rfl⟩, hb9 ht9 hm⟩, hS.F ht9⟩) hS.2.2 dX1_dug_12
def C1_restore (t : mt) (M : mm) (c : Nat) : Int32 × Int32 × mm := if gI M 103 c = 0 then ((5 : Int32), (0 : Int32), M) else ((0 : Int32), gI (rsM t c (CJ1_size t M (c + 193)).toNatClampNeg (C2_take t M (c + 1) (c + 129))) 211 (c + 1), rsM t c (CJ1_size t M (c + 193)).toNatClampNeg (C2_take t M (c + 1) (c + 129)))
set_option maxHeartbeats 4000000 in
theorem cm1_restore (l : Launch) (E : mE) (hl9 : l.stackTraces = false) (t : mt) (M : mm) (c : Nat)  (hA : layA t c) (K S : List Nat) (hw : wfA M c K S) : vx_Met l yX1_restore (ws_ yX1_restore cX1_restore 1 (some .int)) ({ frames := 7, cells := 1, slots := 6, locals := 140 }) (va_Pc [.ref c] (wP E t M)) (va_Qi (fun (r : Int32) (u : mm) => (C1_restore t M c ).1 = 0 ∧ r = (C1_restore t M c ).2.1 ∧ u = (C1_restore t M c ).2.2) (fun u U => mw E t u U.heap) (eA E)) (vx_X (fun (u : mm) => ¬ (C1_restore t M c ).1 = 0 ∧ u = (C1_restore t M c ).2.2) (fun En q u U => XS E t (C1_restore t M c ).1 En q u U.heap) (eA E)) 1 6 (eA E) := by
  refine vx_ofW (cc := cX1_restore) (maxL := 1) (ret := (some .int)) (by decide) rfl ?_
  intro p e s m args below meth c0 s₁ B hml hno hv
  obtain ⟨rfl, hs, hm⟩ := hv
  have hx := B.exec
  have hb := B.bytes
  have hr := B.returns
  have hts := atoms_spec (ws := ws_ yX1_restore cX1_restore 1 (some .int)) B.pre
  have hts : ∀ w ∈ lw_all, w.before _ s = true := fun w h => hts w (List.mem_cons_of_mem _ h)
  have hown : s.vm.findClass RX1 = some m.cls := findClass_of_methodNamed B.named
  have hlocks := B.notSynchronized
  have hout : ∀ pc : Nat, ∀ x ∈ c0.exceptionTable.toList, covers x pc = false := fun _ x h => (hno x h).elim
  have hS : va_S (eA E) s.heap s.heap [] := va_S.rf
  have hl := lv_entry ([.ref c]) (n := 1) (Nat.le_of_ble_eq_true rfl)
  rw [lg_entry_eq]
  generalize (lg_sl ([.ref c]) ++ List.replicate (1 - (lg_sl ([.ref c])).length) Slot.unset).toArray = ls at hl ⊢
  have hl : lv_has ls 1 [(0, .ref (c))] := hl
  refine lv_aload_n hx hb dX1_restore_0 rfl (lv_at hl 0 rfl) ?_
  refine gf_103 hx hb hts hown hs hm hA.z (hts _ q522) dX1_restore_1 ?_
  refine kx_callv (BX := fun En q u H => XS E t 5 En q u H) (vx_runS (As := [.int ((gI M 103 c))]) (rest := []) ⟨hx, hb, hml, hown, hts⟩ (cm1_checkState l E hl9 t M  ((gI M 103 c)) ) (va_cwS 1 hts (lw_S q1256 q1257 q58 q1258) rfl rfl rfl (by decide +kernel) ⟨Nat.le_of_ble_eq_true rfl, Nat.le_of_ble_eq_true rfl⟩) (k_preS hs hm hS) rfl rfl hl.1 rfl (lv_room (Nat.le_of_ble_eq_true rfl)) dX1_restore_4 ⟨Nat.le_of_ble_eq_true rfl, Nat.le_of_ble_eq_true rfl⟩) hS (fun En_1 ce_1 q_1 u9_1 H locs hp_1 hB_1 hS h1_1 h2_1 h3_1 => ?_) (fun u_1 H locs hw_1 hm_1 hS => ?_)
  · obtain ⟨c_1, hu9_1⟩ := hp_1
    replace hu9_1 := hu9_1.symm
    subst hu9_1
    have e9 : C1_restore t M c  = ((5 : Int32), (0 : Int32), M) := (if_pos c_1).trans (rfl)
    exact kx_out (BX := fun En q u H => XS E t (C1_restore t M c ).1 En q u H) (u := M) (fun x h => (hno x h).elim) hlocks (xs_leaf e9 (by decide) hB_1).1 (xs_leaf e9 (by decide) hB_1).2 hS h1_1 h2_1 h3_1 (Nat.le_of_ble_eq_true rfl) (Nat.le_of_ble_eq_true rfl)
  · obtain ⟨c_1, hu_1⟩ := hw_1
    replace hu_1 := hu_1.symm
    subst hu_1
    have hm := hm_1
    refine lv_aload_n hx hb dX1_restore_7 rfl (lv_at hl 0 rfl) ?_
    refine gf_100 hx hb hts hown hs hm hA.z (hts _ q519) dX1_restore_8 ?_
    refine lv_aload_n hx hb dX1_restore_11 rfl (lv_at hl 0 rfl) ?_
    refine gf_102 hx hb hts hown hs hm hA.z (hts _ q521) dX1_restore_12 ?_
    refine k_callv (va_runV (As := [.ref ((c + 129))]) (rest := []) ⟨hx, hb, hml, hown, hts⟩ (cm2_take l E t M  ((c + 1)) ((c + 129)) hA.c1 hA.c3 (show ¬ c + 129 = c + 1 by omega) (wfK.m7 hw.w3 hA.c3) (wfK.m8 hw.w3 hA.c3) (wfK.cr hw.w3 hA.c3) (wfK.n1 hw.w3) (wfK.n2 hw.w3) (wfK.n3 hw.w3) (wfK.st hw.w3) (wfK.pz hw.w1 hA.c1) (wfK.pz hw.w3 hA.c3)) (cwV 1 hts (lw_V q572 q573 q574 q59 q575) rfl rfl rfl (by decide +kernel) ⟨Nat.le_of_ble_eq_true rfl, Nat.le_of_ble_eq_true rfl⟩) (k_preV hs hm hS (mw.recv hs hm (mt_ne (lay.z hA.c1) (by decide)) (ct2 (lay.z hA.c1)) rfl)) rfl rfl hl.1 rfl (lv_room (Nat.le_of_ble_eq_true rfl)) dX1_restore_15 ⟨Nat.le_of_ble_eq_true rfl, Nat.le_of_ble_eq_true rfl⟩) hS (fun u_2 H locs hw_2 hm_2 hS => ?_)
    have hu_2 := hw_2
    have hm := hm_2
    refine k_loop (fun y => y.2.1.length) (fun (y : mm × List Nat × List Nat) H locs ls => ((rsM t c y.2.1.length y.1 = rsM t c K.length u_2) ∧ dq y.1 (c + 193) y.2.1 ∧ dq y.1 (c + 195) y.2.2 ∧ (y.2.1.length + y.2.2.length = 8) ∧ (∀ q, q ∈ y.2.1 → q ∈ eight c)) ∧ mw E t (y.1) H ∧ va_S (eA E) s.heap H locs ∧ lv_has ls 1 [(0, .ref (c))]) (fun (y : mm × List Nat × List Nat) ls => F0 m 18 ls []) (fun y => (1, 6)) (fun y ih_3 H locs ls hP => ?_) ((u_2, K, S)) ⟨⟨rfl, by rw [hu_2]; exact hw.2.1.far (far_take hw.w1 hw.w3.n1 hw.w3.n2 hw.w3.n3) (by omega), by rw [hu_2]; exact hw.2.2.1.far (far_take hw.w1 hw.w3.n1 hw.w3.n2 hw.w3.n3) (by omega), hw.len, fun q hq => hw.mem (.inl hq)⟩, hm, hS, lv_sub hl [0] rfl⟩
    obtain ⟨hI_3, hm, hS, hl⟩ := hP
    refine lv_aload_n hx hb dX1_restore_18 rfl (lv_at hl 0 rfl) ?_
    refine gf_104 hx hb hts hown hs hm hA.z (hts _ q523) dX1_restore_19 ?_
    refine k_calli (va_runV (As := []) (rest := []) ⟨hx, hb, hml, hown, hts⟩ (cmJ1_isEmpty l E t y.1  ((c + 193))  hA.k ) (cwV 0 hts (lw_V q561 q562 q563 q67 q564) rfl rfl rfl (by decide +kernel) ⟨Nat.le_of_ble_eq_true rfl, Nat.le_of_ble_eq_true rfl⟩) (k_preV hs hm hS (mw.recv hs hm (mt_ne hA.k.z (by decide)) (ct10 hA.k.z) rfl)) rfl rfl hl.1 rfl (lv_room (Nat.le_of_ble_eq_true rfl)) dX1_restore_22 ⟨Nat.le_of_ble_eq_true rfl, Nat.le_of_ble_eq_true rfl⟩) hS (fun r_4 u_4 H locs hw_4 hm_4 hS => ?_)
    obtain ⟨hr_4, hu_4⟩ := hw_4
    replace hu_4 := hu_4.symm
    subst hu_4
    have hm := hm_4
    refine lv_if_ne (tgt := 48) hx hb dX1_restore_25 (by decide) (fun c_5 => ?_) (fun c_5 => ?_)
    · refine lv_aload_n hx hb dX1_restore_48 rfl (lv_at hl 0 rfl) ?_
      refine gf_100 hx hb hts hown hs hm hA.z (hts _ q519) dX1_restore_49 ?_
      refine gfN_211 hx hb hts hown hs hm (lay.z hA.c1) q246 dX1_restore_52 ?_
      refine vx_ret ?_
      refine W.widen (k := 1) (n := 6) (Nat.le_of_ble_eq_true rfl) (Nat.le_of_ble_eq_true rfl) ?_
      exact W.iret (v := _) hx hb hr (fun t9 ht9 _ => ⟨⟨_, _, rfl, pp3 (rs_leaf hw.2.1 (by have := hw.len; omega) c_1 (by rw [← hu_2]; exact hI_3.1) hI_3.2.1 (by have := hI_3.2.2.2.1; omega) hr_4 c_5), hb9 ht9 hm⟩, hS.F ht9⟩) hS.2.2 dX1_restore_55
    · obtain ⟨L9, q9, e9, h2, h3, h4, h5, h6, h7, h8⟩ := (rsE hI_3.2.1 hI_3.2.2.1 hI_3.2.2.2.1 hI_3.2.2.2.2 hr_4 c_5)
      refine lv_aload_n hx hb dX1_restore_28 rfl (lv_at hl 0 rfl) ?_
      refine gf_105 hx hb hts hown hs hm hA.z (hts _ q524) dX1_restore_29 ?_
      refine lv_aload_n hx hb dX1_restore_32 rfl (lv_at hl 0 rfl) ?_
      refine gf_104 hx hb hts hown hs hm hA.z (hts _ q523) dX1_restore_33 ?_
      refine k_callq (va_runV (As := []) (rest := [.ref ((c + 195))]) ⟨hx, hb, hml, hown, hts⟩ (cmJ1_pollLast l E t y.1  ((c + 193))  hA.k hI_3.2.1.tl) (cwV 0 hts (lw_V q1653 q1654 q1655 q67 q1656) rfl rfl rfl (by decide +kernel) ⟨Nat.le_of_ble_eq_true rfl, Nat.le_of_ble_eq_true rfl⟩) (k_preV hs hm hS (mw.recv hs hm (mt_ne hA.k.z (by decide)) (ct10 hA.k.z) rfl)) rfl rfl hl.1 rfl (lv_room (Nat.le_of_ble_eq_true rfl)) dX1_restore_36 ⟨Nat.le_of_ble_eq_true rfl, Nat.le_of_ble_eq_true rfl⟩) hS (fun r_6 u_6 H locs hw_6 hm_6 hS => ?_)
      obtain ⟨hr_6, hu_6⟩ := hw_6
      have hm := hm_6
      refine k_nn (show ¬ r_6 = none from by rw [hr_6, h3]; simp) ?_
      have hL9 : lay t (r_6.getD 0) := by rw [hr_6, h3]; exact hA.2.1 _ (eight_c h2)
      refine k_castC hx hb hown (hts _ q105) hs hm hL9 dX1_restore_39 ?_
      refine k_callv (va_runV (As := [.ref ((r_6.getD 0))]) (rest := []) ⟨hx, hb, hml, hown, hts⟩ (cmJ1_addLast l E t u_6  ((c + 195)) ((r_6.getD 0)) hA.s (by rw [hu_6]; exact h5.tl) hL9 (by rw [hu_6]; exact h5.full h6)) (cwV 1 hts (lw_V q387 q388 q389 q67 q390) rfl rfl rfl (by decide +kernel) ⟨Nat.le_of_ble_eq_true rfl, Nat.le_of_ble_eq_true rfl⟩) (k_preV hs hm hS (mw.recv hs hm (mt_ne hA.s.z (by decide)) (ct10 hA.s.z) rfl)) rfl rfl hl.1 rfl (lv_room (Nat.le_of_ble_eq_true rfl)) dX1_restore_42 ⟨Nat.le_of_ble_eq_true rfl, Nat.le_of_ble_eq_true rfl⟩) hS (fun u_7 H locs hw_7 hm_7 hS => ?_)
      have hu_7 := hw_7
      have hm := hm_7
      refine lv_goto (tgt := 18) hx hb dX1_restore_45 (by decide) ?_
      exact ih_3 ((u_7, L9, y.2.2 ++ [q9])) ((show L9.length < y.2.1.length from by rw [e9, List.length_append, List.length_singleton]; omega)) _ _ _ ⟨⟨(show rsM t c L9.length u_7 = _ from by rw [← hI_3.1, e9, List.length_append, List.length_singleton, rs_s, ← hr_6, ← hu_6, ← hu_7]), (by rw [hu_7, hu_6, hr_6, h3]; exact h7), (by rw [hu_7, hu_6, hr_6, h3]; exact h8), (show L9.length + (y.2.2 ++ [q9]).length = 8 from by have := hI_3.2.2.2.1; rw [e9, List.length_append, List.length_singleton] at this; rw [List.length_append, List.length_singleton]; omega), (fun q hq => hI_3.2.2.2.2 q (by rw [e9]; exact List.mem_append_left _ hq))⟩, hm, hS, lv_sub hl [0] rfl⟩
