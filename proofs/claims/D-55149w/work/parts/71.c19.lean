set_option maxRecDepth 100000
/-! CliffPlots: waits, weightIn, undo, save, restore -/
section UD
variable {t : mt} {M u v : mm} {c q : Nat} {K S L : List Nat} {r : Option Nat} {r1 x : Int32}
theorem is0 (h : x = if r1 = 0 then (1 : Int32) else (0 : Int32)) (hx : ¬ x = 0) : r1 = 0 := by
  subst h
  by_cases e : r1 = 0
  · exact e
  · exact absurd (if_neg e) hx
theorem list_last : ∀ (K : List Nat), ¬ K = [] → ∃ L q, K = L ++ [q]
  | [], h => absurd rfl h
  | [a], _ => ⟨[], a, rfl⟩
  | a :: b :: K, _ => by
    obtain ⟨L, q, e⟩ := list_last (b :: K) (by simp)
    exact ⟨a :: L, q, by rw [e]; rfl⟩
theorem udE (h : dq M (c + 193) K) (hl : K.length < 17) (h1 : r1 = CJ1_isEmpty t M (c + 193)) (hc : r1 = 0) : ∃ L q, K = L ++ [q] := by
  rw [h1, h.isEmpty hl] at hc
  refine list_last K (fun e => ?_)
  rw [if_pos e] at hc
  exact absurd hc (by decide)
theorem ud_n (hA : layA t c) (hw : wfA M c K S) (h1 : r1 = CJ1_isEmpty t M (c + 193)) (hc : r1 = 0) (hr : r = (CJ1_pollLast t M (c + 193)).1) (hu : u = (CJ1_pollLast t M (c + 193)).2) : ¬ r = none ∧ r.getD 0 ∈ eight c ∧ dq (C2_take t u (c + 1) (r.getD 0)) (c + 195) S ∧ S.length < 16 ∧ ∀ z, z ∈ cliffs c → wfK u z := by
  have hl := hw.len
  obtain ⟨L, q, rfl⟩ := udE hw.2.1 (by omega) h1 hc
  have hL : L.length < 16 := by rw [List.length_append, List.length_singleton] at hl; omega
  obtain ⟨e1, e2⟩ := hw.2.1.last (t := t) hL
  rw [← hr] at e1
  rw [← hu] at e2
  have hq := hw.mem (q := q) (.inl (by simp))
  have hf : far (c + 193) 2 M u := by rw [hu]; exact far_poll2 _
  have hk : ∀ z, z ∈ cliffs c → wfK u z := fun z hz => (hw.1 z hz).far hf (by have := cliffs_at hz; omega)
  rw [e1]
  have hkq := hk q (eight_c hq)
  exact ⟨by simp, hq, (hw.2.2.1.far hf (by omega)).far (far_take (hk (c + 1) (by simp [cliffs])) hkq.n1 hkq.n2 hkq.n3) (by omega), by omega, hk⟩
/-- restore: what is kept goes to the spare -/
def rsM (t : mt) (c : Nat) : Nat → mm → mm
  | 0, M => M
  | n + 1, M => rsM t c n (CJ1_addLast t (CJ1_pollLast t M (c + 193)).2 (c + 195) ((CJ1_pollLast t M (c + 193)).1.getD 0))
theorem rsE (h : dq u (c + 193) K) (h2 : dq u (c + 195) S) (hl : K.length + S.length = 8) (hm : ∀ q, q ∈ K → q ∈ eight c) (h1 : r1 = CJ1_isEmpty t u (c + 193)) (hc : r1 = 0) : ∃ L q, K = L ++ [q] ∧ q ∈ eight c ∧ (CJ1_pollLast t u (c + 193)).1 = some q ∧ dq (CJ1_pollLast t u (c + 193)).2 (c + 193) L ∧ dq (CJ1_pollLast t u (c + 193)).2 (c + 195) S ∧ S.length < 16 ∧ dq (CJ1_addLast t (CJ1_pollLast t u (c + 193)).2 (c + 195) q) (c + 193) L ∧ dq (CJ1_addLast t (CJ1_pollLast t u (c + 193)).2 (c + 195) q) (c + 195) (S ++ [q]) := by
  obtain ⟨L, q, rfl⟩ := udE h (by omega) h1 hc
  have hL : L.length < 16 := by rw [List.length_append, List.length_singleton] at hl; omega
  obtain ⟨e1, e2⟩ := h.last (t := t) hL
  have e3 := h2.far (far_poll2 (t := t) (M := u) (c + 193)) (by omega)
  exact ⟨L, q, rfl, hm q (by simp), e1, e2, e3, by omega, e2.far (far_add _ _) (by omega), e3.add (by omega)⟩
theorem rs_s (n : Nat) (M : mm) : rsM t c (n + 1) M = rsM t c n (CJ1_addLast t (CJ1_pollLast t M (c + 193)).2 (c + 195) ((CJ1_pollLast t M (c + 193)).1.getD 0)) := rfl
end UD
def C1_waits (t : mt) (M : mm) (c : Nat) (x : Int32) (y : Int32) : Int32 × Int32 × mm :=
  let r_1 := C1_isPlace (x) (y);
  let n_3 := C2_bench t M ((c + 1)) (x);
  if r_1 = 0 then
    ((3 : Int32), (0 : Int32), M)
  else
    let n_3 := C2_bench t M ((c + 1)) (x);
    let x5 := if (aR M n_3 (y).toNatClampNeg) = none then (0 : Int32) else (1 : Int32);
    if x5 = 0 then
      ((4 : Int32), (0 : Int32), M)
    else
      ((0 : Int32), ((gI M 216 (c + 1)) - (gI M 300 ((aR M n_3 (y).toNatClampNeg).getD 0))), M)
set_option maxHeartbeats 4000000 in
theorem cm1_waits (l : Launch) (E : mE) (hl9 : l.stackTraces = false) (t : mt) (M : mm) (c : Nat) (x : Int32) (y : Int32) (hA : layA t c) (K S : List Nat) (hw : wfA M c K S) : vx_Met l yX1_waits (ws_ yX1_waits cX1_waits 4 (some .int)) ({ frames := 7, cells := 2, slots := 12, locals := 140 }) (va_Pc [.ref c, .int x, .int y] (wP E t M)) (va_Qi (fun (r : Int32) (u : mm) => (C1_waits t M c x y).1 = 0 ∧ r = (C1_waits t M c x y).2.1 ∧ u = (C1_waits t M c x y).2.2) (fun u U => mw E t u U.heap) (eA E)) (vx_X (fun (u : mm) => ¬ (C1_waits t M c x y).1 = 0 ∧ u = (C1_waits t M c x y).2.2) (fun En q u U => XS E t (C1_waits t M c x y).1 En q u U.heap) (eA E)) 2 12 (eA E) := by
  refine vx_ofW (cc := cX1_waits) (maxL := 4) (ret := (some .int)) (by decide) rfl ?_
  intro p e s m args below meth c0 s₁ B hml hno hv
  obtain ⟨rfl, hs, hm⟩ := hv
  have hx := B.exec
  have hb := B.bytes
  have hr := B.returns
  have hts := atoms_spec (ws := ws_ yX1_waits cX1_waits 4 (some .int)) B.pre
  have hts : ∀ w ∈ lw_all, w.before _ s = true := fun w h => hts w (List.mem_cons_of_mem _ h)
  have hown : s.vm.findClass RX1 = some m.cls := findClass_of_methodNamed B.named
  have hlocks := B.notSynchronized
  have hout : ∀ pc : Nat, ∀ x ∈ c0.exceptionTable.toList, covers x pc = false := fun _ x h => (hno x h).elim
  have hS : va_S (eA E) s.heap s.heap [] := va_S.rf
  have hl := lv_entry ([.ref c, .int x, .int y]) (n := 4) (Nat.le_of_ble_eq_true rfl)
  rw [lg_entry_eq]
  generalize (lg_sl ([.ref c, .int x, .int y]) ++ List.replicate (4 - (lg_sl ([.ref c, .int x, .int y])).length) Slot.unset).toArray = ls at hl ⊢
  have hl : lv_has ls 4 [(0, .ref (c)), (1, .int (x)), (2, .int (y))] := hl
  refine lv_iload_n hx hb dX1_waits_0 rfl (lv_at hl 1 rfl) ?_
  refine lv_iload_n hx hb dX1_waits_1 rfl (lv_at hl 2 rfl) ?_
  refine k_calli (va_runS (As := [.int (x), .int (y)]) (rest := []) ⟨hx, hb, hml, hown, hts⟩ (cm1_isPlace l E (x) (y) _) (va_cwS 2 hts (lw_S q1039 q1040 q58 q1041) rfl rfl rfl (by decide +kernel) ⟨Nat.le_of_ble_eq_true rfl, Nat.le_of_ble_eq_true rfl⟩) (k_pure hs hS) rfl rfl hl.1 rfl (lv_room (Nat.le_of_ble_eq_true rfl)) dX1_waits_2 ⟨Nat.le_of_ble_eq_true rfl, Nat.le_of_ble_eq_true rfl⟩) hS (fun r_1 u_1 H9 locs hw_1 hm_1 hS => ?_)
  replace hm_1 : _ = H9 := Eq.symm hm_1
  subst hm_1
  have hr_1 := hw_1
  refine kx_callv (BX := fun En q u H => XS E t 3 En q u H) (vx_runS (As := [.int (r_1)]) (rest := []) ⟨hx, hb, hml, hown, hts⟩ (cm1_checkIndex l E hl9 t M  (r_1) ) (va_cwS 1 hts (lw_S q841 q842 q58 q843) rfl rfl rfl (by decide +kernel) ⟨Nat.le_of_ble_eq_true rfl, Nat.le_of_ble_eq_true rfl⟩) (k_preS hs hm hS) rfl rfl hl.1 rfl (lv_room (Nat.le_of_ble_eq_true rfl)) dX1_waits_5 ⟨Nat.le_of_ble_eq_true rfl, Nat.le_of_ble_eq_true rfl⟩) hS (fun En_2 ce_2 q_2 u9_2 H locs hp_2 hB_2 hS h1_2 h2_2 h3_2 => ?_) (fun u_2 H locs hw_2 hm_2 hS => ?_)
  · obtain ⟨c_2, hu9_2⟩ := hp_2
    replace hu9_2 := hu9_2.symm
    subst hu9_2
    subst hr_1
    have e9 : C1_waits t M c x y = _ := (if_pos c_2).trans (rfl)
    exact kx_out (BX := fun En q u H => XS E t (C1_waits t M c x y).1 En q u H) (u := _) (fun x h => (hno x h).elim) hlocks (xs_leaf e9 (by decide) hB_2).1 (xs_leaf e9 (by decide) hB_2).2 hS h1_2 h2_2 h3_2 (Nat.le_of_ble_eq_true rfl) (Nat.le_of_ble_eq_true rfl)
  · obtain ⟨c_2, hu_2⟩ := hw_2
    replace hu_2 := hu_2.symm
    subst hu_2
    have hm := hm_2
    have hp1 := (cplace_ix (hr_1 ▸ c_2)).2
    refine lv_aload_n hx hb dX1_waits_8 rfl (lv_at hl 0 rfl) ?_
    refine gf_100 hx hb hts hown hs hm hA.z (hts _ q519) dX1_waits_9 ?_
    refine lv_iload_n hx hb dX1_waits_12 rfl (lv_at hl 1 rfl) ?_
    refine k_callq (va_runV (As := [.int (x)]) (rest := []) ⟨hx, hb, hml, hown, hts⟩ (cm2_bench l E t M  ((c + 1)) (x) hA.c1 ) (cwV 1 hts (lw_V q1042 q582 q583 q59 q584) rfl rfl rfl (by decide +kernel) ⟨Nat.le_of_ble_eq_true rfl, Nat.le_of_ble_eq_true rfl⟩) (k_preV hs hm hS (mw.recv hs hm (mt_ne (lay.z hA.c1) (by decide)) (ct2 (lay.z hA.c1)) rfl)) rfl rfl hl.1 rfl (lv_room (Nat.le_of_ble_eq_true rfl)) dX1_waits_13 ⟨Nat.le_of_ble_eq_true rfl, Nat.le_of_ble_eq_true rfl⟩) hS (fun r_3 u_3 H locs hw_3 hm_3 hS => ?_)
    obtain ⟨hr_3, hu_3⟩ := hw_3
    replace hu_3 := hu_3.symm
    subst hu_3
    have hm := hm_3
    obtain ⟨n_3, hn_3⟩ : ∃ n, n = C2_bench t M ((c + 1)) (x) := ⟨_, rfl⟩
    rw [← hn_3] at hr_3
    subst hr_3
    have hr_3 := hn_3
    clear hn_3
    refine lv_iload_n hx hb dX1_waits_16 rfl (lv_at hl 2 rfl) ?_
    refine k_aald2 hx hb hs hm (bench_k hA.c1 hr_3) (hp1.at (by decide)) dX1_waits_17 ?_
    refine lv_astore_nQ (lv' := [(3, _), (0, _), (1, _), (2, _)]) hx hb dX1_waits_18 rfl hl (by decide) rfl (fun ls hl => ?_)
    refine lv_aload_nQ hx hb dX1_waits_19 rfl (lv_at hl 0 rfl) ?_
    refine k_join (fun (x5 : Int32) H locs ls => x5 = (if (aR M n_3 (y).toNatClampNeg) = none then (0 : Int32) else (1 : Int32)) ∧ mw E t (M) H ∧ va_S (eA E) s.heap H locs ∧ lv_has ls 4 [(3, va_rf ((aR M n_3 (y).toNatClampNeg))), (0, .ref (c)), (1, .int (x)), (2, .int (y))]) (fun (x5 : Int32) ls => F0 m 28 ls [.int (x5)]) (fun x5 H locs ls hJ => ?_) (fun J5 => ?_)
    · obtain ⟨hX5, hm, hS, hl⟩ := hJ
      refine kx_callv (BX := fun En q u H => XS E t 4 En q u H) (vx_runS (As := [.int (x5)]) (rest := []) ⟨hx, hb, hml, hown, hts⟩ (cm1_checkElement l E hl9 t M  (x5) ) (va_cwS 1 hts (lw_S q1043 q1044 q58 q1045) rfl rfl rfl (by decide +kernel) ⟨Nat.le_of_ble_eq_true rfl, Nat.le_of_ble_eq_true rfl⟩) (k_preS hs hm hS) rfl rfl hl.1 rfl (lv_room (Nat.le_of_ble_eq_true rfl)) dX1_waits_28 ⟨Nat.le_of_ble_eq_true rfl, Nat.le_of_ble_eq_true rfl⟩) hS (fun En_6 ce_6 q_6 u9_6 H locs hp_6 hB_6 hS h1_6 h2_6 h3_6 => ?_) (fun u_6 H locs hw_6 hm_6 hS => ?_)
      · obtain ⟨c_6, hu9_6⟩ := hp_6
        replace hu9_6 := hu9_6.symm
        subst hu9_6
        subst hX5
        subst hr_3
        subst hr_1
        have e9 : C1_waits t M c x y = _ := (if_neg c_2).trans ((if_pos c_6).trans (rfl))
        exact kx_out (BX := fun En q u H => XS E t (C1_waits t M c x y).1 En q u H) (u := _) (fun x h => (hno x h).elim) hlocks (xs_leaf e9 (by decide) hB_6).1 (xs_leaf e9 (by decide) hB_6).2 hS h1_6 h2_6 h3_6 (Nat.le_of_ble_eq_true rfl) (Nat.le_of_ble_eq_true rfl)
      · obtain ⟨c_6, hu_6⟩ := hw_6
        replace hu_6 := hu_6.symm
        subst hu_6
        have hm := hm_6
        have hn1 := nn2 hX5 c_6
        refine lv_aload_n hx hb dX1_waits_31 rfl (lv_at hl 1 rfl) ?_
        refine gf_100 hx hb hts hown hs hm hA.z (hts _ q519) dX1_waits_32 ?_
        refine gfN_216 hx hb hts hown hs hm (lay.z hA.c1) q258 dX1_waits_35 ?_
        refine lv_aload_nQ hx hb dX1_waits_38 rfl (lv_at hl 0 rfl) ?_
        refine k_nn hn1 ?_
        refine gfN_300 hx hb hts hown hs hm (plO.get (by rw [hr_3]; exact bench_plO hw.w1 hA.c1 hp1) hn1) q133 dX1_waits_39 ?_
        refine lv_isub hx hb dX1_waits_42 ?_
        subst hX5
        subst hr_3
        subst hr_1
        refine vx_ret ?_
        refine W.widen (k := 2) (n := 12) (Nat.le_of_ble_eq_true rfl) (Nat.le_of_ble_eq_true rfl) ?_
        exact W.iret (v := _) hx hb hr (fun t9 ht9 _ => ⟨⟨_, _, rfl, pp3 ((if_neg c_2).trans ((if_neg c_6).trans (rfl))), hb9 ht9 hm⟩, hS.F ht9⟩) hS.2.2 dX1_waits_43
    · refine lv_ifnullQ (tgt := 27) hx hb dX1_waits_20 (by decide) (fun c_4 => ?_) (fun c_4 => ?_)
      · refine lv_iconst (v := (0 : Int32)) hx hb dX1_waits_27 (by decide) ?_
        exact J5 ((0 : Int32)) _ _ _ ⟨((if_pos c_4).trans (rfl)).symm, hm, hS, lv_sub hl [0, 1, 2, 3] rfl⟩
      · refine lv_iconst (v := (1 : Int32)) hx hb dX1_waits_23 (by decide) ?_
        refine lv_goto (tgt := 28) hx hb dX1_waits_24 (by decide) ?_
        exact J5 ((1 : Int32)) _ _ _ ⟨((if_neg c_4).trans (rfl)).symm, hm, hS, lv_sub hl [0, 1, 2, 3] rfl⟩
def C1_weightIn (t : mt) (M : mm) (c : Nat) (x : Int32) (y : Int32) : Int32 × Int32 × mm :=
  let r_1 := C1_isPlot (x);
  let r_3 := C1_in (y) ((0 : Int32)) ((60 : Int32));
  let r_5 := (C1_cropOf t M (c) (x)).2.1;
  let u_5 := (C1_cropOf t M (c) (x)).2.2;
  let u_6 := (C1_tryOn t u_5 (c) ).2;
  let r_7 := (C2_pass t u_6 ((c + 65)) (y)).1;
  let u_7 := (C2_pass t u_6 ((c + 65)) (y)).2;
  let r_8 := T_fbits ((gF u_7 301 ((aR u_7 ((c + 65) + 4) (x).toNatClampNeg).getD 0)));
  if r_1 = 0 then
    ((3 : Int32), (0 : Int32), M)
  else
    let r_3 := C1_in (y) ((0 : Int32)) ((60 : Int32));
    let r_5 := (C1_cropOf t M (c) (x)).2.1;
    let u_5 := (C1_cropOf t M (c) (x)).2.2;
    let u_6 := (C1_tryOn t u_5 (c) ).2;
    let r_7 := (C2_pass t u_6 ((c + 65)) (y)).1;
    let u_7 := (C2_pass t u_6 ((c + 65)) (y)).2;
    let r_8 := T_fbits ((gF u_7 301 ((aR u_7 ((c + 65) + 4) (x).toNatClampNeg).getD 0)));
    if r_3 = 0 then
      ((1 : Int32), (0 : Int32), M)
    else
      let r_5 := (C1_cropOf t M (c) (x)).2.1;
      let u_5 := (C1_cropOf t M (c) (x)).2.2;
      let u_6 := (C1_tryOn t u_5 (c) ).2;
      let r_7 := (C2_pass t u_6 ((c + 65)) (y)).1;
      let u_7 := (C2_pass t u_6 ((c + 65)) (y)).2;
      let r_8 := T_fbits ((gF u_7 301 ((aR u_7 ((c + 65) + 4) (x).toNatClampNeg).getD 0)));
      if (C1_cropOf t M (c) (x)).1 = 0 then
        let u_6 := (C1_tryOn t u_5 (c) ).2;
        let r_7 := (C2_pass t u_6 ((c + 65)) (y)).1;
        let u_7 := (C2_pass t u_6 ((c + 65)) (y)).2;
        let r_8 := T_fbits ((gF u_7 301 ((aR u_7 ((c + 65) + 4) (x).toNatClampNeg).getD 0)));
        ((0 : Int32), r_8, u_7)
      else
        ((C1_cropOf t M (c) (x)).1, (0 : Int32), (C1_cropOf t M (c) (x)).2.2)
set_option maxHeartbeats 4000000 in
theorem cm1_weightIn (l : Launch) (E : mE) (hl9 : l.stackTraces = false) (t : mt) (M : mm) (c : Nat) (x : Int32) (y : Int32) (hA : layA t c) (K S : List Nat) (hw : wfA M c K S) (hT : wfK (C1_tryOn t M c).2 (c + 65)) (hC : ¬ C1_isPlot x = 0 → ¬ aR M ((c + 1) + 4) x.toNatClampNeg = none → ¬ aR (C1_tryOn t M c).2 ((c + 65) + 4) x.toNatClampNeg = none) : vx_Met l yX1_weightIn (ws_ yX1_weightIn cX1_weightIn 5 (some .int)) ({ frames := 8, cells := 63, slots := 738, locals := 161 }) (va_Pc [.ref c, .int x, .int y] (wP E t M)) (va_Qi (fun (r : Int32) (u : mm) => (C1_weightIn t M c x y).1 = 0 ∧ r = (C1_weightIn t M c x y).2.1 ∧ u = (C1_weightIn t M c x y).2.2) (fun u U => mw E t u U.heap) (eA E)) (vx_X (fun (u : mm) => ¬ (C1_weightIn t M c x y).1 = 0 ∧ u = (C1_weightIn t M c x y).2.2) (fun En q u U => XS E t (C1_weightIn t M c x y).1 En q u U.heap) (eA E)) 63 738 (eA E) := by
  refine vx_ofW (cc := cX1_weightIn) (maxL := 5) (ret := (some .int)) (by decide) rfl ?_
  intro p e s m args below meth c0 s₁ B hml hno hv
  obtain ⟨rfl, hs, hm⟩ := hv
  have hx := B.exec
  have hb := B.bytes
  have hr := B.returns
  have hts := atoms_spec (ws := ws_ yX1_weightIn cX1_weightIn 5 (some .int)) B.pre
  have hts : ∀ w ∈ lw_all, w.before _ s = true := fun w h => hts w (List.mem_cons_of_mem _ h)
  have hown : s.vm.findClass RX1 = some m.cls := findClass_of_methodNamed B.named
  have hlocks := B.notSynchronized
  have hout : ∀ pc : Nat, ∀ x ∈ c0.exceptionTable.toList, covers x pc = false := fun _ x h => (hno x h).elim
  have hS : va_S (eA E) s.heap s.heap [] := va_S.rf
  have hl := lv_entry ([.ref c, .int x, .int y]) (n := 5) (Nat.le_of_ble_eq_true rfl)
  rw [lg_entry_eq]
  generalize (lg_sl ([.ref c, .int x, .int y]) ++ List.replicate (5 - (lg_sl ([.ref c, .int x, .int y])).length) Slot.unset).toArray = ls at hl ⊢
  have hl : lv_has ls 5 [(0, .ref (c)), (1, .int (x)), (2, .int (y))] := hl
  refine lv_iload_n hx hb dX1_weightIn_0 rfl (lv_at hl 1 rfl) ?_
  refine k_calli (va_runS (As := [.int (x)]) (rest := []) ⟨hx, hb, hml, hown, hts⟩ (cm1_isPlot l E (x) _) (va_cwS 1 hts (lw_S q838 q839 q58 q840) rfl rfl rfl (by decide +kernel) ⟨Nat.le_of_ble_eq_true rfl, Nat.le_of_ble_eq_true rfl⟩) (k_pure hs hS) rfl rfl hl.1 rfl (lv_room (Nat.le_of_ble_eq_true rfl)) dX1_weightIn_1 ⟨Nat.le_of_ble_eq_true rfl, Nat.le_of_ble_eq_true rfl⟩) hS (fun r_1 u_1 H9 locs hw_1 hm_1 hS => ?_)
  replace hm_1 : _ = H9 := Eq.symm hm_1
  subst hm_1
  have hr_1 := hw_1
  refine kx_callv (BX := fun En q u H => XS E t 3 En q u H) (vx_runS (As := [.int (r_1)]) (rest := []) ⟨hx, hb, hml, hown, hts⟩ (cm1_checkIndex l E hl9 t M  (r_1) ) (va_cwS 1 hts (lw_S q841 q842 q58 q843) rfl rfl rfl (by decide +kernel) ⟨Nat.le_of_ble_eq_true rfl, Nat.le_of_ble_eq_true rfl⟩) (k_preS hs hm hS) rfl rfl hl.1 rfl (lv_room (Nat.le_of_ble_eq_true rfl)) dX1_weightIn_4 ⟨Nat.le_of_ble_eq_true rfl, Nat.le_of_ble_eq_true rfl⟩) hS (fun En_2 ce_2 q_2 u9_2 H locs hp_2 hB_2 hS h1_2 h2_2 h3_2 => ?_) (fun u_2 H locs hw_2 hm_2 hS => ?_)
  · obtain ⟨c_2, hu9_2⟩ := hp_2
    replace hu9_2 := hu9_2.symm
    subst hu9_2
    subst hr_1
    have e9 : C1_weightIn t M c x y = _ := (if_pos c_2).trans (rfl)
    exact kx_out (BX := fun En q u H => XS E t (C1_weightIn t M c x y).1 En q u H) (u := _) (fun x h => (hno x h).elim) hlocks (xs_leaf e9 (by decide) hB_2).1 (xs_leaf e9 (by decide) hB_2).2 hS h1_2 h2_2 h3_2 (Nat.le_of_ble_eq_true rfl) (Nat.le_of_ble_eq_true rfl)
  · obtain ⟨c_2, hu_2⟩ := hw_2
    replace hu_2 := hu_2.symm
    subst hu_2
    have hm := hm_2
    have hp1 : ix 12 x := cplot_ix (hr_1 ▸ c_2)
    refine lv_iload_n hx hb dX1_weightIn_7 rfl (lv_at hl 2 rfl) ?_
    refine lv_iconst (v := (0 : Int32)) hx hb dX1_weightIn_8 (by decide) ?_
    refine lv_bipush (v := (60 : Int32)) hx hb dX1_weightIn_9 (by decide) ?_
    refine k_calli (va_runS (As := [.int (y), .int ((0 : Int32)), .int ((60 : Int32))]) (rest := []) ⟨hx, hb, hml, hown, hts⟩ (cm1_in l E (y) ((0 : Int32)) ((60 : Int32)) _) (va_cwS 3 hts (lw_S q699 q700 q58 q701) rfl rfl rfl (by decide +kernel) ⟨Nat.le_of_ble_eq_true rfl, Nat.le_of_ble_eq_true rfl⟩) (k_pure hs hS) rfl rfl hl.1 rfl (lv_room (Nat.le_of_ble_eq_true rfl)) dX1_weightIn_11 ⟨Nat.le_of_ble_eq_true rfl, Nat.le_of_ble_eq_true rfl⟩) hS (fun r_3 u_3 H9 locs hw_3 hm_3 hS => ?_)
    replace hm_3 : _ = H9 := Eq.symm hm_3
    subst hm_3
    have hr_3 := hw_3
    refine kx_callv (BX := fun En q u H => XS E t 1 En q u H) (vx_runS (As := [.int (r_3)]) (rest := []) ⟨hx, hb, hml, hown, hts⟩ (cm1_check l E hl9 t M  (r_3) ) (va_cwS 1 hts (lw_S q702 q703 q58 q704) rfl rfl rfl (by decide +kernel) ⟨Nat.le_of_ble_eq_true rfl, Nat.le_of_ble_eq_true rfl⟩) (k_preS hs hm hS) rfl rfl hl.1 rfl (lv_room (Nat.le_of_ble_eq_true rfl)) dX1_weightIn_14 ⟨Nat.le_of_ble_eq_true rfl, Nat.le_of_ble_eq_true rfl⟩) hS (fun En_4 ce_4 q_4 u9_4 H locs hp_4 hB_4 hS h1_4 h2_4 h3_4 => ?_) (fun u_4 H locs hw_4 hm_4 hS => ?_)
    · obtain ⟨c_4, hu9_4⟩ := hp_4
      replace hu9_4 := hu9_4.symm
      subst hu9_4
      subst hr_3
      subst hr_1
      have e9 : C1_weightIn t M c x y = _ := (if_neg c_2).trans ((if_pos c_4).trans (rfl))
      exact kx_out (BX := fun En q u H => XS E t (C1_weightIn t M c x y).1 En q u H) (u := _) (fun x h => (hno x h).elim) hlocks (xs_leaf e9 (by decide) hB_4).1 (xs_leaf e9 (by decide) hB_4).2 hS h1_4 h2_4 h3_4 (Nat.le_of_ble_eq_true rfl) (Nat.le_of_ble_eq_true rfl)
    · obtain ⟨c_4, hu_4⟩ := hw_4
      replace hu_4 := hu_4.symm
      subst hu_4
      have hm := hm_4
      have hp2 : ix 61 y := in_ix (hr_3 ▸ c_4) (by decide) (by decide)
      refine lv_aload_n hx hb dX1_weightIn_17 rfl (lv_at hl 0 rfl) ?_
      refine lv_iload_n hx hb dX1_weightIn_18 rfl (lv_at hl 1 rfl) ?_
      refine kx_callq (BX := fun En q u H => XS E t (C1_cropOf t M (c) (x)).1 En q u H) (vx_runV (As := [.int (x)]) (rest := []) ⟨hx, hb, hml, hown, hts⟩ (cm1_cropOf l E hl9 t M  (c) (x) hA K S hw hp1) (cwV 1 hts (lw_V q1095 q1097 qs12 q58 q1098) rfl rfl rfl (by decide +kernel) ⟨Nat.le_of_ble_eq_true rfl, Nat.le_of_ble_eq_true rfl⟩) (k_preV hs hm hS (mw.recv hs hm (mt_ne hA.z (by decide)) (ct1 hA.z) rfl)) rfl rfl hl.1 rfl (lv_room (Nat.le_of_ble_eq_true rfl)) dX1_weightIn_19 ⟨Nat.le_of_ble_eq_true rfl, Nat.le_of_ble_eq_true rfl⟩) hS (fun En_5 ce_5 q_5 u9_5 H locs hp_5 hB_5 hS h1_5 h2_5 h3_5 => ?_) (fun r_5 u_5 H locs hw_5 hm_5 hS => ?_)
      · obtain ⟨c_5, hu9_5⟩ := hp_5
        replace hu9_5 := hu9_5.symm
        subst hu9_5
        subst hr_3
        subst hr_1
        have e9 : C1_weightIn t M c x y = _ := (if_neg c_2).trans ((if_neg c_4).trans ((if_neg c_5).trans (rfl)))
        exact kx_out (BX := fun En q u H => XS E t (C1_weightIn t M c x y).1 En q u H) (u := _) (fun x h => (hno x h).elim) hlocks (xs_leaf e9 c_5 hB_5).1 (xs_leaf e9 c_5 hB_5).2 hS h1_5 h2_5 h3_5 (Nat.le_of_ble_eq_true rfl) (Nat.le_of_ble_eq_true rfl)
      · obtain ⟨c_5, hr_5, hu_5⟩ := hw_5
        have hm := hm_5
        refine lv_astore_nQ (lv' := [(3, _), (0, _), (1, _), (2, _)]) hx hb dX1_weightIn_22 rfl hl (by decide) rfl (fun ls hl => ?_)
        refine lv_aload_n hx hb dX1_weightIn_23 rfl (lv_at hl 1 rfl) ?_
        refine k_callq (va_runV (As := []) (rest := []) ⟨hx, hb, hml, hown, hts⟩ (cm1_tryOn l E t u_5  (c)  hA K S (show wfA u_5 c K S from by rw [hu_5, cropOf_M]; exact hw)) (cwV 0 hts (lw_V q742 q744 qs7 q58 q745) rfl rfl rfl (by decide +kernel) ⟨Nat.le_of_ble_eq_true rfl, Nat.le_of_ble_eq_true rfl⟩) (k_preV hs hm hS (mw.recv hs hm (mt_ne hA.z (by decide)) (ct1 hA.z) rfl)) rfl rfl hl.1 rfl (lv_room (Nat.le_of_ble_eq_true rfl)) dX1_weightIn_24 ⟨Nat.le_of_ble_eq_true rfl, Nat.le_of_ble_eq_true rfl⟩) hS (fun r_6 u_6 H locs hw_6 hm_6 hS => ?_)
        obtain ⟨hr_6, hu_6⟩ := hw_6
        have hm := hm_6
        obtain ⟨n_6, hn_6⟩ : ∃ n, n = (C1_tryOn t u_5 (c) ).1 := ⟨_, rfl⟩
        rw [← hn_6] at hr_6
        subst hr_6
        have hr_6 := hn_6
        clear hn_6
        obtain rfl : n_6 = (c + 65) := hr_6
        refine lv_iload_n hx hb dX1_weightIn_27 rfl (lv_at hl 3 rfl) ?_
        refine k_calli (va_runV (As := [.int (y)]) (rest := []) ⟨hx, hb, hml, hown, hts⟩ (cm2_pass l E t u_6  ((c + 65)) (y) hA.c2 hp2 ((show wfK u_6 (c + 65) from by rw [hu_6, hu_5, cropOf_M]; exact hT).wfC hA.c2)) (cwV 1 hts (lw_V q945 q946 q947 q59 q948) rfl rfl rfl (by decide +kernel) ⟨Nat.le_of_ble_eq_true rfl, Nat.le_of_ble_eq_true rfl⟩) (k_preV hs hm hS (mw.recv hs hm (mt_ne (lay.z hA.c2) (by decide)) (ct2 (lay.z hA.c2)) rfl)) rfl rfl hl.1 rfl (lv_room (Nat.le_of_ble_eq_true rfl)) dX1_weightIn_28 ⟨Nat.le_of_ble_eq_true rfl, Nat.le_of_ble_eq_true rfl⟩) hS (fun r_7 u_7 H locs hw_7 hm_7 hS => ?_)
        obtain ⟨hr_7, hu_7⟩ := hw_7
        have hm := hm_7
        refine lv_istore (lv' := [(4, .int (r_7)), (3, va_rf (r_5)), (0, .ref (c)), (1, .int (x)), (2, .int (y))]) hx hb dX1_weightIn_31 hl (by decide) (by simp [cat_rf]) (fun ls hl => ?_)
        refine lv_aload_n hx hb dX1_weightIn_33 rfl (lv_at hl 2 rfl) ?_
        refine gf_101 hx hb hts hown hs hm hA.z (hts _ q520) dX1_weightIn_34 ?_
        refine gfN_203 hx hb hts hown hs hm (lay.z hA.c2) q234 dX1_weightIn_37 ?_
        refine lv_iload_n hx hb dX1_weightIn_40 rfl (lv_at hl 3 rfl) ?_
        refine k_aald24 hx hb hs hm (lay.a4 hA.c2) (ix.at (B := 12) ((hp1).mono (by decide)) (by decide)) dX1_weightIn_41 ?_
        refine k_nn (by rw [hu_7, show ∀ b, aR (C2_pass t u_6 (c + 65) y).2 b = aR u_6 b from fun b => pass_aR b _, hu_6, hu_5, cropOf_M]; exact hC (hr_1 ▸ c_2) ((cropOf_ok c_5 rfl).2 ▸ (cropOf_ok c_5 rfl).1)) ?_
        refine gfN_301 hx hb hts hown hs hm (plO.get (by rw [hu_7, show ∀ b, aR (C2_pass t u_6 (c + 65) y).2 b = aR u_6 b from fun b => pass_aR b _, hu_6, hu_5, cropOf_M]; exact hT.cr hA.c2 _ hp1.nlt) (by rw [hu_7, show ∀ b, aR (C2_pass t u_6 (c + 65) y).2 b = aR u_6 b from fun b => pass_aR b _, hu_6, hu_5, cropOf_M]; exact hC (hr_1 ▸ c_2) ((cropOf_ok c_5 rfl).2 ▸ (cropOf_ok c_5 rfl).1))) q136 dX1_weightIn_42 ?_
        refine k_calli (va_runS (As := [.float ((gF u_7 301 ((aR u_7 ((c + 65) + 4) (x).toNatClampNeg).getD 0)))]) (rest := []) ⟨hx, hb, hml, hown, hts⟩ (jm_J16_floatToIntBits l E ((gF u_7 301 ((aR u_7 ((c + 65) + 4) (x).toNatClampNeg).getD 0))) _) (va_cwS 1 hts (lw_S q930 q931 q87 q932) rfl rfl rfl (by decide +kernel) ⟨Nat.le_of_ble_eq_true rfl, Nat.le_of_ble_eq_true rfl⟩) (k_pure hs hS) rfl rfl hl.1 rfl (lv_room (Nat.le_of_ble_eq_true rfl)) dX1_weightIn_45 ⟨Nat.le_of_ble_eq_true rfl, Nat.le_of_ble_eq_true rfl⟩) hS (fun r_8 u_8 H9 locs hw_8 hm_8 hS => ?_)
        replace hm_8 : _ = H9 := Eq.symm hm_8
        subst hm_8
        have hr_8 := hw_8
        subst hr_8
        subst hu_7
        subst hr_7
        subst hu_6
        subst hu_5
        subst hr_5
        subst hr_3
        subst hr_1
        refine vx_ret ?_
        refine W.widen (k := 63) (n := 738) (Nat.le_of_ble_eq_true rfl) (Nat.le_of_ble_eq_true rfl) ?_
        exact W.iret (v := _) hx hb hr (fun t9 ht9 _ => ⟨⟨_, _, rfl, pp3 ((if_neg c_2).trans ((if_neg c_4).trans ((if_pos c_5).trans (rfl)))), hb9 ht9 hm⟩, hS.F ht9⟩) hS.2.2 dX1_weightIn_48
def C1_undo (t : mt) (M : mm) (c : Nat)  : Int32 × Int32 × mm :=
  let r_1 := CJ1_isEmpty t M ((c + 193)) ;
  let x3 := if r_1 = 0 then (1 : Int32) else (0 : Int32);
  let r_5 := (CJ1_pollLast t M ((c + 193)) ).1;
  let u_5 := (CJ1_pollLast t M ((c + 193)) ).2;
  let u_6 := C2_take t u_5 ((c + 1)) ((r_5.getD 0));
  let u_7 := CJ1_addLast t u_6 ((c + 195)) ((r_5.getD 0));
  let r_8 := CJ1_size t u_7 ((c + 193)) ;
  if x3 = 0 then
    ((5 : Int32), (0 : Int32), M)
  else
    let r_5 := (CJ1_pollLast t M ((c + 193)) ).1;
    let u_5 := (CJ1_pollLast t M ((c + 193)) ).2;
    let u_6 := C2_take t u_5 ((c + 1)) ((r_5.getD 0));
    let u_7 := CJ1_addLast t u_6 ((c + 195)) ((r_5.getD 0));
    let r_8 := CJ1_size t u_7 ((c + 193)) ;
    ((0 : Int32), r_8, u_7)
set_option maxHeartbeats 4000000 in
theorem cm1_undo (l : Launch) (E : mE) (hl9 : l.stackTraces = false) (t : mt) (M : mm) (c : Nat)  (hA : layA t c) (K S : List Nat) (hw : wfA M c K S) : vx_Met l yX1_undo (ws_ yX1_undo cX1_undo 2 (some .int)) ({ frames := 7, cells := 1, slots := 6, locals := 140 }) (va_Pc [.ref c] (wP E t M)) (va_Qi (fun (r : Int32) (u : mm) => (C1_undo t M c ).1 = 0 ∧ r = (C1_undo t M c ).2.1 ∧ u = (C1_undo t M c ).2.2) (fun u U => mw E t u U.heap) (eA E)) (vx_X (fun (u : mm) => ¬ (C1_undo t M c ).1 = 0 ∧ u = (C1_undo t M c ).2.2) (fun En q u U => XS E t (C1_undo t M c ).1 En q u U.heap) (eA E)) 1 6 (eA E) := by
  refine vx_ofW (cc := cX1_undo) (maxL := 2) (ret := (some .int)) (by decide) rfl ?_
  intro p e s m args below meth c0 s₁ B hml hno hv
  obtain ⟨rfl, hs, hm⟩ := hv
  have hx := B.exec
  have hb := B.bytes
  have hr := B.returns
  have hts := atoms_spec (ws := ws_ yX1_undo cX1_undo 2 (some .int)) B.pre
  have hts : ∀ w ∈ lw_all, w.before _ s = true := fun w h => hts w (List.mem_cons_of_mem _ h)
  have hown : s.vm.findClass RX1 = some m.cls := findClass_of_methodNamed B.named
  have hlocks := B.notSynchronized
  have hout : ∀ pc : Nat, ∀ x ∈ c0.exceptionTable.toList, covers x pc = false := fun _ x h => (hno x h).elim
  have hS : va_S (eA E) s.heap s.heap [] := va_S.rf
  have hl := lv_entry ([.ref c]) (n := 2) (Nat.le_of_ble_eq_true rfl)
  rw [lg_entry_eq]
  generalize (lg_sl ([.ref c]) ++ List.replicate (2 - (lg_sl ([.ref c])).length) Slot.unset).toArray = ls at hl ⊢
  have hl : lv_has ls 2 [(0, .ref (c))] := hl
  refine lv_aload_n hx hb dX1_undo_0 rfl (lv_at hl 0 rfl) ?_
  refine gf_104 hx hb hts hown hs hm hA.z (hts _ q523) dX1_undo_1 ?_
  refine k_calli (va_runV (As := []) (rest := []) ⟨hx, hb, hml, hown, hts⟩ (cmJ1_isEmpty l E t M  ((c + 193))  hA.k ) (cwV 0 hts (lw_V q561 q562 q563 q67 q564) rfl rfl rfl (by decide +kernel) ⟨Nat.le_of_ble_eq_true rfl, Nat.le_of_ble_eq_true rfl⟩) (k_preV hs hm hS (mw.recv hs hm (mt_ne hA.k.z (by decide)) (ct10 hA.k.z) rfl)) rfl rfl hl.1 rfl (lv_room (Nat.le_of_ble_eq_true rfl)) dX1_undo_4 ⟨Nat.le_of_ble_eq_true rfl, Nat.le_of_ble_eq_true rfl⟩) hS (fun r_1 u_1 H locs hw_1 hm_1 hS => ?_)
  obtain ⟨hr_1, hu_1⟩ := hw_1
  replace hu_1 := hu_1.symm
  subst hu_1
  have hm := hm_1
  refine k_join (fun (x3 : Int32) H locs ls => x3 = (if r_1 = 0 then (1 : Int32) else (0 : Int32)) ∧ mw E t (M) H ∧ va_S (eA E) s.heap H locs ∧ lv_has ls 2 [(0, .ref (c))]) (fun (x3 : Int32) ls => F0 m 15 ls [.int (x3)]) (fun x3 H locs ls hJ => ?_) (fun J3 => ?_)
  · obtain ⟨hX3, hm, hS, hl⟩ := hJ
    refine kx_callv (BX := fun En q u H => XS E t 5 En q u H) (vx_runS (As := [.int (x3)]) (rest := []) ⟨hx, hb, hml, hown, hts⟩ (cm1_checkState l E hl9 t M  (x3) ) (va_cwS 1 hts (lw_S q1256 q1257 q58 q1258) rfl rfl rfl (by decide +kernel) ⟨Nat.le_of_ble_eq_true rfl, Nat.le_of_ble_eq_true rfl⟩) (k_preS hs hm hS) rfl rfl hl.1 rfl (lv_room (Nat.le_of_ble_eq_true rfl)) dX1_undo_15 ⟨Nat.le_of_ble_eq_true rfl, Nat.le_of_ble_eq_true rfl⟩) hS (fun En_4 ce_4 q_4 u9_4 H locs hp_4 hB_4 hS h1_4 h2_4 h3_4 => ?_) (fun u_4 H locs hw_4 hm_4 hS => ?_)
    · obtain ⟨c_4, hu9_4⟩ := hp_4
      replace hu9_4 := hu9_4.symm
      subst hu9_4
      subst hX3
      subst hr_1
      have e9 : C1_undo t M c  = _ := (if_pos c_4).trans (rfl)
      exact kx_out (BX := fun En q u H => XS E t (C1_undo t M c ).1 En q u H) (u := _) (fun x h => (hno x h).elim) hlocks (xs_leaf e9 (by decide) hB_4).1 (xs_leaf e9 (by decide) hB_4).2 hS h1_4 h2_4 h3_4 (Nat.le_of_ble_eq_true rfl) (Nat.le_of_ble_eq_true rfl)
    · obtain ⟨c_4, hu_4⟩ := hw_4
      replace hu_4 := hu_4.symm
      subst hu_4
      have hm := hm_4
      have hc0 := is0 hX3 c_4
      refine lv_aload_n hx hb dX1_undo_18 rfl (lv_at hl 0 rfl) ?_
      refine gf_104 hx hb hts hown hs hm hA.z (hts _ q523) dX1_undo_19 ?_
      refine k_callq (va_runV (As := []) (rest := []) ⟨hx, hb, hml, hown, hts⟩ (cmJ1_pollLast l E t M  ((c + 193))  hA.k hw.2.1.tl) (cwV 0 hts (lw_V q1653 q1654 q1655 q67 q1656) rfl rfl rfl (by decide +kernel) ⟨Nat.le_of_ble_eq_true rfl, Nat.le_of_ble_eq_true rfl⟩) (k_preV hs hm hS (mw.recv hs hm (mt_ne hA.k.z (by decide)) (ct10 hA.k.z) rfl)) rfl rfl hl.1 rfl (lv_room (Nat.le_of_ble_eq_true rfl)) dX1_undo_22 ⟨Nat.le_of_ble_eq_true rfl, Nat.le_of_ble_eq_true rfl⟩) hS (fun r_5 u_5 H locs hw_5 hm_5 hS => ?_)
      obtain ⟨hr_5, hu_5⟩ := hw_5
      have hm := hm_5
      refine k_nn (ud_n hA hw hr_1 hc0 hr_5 hu_5).1 ?_
      refine k_castC hx hb hown (hts _ q105) hs hm (hA.2.1 _ (eight_c (ud_n hA hw hr_1 hc0 hr_5 hu_5).2.1)) dX1_undo_25 ?_
      refine lv_astore_n (lv' := [(1, _), (0, _)]) hx hb dX1_undo_28 rfl hl (by decide) rfl (fun ls hl => ?_)
      refine lv_aload_n hx hb dX1_undo_29 rfl (lv_at hl 1 rfl) ?_
      refine gf_100 hx hb hts hown hs hm hA.z (hts _ q519) dX1_undo_30 ?_
      refine lv_aload_n hx hb dX1_undo_33 rfl (lv_at hl 0 rfl) ?_
      refine k_callv (va_runV (As := [.ref ((r_5.getD 0))]) (rest := []) ⟨hx, hb, hml, hown, hts⟩ (cm2_take l E t u_5  ((c + 1)) ((r_5.getD 0)) hA.c1 (hA.2.1 _ (eight_c (ud_n hA hw hr_1 hc0 hr_5 hu_5).2.1)) (fun h9 => lay_sep hA (ud_n hA hw hr_1 hc0 hr_5 hu_5).2.1 h9.symm) (wfK.m7 ((ud_n hA hw hr_1 hc0 hr_5 hu_5).2.2.2.2 _ (eight_c (ud_n hA hw hr_1 hc0 hr_5 hu_5).2.1)) (hA.2.1 _ (eight_c (ud_n hA hw hr_1 hc0 hr_5 hu_5).2.1))) (wfK.m8 ((ud_n hA hw hr_1 hc0 hr_5 hu_5).2.2.2.2 _ (eight_c (ud_n hA hw hr_1 hc0 hr_5 hu_5).2.1)) (hA.2.1 _ (eight_c (ud_n hA hw hr_1 hc0 hr_5 hu_5).2.1))) (wfK.cr ((ud_n hA hw hr_1 hc0 hr_5 hu_5).2.2.2.2 _ (eight_c (ud_n hA hw hr_1 hc0 hr_5 hu_5).2.1)) (hA.2.1 _ (eight_c (ud_n hA hw hr_1 hc0 hr_5 hu_5).2.1))) (wfK.n1 ((ud_n hA hw hr_1 hc0 hr_5 hu_5).2.2.2.2 _ (eight_c (ud_n hA hw hr_1 hc0 hr_5 hu_5).2.1))) (wfK.n2 ((ud_n hA hw hr_1 hc0 hr_5 hu_5).2.2.2.2 _ (eight_c (ud_n hA hw hr_1 hc0 hr_5 hu_5).2.1))) (wfK.n3 ((ud_n hA hw hr_1 hc0 hr_5 hu_5).2.2.2.2 _ (eight_c (ud_n hA hw hr_1 hc0 hr_5 hu_5).2.1))) (wfK.st ((ud_n hA hw hr_1 hc0 hr_5 hu_5).2.2.2.2 _ (eight_c (ud_n hA hw hr_1 hc0 hr_5 hu_5).2.1))) (wfK.pz ((ud_n hA hw hr_1 hc0 hr_5 hu_5).2.2.2.2 (c + 1) (by simp [cliffs])) hA.c1) (wfK.pz ((ud_n hA hw hr_1 hc0 hr_5 hu_5).2.2.2.2 _ (eight_c (ud_n hA hw hr_1 hc0 hr_5 hu_5).2.1)) (hA.2.1 _ (eight_c (ud_n hA hw hr_1 hc0 hr_5 hu_5).2.1)))) (cwV 1 hts (lw_V q572 q573 q574 q59 q575) rfl rfl rfl (by decide +kernel) ⟨Nat.le_of_ble_eq_true rfl, Nat.le_of_ble_eq_true rfl⟩) (k_preV hs hm hS (mw.recv hs hm (mt_ne (lay.z hA.c1) (by decide)) (ct2 (lay.z hA.c1)) rfl)) rfl rfl hl.1 rfl (lv_room (Nat.le_of_ble_eq_true rfl)) dX1_undo_34 ⟨Nat.le_of_ble_eq_true rfl, Nat.le_of_ble_eq_true rfl⟩) hS (fun u_6 H locs hw_6 hm_6 hS => ?_)
      have hu_6 := hw_6
      have hm := hm_6
      refine lv_aload_n hx hb dX1_undo_37 rfl (lv_at hl 1 rfl) ?_
      refine gf_105 hx hb hts hown hs hm hA.z (hts _ q524) dX1_undo_38 ?_
      refine lv_aload_n hx hb dX1_undo_41 rfl (lv_at hl 0 rfl) ?_
      refine k_callv (va_runV (As := [.ref ((r_5.getD 0))]) (rest := []) ⟨hx, hb, hml, hown, hts⟩ (cmJ1_addLast l E t u_6  ((c + 195)) ((r_5.getD 0)) hA.s (by rw [hu_6]; exact (ud_n hA hw hr_1 hc0 hr_5 hu_5).2.2.1.tl) (hA.2.1 _ (eight_c (ud_n hA hw hr_1 hc0 hr_5 hu_5).2.1)) (by rw [hu_6]; exact (ud_n hA hw hr_1 hc0 hr_5 hu_5).2.2.1.full (ud_n hA hw hr_1 hc0 hr_5 hu_5).2.2.2.1)) (cwV 1 hts (lw_V q387 q388 q389 q67 q390) rfl rfl rfl (by decide +kernel) ⟨Nat.le_of_ble_eq_true rfl, Nat.le_of_ble_eq_true rfl⟩) (k_preV hs hm hS (mw.recv hs hm (mt_ne hA.s.z (by decide)) (ct10 hA.s.z) rfl)) rfl rfl hl.1 rfl (lv_room (Nat.le_of_ble_eq_true rfl)) dX1_undo_42 ⟨Nat.le_of_ble_eq_true rfl, Nat.le_of_ble_eq_true rfl⟩) hS (fun u_7 H locs hw_7 hm_7 hS => ?_)
      have hu_7 := hw_7
      have hm := hm_7
      refine lv_aload_n hx hb dX1_undo_45 rfl (lv_at hl 1 rfl) ?_
      refine gf_104 hx hb hts hown hs hm hA.z (hts _ q523) dX1_undo_46 ?_
      refine k_calli (va_runV (As := []) (rest := []) ⟨hx, hb, hml, hown, hts⟩ (cmJ1_size l E t u_7  ((c + 193))  hA.k ) (cwV 0 hts (lw_V q1639 q1640 q1641 q67 q1642) rfl rfl rfl (by decide +kernel) ⟨Nat.le_of_ble_eq_true rfl, Nat.le_of_ble_eq_true rfl⟩) (k_preV hs hm hS (mw.recv hs hm (mt_ne hA.k.z (by decide)) (ct10 hA.k.z) rfl)) rfl rfl hl.1 rfl (lv_room (Nat.le_of_ble_eq_true rfl)) dX1_undo_49 ⟨Nat.le_of_ble_eq_true rfl, Nat.le_of_ble_eq_true rfl⟩) hS (fun r_8 u_8 H locs hw_8 hm_8 hS => ?_)
      obtain ⟨hr_8, hu_8⟩ := hw_8
      replace hu_8 := hu_8.symm
      subst hu_8
      have hm := hm_8
      subst hr_8
      subst hu_7
      subst hu_6
      subst hu_5
      subst hr_5
      subst hX3
      subst hr_1
      refine vx_ret ?_
      refine W.widen (k := 1) (n := 6) (Nat.le_of_ble_eq_true rfl) (Nat.le_of_ble_eq_true rfl) ?_
      exact W.iret (v := _) hx hb hr (fun t9 ht9 _ => ⟨⟨_, _, rfl, pp3 ((if_neg c_4).trans (rfl)), hb9 ht9 hm⟩, hS.F ht9⟩) hS.2.2 dX1_undo_52
  · refine lv_if_ne (tgt := 14) hx hb dX1_undo_7 (by decide) (fun c_2 => ?_) (fun c_2 => ?_)
    · refine lv_iconst (v := (0 : Int32)) hx hb dX1_undo_14 (by decide) ?_
      exact J3 ((0 : Int32)) _ _ _ ⟨((if_neg c_2).trans (rfl)).symm, hm, hS, lv_sub hl [0] rfl⟩
    · refine lv_iconst (v := (1 : Int32)) hx hb dX1_undo_10 (by decide) ?_
      refine lv_goto (tgt := 15) hx hb dX1_undo_11 (by decide) ?_
      exact J3 ((1 : Int32)) _ _ _ ⟨((if_pos c_2).trans (rfl)).symm, hm, hS, lv_sub hl [0] rfl⟩
def C1_save (t : mt) (M : mm) (c : Nat)  : Int32 × mm :=
  let u_1 := C2_take t M ((c + 129)) ((c + 1));
  ((gI u_1 211 (c + 1)), (sI u_1 103 c (1 : Int32)))
set_option maxHeartbeats 4000000 in
theorem cm1_save (l : Launch) (E : mE) (t : mt) (M : mm) (c : Nat)  (hA : layA t c) (K S : List Nat) (hw : wfA M c K S) : Met l yX1_save (ws_ yX1_save cX1_save 1 (some .int)) ({ frames := 5, cells := 0, slots := 0, locals := 111 }) (va_Pc [.ref c] (wP E t M)) (va_Qi (fun (r : Int32) (u : mm) => r = ((C1_save t M c ).1) ∧ u = (C1_save t M c ).2) (fun u U => mw E t u U.heap) (eA E)) 0 0 (eA E) := by
  refine Met.ofW (cc := cX1_save) (maxL := 1) (ret := (some .int)) (by decide) rfl ?_
  intro p e s m args below meth c0 s₁ B hml hv
  obtain ⟨rfl, hs, hm⟩ := hv
  have hx := B.exec
  have hb := B.bytes
  have hr := B.returns
  have hts := atoms_spec (ws := ws_ yX1_save cX1_save 1 (some .int)) B.pre
  have hts : ∀ w ∈ lw_all, w.before _ s = true := fun w h => hts w (List.mem_cons_of_mem _ h)
  have hown : s.vm.findClass RX1 = some m.cls := findClass_of_methodNamed B.named
  have hlocks := B.notSynchronized
  have hS : va_S (eA E) s.heap s.heap [] := va_S.rf
  have hl := lv_entry ([.ref c]) (n := 1) (Nat.le_of_ble_eq_true rfl)
  rw [lg_entry_eq]
  generalize (lg_sl ([.ref c]) ++ List.replicate (1 - (lg_sl ([.ref c])).length) Slot.unset).toArray = ls at hl ⊢
  have hl : lv_has ls 1 [(0, .ref (c))] := hl
  refine lv_aload_n hx hb dX1_save_0 rfl (lv_at hl 0 rfl) ?_
  refine gf_102 hx hb hts hown hs hm hA.z (hts _ q521) dX1_save_1 ?_
  refine lv_aload_n hx hb dX1_save_4 rfl (lv_at hl 0 rfl) ?_
  refine gf_100 hx hb hts hown hs hm hA.z (hts _ q519) dX1_save_5 ?_
  refine k_callv (va_runV (As := [.ref ((c + 1))]) (rest := []) ⟨hx, hb, hml, hown, hts⟩ (cm2_take l E t M  ((c + 129)) ((c + 1)) hA.c3 hA.c1 (show ¬ c + 1 = c + 129 by omega) (wfK.m7 hw.w1 hA.c1) (wfK.m8 hw.w1 hA.c1) (wfK.cr hw.w1 hA.c1) (wfK.n1 hw.w1) (wfK.n2 hw.w1) (wfK.n3 hw.w1) (wfK.st hw.w1) (wfK.pz hw.w3 hA.c3) (wfK.pz hw.w1 hA.c1)) (cwV 1 hts (lw_V q572 q573 q574 q59 q575) rfl rfl rfl (by decide +kernel) ⟨Nat.le_of_ble_eq_true rfl, Nat.le_of_ble_eq_true rfl⟩) (k_preV hs hm hS (mw.recv hs hm (mt_ne (lay.z hA.c3) (by decide)) (ct2 (lay.z hA.c3)) rfl)) rfl rfl hl.1 rfl (lv_room (Nat.le_of_ble_eq_true rfl)) dX1_save_8 ⟨Nat.le_of_ble_eq_true rfl, Nat.le_of_ble_eq_true rfl⟩) hS (fun u_1 H locs hw_1 hm_1 hS => ?_)
  have hu_1 := hw_1
  have hm := hm_1
  refine lv_aload_n hx hb dX1_save_11 rfl (lv_at hl 0 rfl) ?_
  refine lv_iconst (v := (1 : Int32)) hx hb dX1_save_12 (by decide) ?_
  refine pf_103 hx hb hts hown hs hm hS hA.z (hts _ q522) rfl rfl dX1_save_13 (fun H locs hm hS => ?_)
  have hm : mw E t ((sI u_1 103 c (1 : Int32))) H := hm
  refine lv_aload_n hx hb dX1_save_16 rfl (lv_at hl 0 rfl) ?_
  refine gf_100 hx hb hts hown hs hm hA.z (hts _ q519) dX1_save_17 ?_
  refine gfN_211 hx hb hts hown hs hm (lay.z hA.c1) q246 dX1_save_20 ?_
  subst hu_1
  exact W.iret (v := _) hx hb hr (fun t9 ht9 _ => ⟨⟨_, _, rfl, pp (rfl), hb9 ht9 hm⟩, hS.F ht9⟩) hS.2.2 dX1_save_23
