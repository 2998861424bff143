set_option maxRecDepth 100000
/-! the class: the list of prizes -/
def lsC (c : Nat) : Nat → mm → mm
  | 0, M => M
  | k + 1, M => if 0 ≤ Op.cmpValue (FP.fcmp (gF M 702 ((aR M (c + 11) k).getD 0)) (gF M 702 ((aR M (c + 11) (k + 1)).getD 0))) .g then M else lsC c k (wR (wR M (c + 11) (va_up (aR M (c + 11)) (k + 1) (some ((aR M (c + 11) k).getD 0)))) (c + 11) (va_up (va_up (aR M (c + 11)) (k + 1) (some ((aR M (c + 11) k).getD 0))) k (some ((aR M (c + 11) (k + 1)).getD 0))))
def lsEnd (c : Nat) (M : mm) : mm := sI M 213 c (if ((gI M 213 c) + (1 : Int32)) < (5 : Int32) then ((gI M 213 c) + (1 : Int32)) else (5 : Int32))
theorem ls_neg {y1 j c : Nat} {M X : mm} (hj : y1 = j + 1) (h : lsC c y1 M = X) (c9 : ¬ 0 ≤ Op.cmpValue (FP.fcmp (gF M 702 ((aR M (c + 11) j).getD 0)) (gF M 702 ((aR M (c + 11) y1).getD 0))) .g) : lsC c j (wR (wR M (c + 11) (va_up (aR M (c + 11)) y1 (some ((aR M (c + 11) j).getD 0)))) (c + 11) (va_up (va_up (aR M (c + 11)) y1 (some ((aR M (c + 11) j).getD 0))) j (some ((aR M (c + 11) y1).getD 0)))) = X := by
  subst hj
  rw [← h]
  show _ = if 0 ≤ Op.cmpValue (FP.fcmp (gF M 702 ((aR M (c + 11) j).getD 0)) (gF M 702 ((aR M (c + 11) (j + 1)).getD 0))) .g then M else _
  rw [if_neg c9]
theorem ls_pos {y1 j c : Nat} {M X : mm} (hj : y1 = j + 1) (h : lsC c y1 M = X) (c9 : 0 ≤ Op.cmpValue (FP.fcmp (gF M 702 ((aR M (c + 11) j).getD 0)) (gF M 702 ((aR M (c + 11) y1).getD 0))) .g) : X = M := by
  subst hj
  rw [← h]
  show (if 0 ≤ Op.cmpValue (FP.fcmp (gF M 702 ((aR M (c + 11) j).getD 0)) (gF M 702 ((aR M (c + 11) (j + 1)).getD 0))) .g then M else _) = M
  rw [if_pos c9]
theorem ls_0 {y1 c : Nat} {M X : mm} (h : lsC c y1 M = X) (h5 : y1 ≤ 5) (c9 : nI y1 ≤ (0 : Int32)) : X = M := by
  have : y1 = 0 := by
    have := (nI_leI (a := y1) (b := 0) (by omega) (by decide)).mp c9
    omega
  subst this
  exact h.symm
theorem ls_one {y1 : Nat} (h5 : y1 ≤ 5) (c9 : ¬ nI y1 ≤ (0 : Int32)) : ∃ j, y1 = j + 1 := by
  cases y1 with
  | zero => exact absurd (by decide) c9
  | succ j => exact ⟨j, rfl⟩
theorem ls_prz {t : mt} {M : mm} {c i j : Nat} (h : ∀ k, k < 6 → przO t (aR M (c + 11) k)) (hi : i < 6) (hj : j < 6) : ∀ k, k < 6 → przO t (aR (wR (wR M (c + 11) (va_up (aR M (c + 11)) i (some ((aR M (c + 11) j).getD 0)))) (c + 11) (va_up (va_up (aR M (c + 11)) i (some ((aR M (c + 11) j).getD 0))) j (some ((aR M (c + 11) i).getD 0)))) (c + 11) k) := by
  intro k hk
  rw [show aR (wR (wR M (c + 11) (va_up (aR M (c + 11)) i (some ((aR M (c + 11) j).getD 0)))) (c + 11) (va_up (va_up (aR M (c + 11)) i (some ((aR M (c + 11) j).getD 0))) j (some ((aR M (c + 11) i).getD 0)))) (c + 11) = _ from m1_at _ _ _]
  by_cases h1 : k = j
  · subst h1; rw [va_up_self]; exact ⟨_, rfl, (h i hi).k⟩
  · rw [va_up_ne _ _ h1]
    by_cases h2 : k = i
    · subst h2; rw [va_up_self]; exact ⟨_, rfl, (h j hj).k⟩
    · rw [va_up_ne _ _ h2]; exact h k hk
def C2_lists (t : mt) (M : mm) (c : Nat) (a1 : Int32) (a2 : Int32) (a3 : UInt32) : mm := lsEnd c (lsC c (gI M 213 c).toNatClampNeg (C8_is t M ((aR M (c + 11) (gI M 213 c).toNatClampNeg).getD 0) a1 a2 a3 (gI M 216 c)))
set_option maxHeartbeats 4000000 in
theorem cm2_lists (l : Launch) (E : mE) (t : mt) (M : mm) (c : Nat) (a1 : Int32) (a2 : Int32) (a3 : UInt32) (hL : lay t c) (hn6 : ix 6 (gI M 213 c)) (hp6 : ∀ k, k < 6 → przO t (aR M (c + 11) k)) : Met l yX2_lists (ws_ yX2_lists cX2_lists 6 none) ({ frames := 1, cells := 0, slots := 0, locals := 24 }) (va_Pc [.ref c, .int a1, .int a2, .float a3] (wP E t M)) (va_Qv (fun (u : mm) => u = C2_lists t M c a1 a2 a3) (fun u U => mw E t u U.heap) (eA E)) 0 0 (eA E) := by
  refine Met.ofW (cc := cX2_lists) (maxL := 6) (ret := none) (by decide) rfl ?_
  intro p e s m args below meth c0 s₁ B hml hv
  obtain ⟨rfl, hs, hm⟩ := hv
  have hx := B.exec
  have hb := B.bytes
  have hr := B.returns
  have hts := atoms_spec (ws := ws_ yX2_lists cX2_lists 6 none) B.pre
  have hts : ∀ w ∈ lw_all, w.before _ s = true := fun w h => hts w (List.mem_cons_of_mem _ h)
  have hown : s.vm.findClass RX2 = some m.cls := findClass_of_methodNamed B.named
  have hlocks := B.notSynchronized
  have hS : va_S (eA E) s.heap s.heap [] := va_S.rf
  have hl := lv_entry ([.ref c, .int a1, .int a2, .float a3]) (n := 6) (Nat.le_of_ble_eq_true rfl)
  rw [lg_entry_eq]
  generalize (lg_sl ([.ref c, .int a1, .int a2, .float a3]) ++ List.replicate (6 - (lg_sl ([.ref c, .int a1, .int a2, .float a3])).length) Slot.unset).toArray = ls at hl ⊢
  have hl : lv_has ls 6 [(0, .ref (c)), (1, .int (a1)), (2, .int (a2)), (3, .float (a3))] := hl
  refine lv_aload_n hx hb dX2_lists_0 rfl (lv_at hl 0 rfl) ?_
  refine gf_213 hx hb hts hown hs hm (lay.z hL) (hts _ q249) dX2_lists_1 ?_
  refine lv_istore (lv' := [(4, _), (0, _), (1, _), (2, _), (3, _)]) hx hb dX2_lists_4 hl (by decide) rfl (fun ls hl => ?_)
  refine lv_aload_n hx hb dX2_lists_6 rfl (lv_at hl 1 rfl) ?_
  refine gf_210 hx hb hts hown hs hm (lay.z hL) (hts _ q243) dX2_lists_7 ?_
  refine lv_iload hx hb dX2_lists_10 (lv_at hl 0 rfl) ?_
  refine k_aald29 hx hb hs hm (lay.a11 hL) (ix.at (B := 6) ((hn6).mono (by decide)) (by decide)) dX2_lists_12 ?_
  refine k_nn (hp6 _ (ix.nlt hn6)).nn ?_
  refine lv_iload_n hx hb dX2_lists_13 rfl (lv_at hl 2 rfl) ?_
  refine lv_iload_n hx hb dX2_lists_14 rfl (lv_at hl 3 rfl) ?_
  refine lv_fload_n hx hb dX2_lists_15 rfl (lv_at hl 4 rfl) ?_
  refine lv_aload_n hx hb dX2_lists_16 rfl (lv_at hl 1 rfl) ?_
  refine gf_216 hx hb hts hown hs hm (lay.z hL) (hts _ q257) dX2_lists_17 ?_
  refine k_callv (va_runV (As := [.int (a1), .int (a2), .float (a3), .int ((gI M 216 c))]) (rest := []) ⟨hx, hb, hml, hown, hts⟩ (cm8_is l E t M  (((aR M (c + 11) ((gI M 213 c)).toNatClampNeg).getD 0)) (a1) (a2) (a3) ((gI M 216 c)) (hp6 _ (ix.nlt hn6)).k ) (cwV 4 hts (lw_V q1132 q627 q628 q65 q629) rfl rfl rfl (by decide +kernel) ⟨Nat.le_of_ble_eq_true rfl, Nat.le_of_ble_eq_true rfl⟩) (k_preV hs hm hS (mw.recv hs hm (mt_ne (hp6 _ (ix.nlt hn6)).k (by decide)) (ct7 (hp6 _ (ix.nlt hn6)).k) rfl)) rfl rfl hl.1 rfl (lv_room (Nat.le_of_ble_eq_true rfl)) dX2_lists_20 ⟨Nat.le_of_ble_eq_true rfl, Nat.le_of_ble_eq_true rfl⟩) hS (fun u_1 H locs hw_1 hm_1 hS => ?_)
  have hu_1 := hw_1
  have hm := hm_1
  refine k_loop (fun y => y.1) (fun (y : Nat × mm) H locs ls => ((lsC c y.1 y.2 = lsC c (gI M 213 c).toNatClampNeg u_1) ∧ y.1 ≤ 5 ∧ (∀ k, k < 6 → przO t (aR y.2 (c + 11) k))) ∧ mw E t (y.2) H ∧ va_S (eA E) s.heap H locs ∧ lv_has ls 6 [(4, .int (nI y.1)), (0, .ref (c)), (1, .int (a1)), (2, .int (a2)), (3, .float (a3))]) (fun (y : Nat × mm) ls => F0 m 23 ls []) (fun y => (0, 0)) (fun y ih_2 H locs ls hP => ?_) (((gI M 213 c).toNatClampNeg, u_1)) ⟨⟨rfl, Nat.le_of_lt_succ (ix.nlt hn6), fun k hk => by rw [hu_1]; exact hp6 k hk⟩, hm, hS, (by rw [← (hn6.nat (by decide)).2]; exact lv_sub hl [0, 1, 2, 3, 4] rfl)⟩
  obtain ⟨hI_2, hm, hS, hl⟩ := hP
  refine lv_iload hx hb dX2_lists_23 (lv_at hl 0 rfl) ?_
  refine lv_if_le (tgt := 96) hx hb dX2_lists_25 (by decide) (fun c_3 => ?_) (fun c_3 => ?_)
  · refine lv_aload_n hx hb dX2_lists_96 rfl (lv_at hl 1 rfl) ?_
    refine lv_iconst (v := (5 : Int32)) hx hb dX2_lists_97 (by decide) ?_
    refine lv_aload_n hx hb dX2_lists_98 rfl (lv_at hl 1 rfl) ?_
    refine gf_213 hx hb hts hown hs hm (lay.z hL) (hts _ q249) dX2_lists_99 ?_
    refine lv_iconst (v := (1 : Int32)) hx hb dX2_lists_102 (by decide) ?_
    refine lv_iadd hx hb dX2_lists_103 ?_
    refine va_mmin hx hb (hml.trans hl.1.symm) hown (hts _ q638) (hts _ q513) (hts _ q78) (hts _ q514) (Nat.le_of_ble_eq_true rfl) (Nat.le_of_ble_eq_true rfl) (Nat.le_of_ble_eq_true rfl) (Nat.le_of_ble_eq_true rfl) dX2_lists_104 ?_
    refine pf_213 hx hb hts hown hs hm hS (lay.z hL) (hts _ q249) dX2_lists_107 (fun H locs hm hS => ?_)
    have hm : mw E t ((sI y.2 213 c (if ((gI y.2 213 c) + (1 : Int32)) < (5 : Int32) then ((gI y.2 213 c) + (1 : Int32)) else (5 : Int32)))) H := hm
    exact W.vret hx hb hr (fun t9 ht9 _ => ⟨⟨_, rfl, ((show C2_lists t M c a1 a2 a3 = lsEnd c y.2 from by unfold C2_lists; rw [← hu_1]; exact congrArg (lsEnd c) (by first | exact ls_0 hI_2.1 hI_2.2.1 c_3 | exact ls_pos hj hI_2.1 c_3))).symm, hb9 ht9 hm⟩, hS.F ht9⟩) hS.2.2 dX2_lists_110
  · have hI5 := hI_2.2.1
    obtain ⟨j, hj⟩ := ls_one hI5 c_3
    refine lv_aload_n hx hb dX2_lists_28 rfl (lv_at hl 1 rfl) ?_
    refine gf_210 hx hb hts hown hs hm (lay.z hL) (hts _ q243) dX2_lists_29 ?_
    refine lv_iload hx hb dX2_lists_32 (lv_at hl 0 rfl) ?_
    refine lv_iconst (v := (1 : Int32)) hx hb dX2_lists_34 (by decide) ?_
    refine lv_isub hx hb dX2_lists_35 ?_
    rw [show (nI y.1 - (1 : Int32)) = (nI j) from ((show nI j = nI y.1 - (1 : Int32) from by rw [hj]; exact (nI_pred j).symm)).symm]
    refine k_aald29 hx hb hs hm (lay.a11 hL) (vi j (by omega) (by decide)) dX2_lists_36 ?_
    rw [show ((nI j)).toNatClampNeg = j from cl_nI (by omega)]
    refine k_nn (hI_2.2.2 j (by omega)).nn ?_
    refine gfN_702 hx hb hts hown hs hm (hI_2.2.2 j (by omega)).k q214 dX2_lists_37 ?_
    refine lv_aload_n hx hb dX2_lists_40 rfl (lv_at hl 1 rfl) ?_
    refine gf_210 hx hb hts hown hs hm (lay.z hL) (hts _ q243) dX2_lists_41 ?_
    refine lv_iload hx hb dX2_lists_44 (lv_at hl 0 rfl) ?_
    refine k_aald29 hx hb hs hm (lay.a11 hL) (vi y.1 (by omega) (by decide)) dX2_lists_46 ?_
    rw [show (nI y.1).toNatClampNeg = y.1 from cl_nI (by omega)]
    refine k_nn (hI_2.2.2 y.1 (by omega)).nn ?_
    refine gfN_702 hx hb hts hown hs hm (hI_2.2.2 y.1 (by omega)).k q214 dX2_lists_47 ?_
    refine lv_fcmp hx hb dX2_lists_50 ?_
    refine lv_if_ge (tgt := 96) hx hb dX2_lists_51 (by decide) (fun c_4 => ?_) (fun c_4 => ?_)
    · refine lv_aload_n hx hb dX2_lists_96 rfl (lv_at hl 1 rfl) ?_
      refine lv_iconst (v := (5 : Int32)) hx hb dX2_lists_97 (by decide) ?_
      refine lv_aload_n hx hb dX2_lists_98 rfl (lv_at hl 1 rfl) ?_
      refine gf_213 hx hb hts hown hs hm (lay.z hL) (hts _ q249) dX2_lists_99 ?_
      refine lv_iconst (v := (1 : Int32)) hx hb dX2_lists_102 (by decide) ?_
      refine lv_iadd hx hb dX2_lists_103 ?_
      refine va_mmin hx hb (hml.trans hl.1.symm) hown (hts _ q638) (hts _ q513) (hts _ q78) (hts _ q514) (Nat.le_of_ble_eq_true rfl) (Nat.le_of_ble_eq_true rfl) (Nat.le_of_ble_eq_true rfl) (Nat.le_of_ble_eq_true rfl) dX2_lists_104 ?_
      refine pf_213 hx hb hts hown hs hm hS (lay.z hL) (hts _ q249) dX2_lists_107 (fun H locs hm hS => ?_)
      have hm : mw E t ((sI y.2 213 c (if ((gI y.2 213 c) + (1 : Int32)) < (5 : Int32) then ((gI y.2 213 c) + (1 : Int32)) else (5 : Int32)))) H := hm
      exact W.vret hx hb hr (fun t9 ht9 _ => ⟨⟨_, rfl, ((show C2_lists t M c a1 a2 a3 = lsEnd c y.2 from by unfold C2_lists; rw [← hu_1]; exact congrArg (lsEnd c) (by first | exact ls_0 hI_2.1 hI_2.2.1 c_4 | exact ls_pos hj hI_2.1 c_4))).symm, hb9 ht9 hm⟩, hS.F ht9⟩) hS.2.2 dX2_lists_110
    · refine lv_aload_n hx hb dX2_lists_54 rfl (lv_at hl 1 rfl) ?_
      refine gf_210 hx hb hts hown hs hm (lay.z hL) (hts _ q243) dX2_lists_55 ?_
      refine lv_iload hx hb dX2_lists_58 (lv_at hl 0 rfl) ?_
      refine k_aald29 hx hb hs hm (lay.a11 hL) (vi y.1 (by omega) (by decide)) dX2_lists_60 ?_
      rw [show (nI y.1).toNatClampNeg = y.1 from cl_nI (by omega)]
      refine k_nn (hI_2.2.2 y.1 (by omega)).nn ?_
      refine lv_astore (lv' := [(5, _), (4, _), (0, _), (1, _), (2, _), (3, _)]) hx hb dX2_lists_61 hl (by decide) rfl (fun ls hl => ?_)
      refine lv_aload_n hx hb dX2_lists_63 rfl (lv_at hl 2 rfl) ?_
      refine gf_210 hx hb hts hown hs hm (lay.z hL) (hts _ q243) dX2_lists_64 ?_
      refine lv_iload hx hb dX2_lists_67 (lv_at hl 1 rfl) ?_
      refine lv_aload_n hx hb dX2_lists_69 rfl (lv_at hl 2 rfl) ?_
      refine gf_210 hx hb hts hown hs hm (lay.z hL) (hts _ q243) dX2_lists_70 ?_
      refine lv_iload hx hb dX2_lists_73 (lv_at hl 1 rfl) ?_
      refine lv_iconst (v := (1 : Int32)) hx hb dX2_lists_75 (by decide) ?_
      refine lv_isub hx hb dX2_lists_76 ?_
      rw [show (nI y.1 - (1 : Int32)) = (nI j) from ((show nI j = nI y.1 - (1 : Int32) from by rw [hj]; exact (nI_pred j).symm)).symm]
      refine k_aald29 hx hb hs hm (lay.a11 hL) (vi j (by omega) (by decide)) dX2_lists_77 ?_
      rw [show ((nI j)).toNatClampNeg = j from cl_nI (by omega)]
      refine k_nn (hI_2.2.2 j (by omega)).nn ?_
      refine k_aastS (j := 9) (ci := 6) hx hb hs hm hS (lay.a11 hL) (by decide) (fun _ => rfl) rfl (ct7 (hI_2.2.2 j (by omega)).k) (mt_ne (hI_2.2.2 j (by omega)).k (by decide)) rfl (vi y.1 (by omega) (by decide)) dX2_lists_78 (fun H locs hm hS => ?_)
      rw [show (nI y.1).toNatClampNeg = y.1 from cl_nI (by omega)] at hm
      have hm : mw E t ((wR y.2 (c + 11) (va_up (aR y.2 (c + 11)) y.1 (some ((aR y.2 (c + 11) j).getD 0))))) H := hm
      refine lv_aload_n hx hb dX2_lists_79 rfl (lv_at hl 2 rfl) ?_
      refine gf_210 hx hb hts hown hs hm (lay.z hL) (hts _ q243) dX2_lists_80 ?_
      refine lv_iload hx hb dX2_lists_83 (lv_at hl 1 rfl) ?_
      refine lv_iconst (v := (1 : Int32)) hx hb dX2_lists_85 (by decide) ?_
      refine lv_isub hx hb dX2_lists_86 ?_
      rw [show (nI y.1 - (1 : Int32)) = (nI j) from ((show nI j = nI y.1 - (1 : Int32) from by rw [hj]; exact (nI_pred j).symm)).symm]
      refine lv_aload hx hb dX2_lists_87 (lv_at hl 0 rfl) ?_
      refine k_aastS (j := 9) (ci := 6) hx hb hs hm hS (lay.a11 hL) (by decide) (fun _ => rfl) rfl (ct7 (hI_2.2.2 y.1 (by omega)).k) (mt_ne (hI_2.2.2 y.1 (by omega)).k (by decide)) rfl (vi j (by omega) (by decide)) dX2_lists_89 (fun H locs hm hS => ?_)
      rw [show aR (wR y.2 (c + 11) (va_up (aR y.2 (c + 11)) y.1 (some ((aR y.2 (c + 11) j).getD 0)))) (c + 11) = (va_up (aR y.2 (c + 11)) y.1 (some ((aR y.2 (c + 11) j).getD 0))) from (show aR (wR y.2 (c + 11) (va_up (aR y.2 (c + 11)) y.1 (some ((aR y.2 (c + 11) j).getD 0)))) (c + 11) = (va_up (aR y.2 (c + 11)) y.1 (some ((aR y.2 (c + 11) j).getD 0))) from m1_at _ _ _)] at hm
      rw [show ((nI j)).toNatClampNeg = j from cl_nI (by omega)] at hm
      have hm : mw E t ((wR (wR y.2 (c + 11) (va_up (aR y.2 (c + 11)) y.1 (some ((aR y.2 (c + 11) j).getD 0)))) (c + 11) (va_up (va_up (aR y.2 (c + 11)) y.1 (some ((aR y.2 (c + 11) j).getD 0))) j (some ((aR y.2 (c + 11) y.1).getD 0))))) H := hm
      refine lv_iinc (v := nI j) (lv' := [(4, _), (5, _), (0, _), (1, _), (2, _), (3, _)]) hx hb dX2_lists_90 hl (k := 1) rfl (by rw [hj]; exact pk_m1 j) (by decide) rfl (fun ls hl => ?_)
      refine lv_goto (tgt := 23) hx hb dX2_lists_93 (by decide) ?_
      exact ih_2 ((j, (wR (wR y.2 (c + 11) (va_up (aR y.2 (c + 11)) y.1 (some ((aR y.2 (c + 11) j).getD 0)))) (c + 11) (va_up (va_up (aR y.2 (c + 11)) y.1 (some ((aR y.2 (c + 11) j).getD 0))) j (some ((aR y.2 (c + 11) y.1).getD 0)))))) ((show j < y.1 from by omega)) _ _ _ ⟨⟨ls_neg hj hI_2.1 c_4, (show j ≤ 5 from by omega), ls_prz hI_2.2.2 (by omega) (by omega)⟩, hm, hS, lv_sub hl [0, 2, 3, 4, 5] rfl⟩
