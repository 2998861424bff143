set_option maxRecDepth 100000
/-! account; StringBuilder: setLength(0) -/
theorem fst_if {τ : Type} {A : Prop} [Decidable A] {a b : Int32 × τ} (ha : a.1 = 0) (hb : b.1 = 0) : (if A then a else b).1 = 0 := by
  by_cases h : A
  · rw [if_pos h]; exact ha
  · rw [if_neg h]; exact hb
theorem k_sw14 {x : Int32} (h0 : ¬ x = 0) (h1 : ¬ x = 1) (h2 : ¬ x = 2) (h3 : ¬ x = 3) (h4 : ¬ x = 4) (h5 : ¬ x = 5) (h6 : ¬ x = 6) (h7 : ¬ x = 7) (h8 : ¬ x = 8) (h9 : ¬ x = 9) (h10 : ¬ x = 10) (h11 : ¬ x = 11) (h12 : ¬ x = 12) (h13 : ¬ x = 13) : ∀ k, k < 14 → ¬ x = nI k := fun k hk => by
  have key : k = 0 ∨ k = 1 ∨ k = 2 ∨ k = 3 ∨ k = 4 ∨ k = 5 ∨ k = 6 ∨ k = 7 ∨ k = 8 ∨ k = 9 ∨ k = 10 ∨ k = 11 ∨ k = 12 ∨ k = 13 := by omega
  rcases key with rfl | rfl | rfl | rfl | rfl | rfl | rfl | rfl | rfl | rfl | rfl | rfl | rfl | rfl <;> assumption
theorem sb_nogrow {t : mt} {M : mm} {c n k : Nat} (h : sbP t M c n k) : (0 : Int32) - (nI n >>> ((gI M 1101 c) &&& 31)) ≤ 0 := by
  obtain ⟨-, -, hn, -, hz⟩ := h
  have key : ∀ j : Nat, j ≤ 60000 → (0 : Int32) - nI j ≤ 0 := fun j hj => by
    rw [Int32.le_iff_toInt_le, Int32.toInt_sub, nI_toInt (by omega)]
    simp only [Int32.toInt_zero]
    rw [Int.bmod_eq_of_le (by omega) (by omega)]
    omega
  rcases hz with ⟨hz, hkn⟩ | ⟨hz, hkn⟩
  · rw [hz, pk_shrN (by omega) ((0 : Int32) &&& 31) 0 (by decide)]
    exact key _ (by omega)
  · rw [hz, pk_shrN (by omega) ((1 : Int32) &&& 31) 1 (by decide)]
    exact key _ (by omega)
def C1_account (t : mt) (M : mm) (c : Nat) (x : Int32) : Int32 × Int32 × mm :=
  let r_1 := C1_in (x) ((0 : Int32)) ((14 : Int32));
  if r_1 = 0 then
    ((1 : Int32), (0 : Int32), M)
  else
    if x = (0 : Int32) then
      ((0 : Int32), (gI M 216 (c + 1)), M)
    else
      if x = (1 : Int32) then
        ((0 : Int32), (gI M 214 (c + 1)), M)
      else
        if x = (2 : Int32) then
          ((0 : Int32), (gI M 215 (c + 1)), M)
        else
          if x = (3 : Int32) then
            ((0 : Int32), (gI M 211 (c + 1)), M)
          else
            if x = (4 : Int32) then
              let r_17 := C2_dug t M ((c + 1)) ;
              ((0 : Int32), r_17, M)
            else
              if x = (5 : Int32) then
                let r_18 := C2_crops t M ((c + 1)) ;
                ((0 : Int32), r_18, M)
              else
                if x = (6 : Int32) then
                  let r_19 := C2_onBenches t M ((c + 1)) ;
                  ((0 : Int32), r_19, M)
                else
                  if x = (7 : Int32) then
                    ((0 : Int32), (gI M 217 (c + 1)), M)
                  else
                    if x = (8 : Int32) then
                      ((0 : Int32), (gI M 218 (c + 1)), M)
                    else
                      if x = (9 : Int32) then
                        ((0 : Int32), (gI M 212 (c + 1)), M)
                      else
                        if x = (10 : Int32) then
                          let r_20 := C2_standing t M ((c + 1)) ;
                          ((0 : Int32), r_20, M)
                        else
                          if x = (11 : Int32) then
                            let r_21 := C2_moles t M ((c + 1)) ;
                            ((0 : Int32), r_21, M)
                          else
                            if x = (12 : Int32) then
                              ((0 : Int32), (gI M 219 (c + 1)), M)
                            else
                              if x = (13 : Int32) then
                                let r_22 := CJ3_length t M ((c + 197)) ;
                                ((0 : Int32), r_22, M)
                              else
                                let r_23 := CJ1_size t M ((c + 193)) ;
                                ((0 : Int32), r_23, M)
set_option maxHeartbeats 4000000 in
theorem cm1_account (l : Launch) (E : mE) (hl9 : l.stackTraces = false) (t : mt) (M : mm) (c : Nat) (x : Int32) (hA : layA t c) (K S : List Nat) (hw : wfA M c K S) : vx_Met l yX1_account (ws_ yX1_account cX1_account 2 (some .int)) ({ frames := 7, cells := 1, slots := 6, locals := 140 }) (va_Pc [.ref c, .int x] (wP E t M)) (va_Qi (fun (r : Int32) (u : mm) => (C1_account t M c x).1 = 0 ∧ r = (C1_account t M c x).2.1 ∧ u = (C1_account t M c x).2.2) (fun u U => mw E t u U.heap) (eA E)) (vx_X (fun (u : mm) => ¬ (C1_account t M c x).1 = 0 ∧ u = (C1_account t M c x).2.2) (fun En q u U => XS E t (C1_account t M c x).1 En q u U.heap) (eA E)) 1 6 (eA E) := by
  refine vx_ofW (cc := cX1_account) (maxL := 2) (ret := (some .int)) (by decide) rfl ?_
  intro p e s m args below meth c0 s₁ B hml hno hv
  obtain ⟨rfl, hs, hm⟩ := hv
  have hx := B.exec
  have hb := B.bytes
  have hr := B.returns
  have hts := atoms_spec (ws := ws_ yX1_account cX1_account 2 (some .int)) B.pre
  have hts : ∀ w ∈ lw_all, w.before _ s = true := fun w h => hts w (List.mem_cons_of_mem _ h)
  have hown : s.vm.findClass RX1 = some m.cls := findClass_of_methodNamed B.named
  have hlocks := B.notSynchronized
  have hout : ∀ pc : Nat, ∀ x ∈ c0.exceptionTable.toList, covers x pc = false := fun _ x h => (hno x h).elim
  have hS : va_S (eA E) s.heap s.heap [] := va_S.rf
  have hl := lv_entry ([.ref c, .int x]) (n := 2) (Nat.le_of_ble_eq_true rfl)
  rw [lg_entry_eq]
  generalize (lg_sl ([.ref c, .int x]) ++ List.replicate (2 - (lg_sl ([.ref c, .int x])).length) Slot.unset).toArray = ls at hl ⊢
  have hl : lv_has ls 2 [(0, .ref (c)), (1, .int (x))] := hl
  refine lv_iload_n hx hb dX1_account_0 rfl (lv_at hl 1 rfl) ?_
  refine lv_iconst (v := (0 : Int32)) hx hb dX1_account_1 (by decide) ?_
  refine lv_bipush (v := (14 : Int32)) hx hb dX1_account_2 (by decide) ?_
  refine k_calli (va_runS (As := [.int (x), .int ((0 : Int32)), .int ((14 : Int32))]) (rest := []) ⟨hx, hb, hml, hown, hts⟩ (cm1_in l E (x) ((0 : Int32)) ((14 : Int32)) _) (va_cwS 3 hts (lw_S q699 q700 q58 q701) rfl rfl rfl (by decide +kernel) ⟨Nat.le_of_ble_eq_true rfl, Nat.le_of_ble_eq_true rfl⟩) (k_pure hs hS) rfl rfl hl.1 rfl (lv_room (Nat.le_of_ble_eq_true rfl)) dX1_account_4 ⟨Nat.le_of_ble_eq_true rfl, Nat.le_of_ble_eq_true rfl⟩) hS (fun r_1 u_1 H9 locs hw_1 hm_1 hS => ?_)
  replace hm_1 : _ = H9 := Eq.symm hm_1
  subst hm_1
  have hr_1 := hw_1
  refine kx_callv (BX := fun En q u H => XS E t 1 En q u H) (vx_runS (As := [.int (r_1)]) (rest := []) ⟨hx, hb, hml, hown, hts⟩ (cm1_check l E hl9 t M  (r_1) ) (va_cwS 1 hts (lw_S q702 q703 q58 q704) rfl rfl rfl (by decide +kernel) ⟨Nat.le_of_ble_eq_true rfl, Nat.le_of_ble_eq_true rfl⟩) (k_preS hs hm hS) rfl rfl hl.1 rfl (lv_room (Nat.le_of_ble_eq_true rfl)) dX1_account_7 ⟨Nat.le_of_ble_eq_true rfl, Nat.le_of_ble_eq_true rfl⟩) hS (fun En_2 ce_2 q_2 u9_2 H locs hp_2 hB_2 hS h1_2 h2_2 h3_2 => ?_) (fun u_2 H locs hw_2 hm_2 hS => ?_)
  · obtain ⟨c_2, hu9_2⟩ := hp_2
    replace hu9_2 := hu9_2.symm
    subst hu9_2
    subst hr_1
    have e9 : C1_account t M c x = _ := (if_pos c_2).trans (rfl)
    exact kx_out (BX := fun En q u H => XS E t (C1_account t M c x).1 En q u H) (u := _) (fun x h => (hno x h).elim) hlocks (xs_leaf e9 (by decide) hB_2).1 (xs_leaf e9 (by decide) hB_2).2 hS h1_2 h2_2 h3_2 (Nat.le_of_ble_eq_true rfl) (Nat.le_of_ble_eq_true rfl)
  · obtain ⟨c_2, hu_2⟩ := hw_2
    replace hu_2 := hu_2.symm
    subst hu_2
    have hm := hm_2
    refine lv_iload_n hx hb dX1_account_10 rfl (lv_at hl 1 rfl) ?_
    by_cases c_3 : x = (0 : Int32)
    · refine lv_tableIn (off := 69) (tgt := 80) hx hb dX1_account_11 (by rw [c_3]; decide) (by rw [c_3]; decide) (by rw [c_3]; rfl) (by decide) ?_
      refine lv_aload_n hx hb dX1_account_80 rfl (lv_at hl 0 rfl) ?_
      refine gf_100 hx hb hts hown hs hm hA.z (hts _ q519) dX1_account_81 ?_
      refine gfN_216 hx hb hts hown hs hm (lay.z hA.c1) q258 dX1_account_84 ?_
      subst hr_1
      refine vx_ret ?_
      refine W.widen (k := 1) (n := 6) (Nat.le_of_ble_eq_true rfl) (Nat.le_of_ble_eq_true rfl) ?_
      exact W.iret (v := _) hx hb hr (fun t9 ht9 _ => ⟨⟨_, _, rfl, pp3 ((if_neg c_2).trans ((if_pos c_3).trans (rfl))), hb9 ht9 hm⟩, hS.F ht9⟩) hS.2.2 dX1_account_87
    · by_cases c_4 : x = (1 : Int32)
      · refine lv_tableIn (off := 77) (tgt := 88) hx hb dX1_account_11 (by rw [c_4]; decide) (by rw [c_4]; decide) (by rw [c_4]; rfl) (by decide) ?_
        refine lv_aload_n hx hb dX1_account_88 rfl (lv_at hl 0 rfl) ?_
        refine gf_100 hx hb hts hown hs hm hA.z (hts _ q519) dX1_account_89 ?_
        refine gfN_214 hx hb hts hown hs hm (lay.z hA.c1) q253 dX1_account_92 ?_
        subst hr_1
        refine vx_ret ?_
        refine W.widen (k := 1) (n := 6) (Nat.le_of_ble_eq_true rfl) (Nat.le_of_ble_eq_true rfl) ?_
        exact W.iret (v := _) hx hb hr (fun t9 ht9 _ => ⟨⟨_, _, rfl, pp3 ((if_neg c_2).trans ((if_neg c_3).trans ((if_pos c_4).trans (rfl)))), hb9 ht9 hm⟩, hS.F ht9⟩) hS.2.2 dX1_account_95
      · by_cases c_5 : x = (2 : Int32)
        · refine lv_tableIn (off := 85) (tgt := 96) hx hb dX1_account_11 (by rw [c_5]; decide) (by rw [c_5]; decide) (by rw [c_5]; rfl) (by decide) ?_
          refine lv_aload_n hx hb dX1_account_96 rfl (lv_at hl 0 rfl) ?_
          refine gf_100 hx hb hts hown hs hm hA.z (hts _ q519) dX1_account_97 ?_
          refine gfN_215 hx hb hts hown hs hm (lay.z hA.c1) q256 dX1_account_100 ?_
          subst hr_1
          refine vx_ret ?_
          refine W.widen (k := 1) (n := 6) (Nat.le_of_ble_eq_true rfl) (Nat.le_of_ble_eq_true rfl) ?_
          exact W.iret (v := _) hx hb hr (fun t9 ht9 _ => ⟨⟨_, _, rfl, pp3 ((if_neg c_2).trans ((if_neg c_3).trans ((if_neg c_4).trans ((if_pos c_5).trans (rfl))))), hb9 ht9 hm⟩, hS.F ht9⟩) hS.2.2 dX1_account_103
        · by_cases c_6 : x = (3 : Int32)
          · refine lv_tableIn (off := 93) (tgt := 104) hx hb dX1_account_11 (by rw [c_6]; decide) (by rw [c_6]; decide) (by rw [c_6]; rfl) (by decide) ?_
            refine lv_aload_n hx hb dX1_account_104 rfl (lv_at hl 0 rfl) ?_
            refine gf_100 hx hb hts hown hs hm hA.z (hts _ q519) dX1_account_105 ?_
            refine gfN_211 hx hb hts hown hs hm (lay.z hA.c1) q246 dX1_account_108 ?_
            subst hr_1
            refine vx_ret ?_
            refine W.widen (k := 1) (n := 6) (Nat.le_of_ble_eq_true rfl) (Nat.le_of_ble_eq_true rfl) ?_
            exact W.iret (v := _) hx hb hr (fun t9 ht9 _ => ⟨⟨_, _, rfl, pp3 ((if_neg c_2).trans ((if_neg c_3).trans ((if_neg c_4).trans ((if_neg c_5).trans ((if_pos c_6).trans (rfl)))))), hb9 ht9 hm⟩, hS.F ht9⟩) hS.2.2 dX1_account_111
          · by_cases c_7 : x = (4 : Int32)
            · refine lv_tableIn (off := 101) (tgt := 112) hx hb dX1_account_11 (by rw [c_7]; decide) (by rw [c_7]; decide) (by rw [c_7]; rfl) (by decide) ?_
              refine lv_aload_n hx hb dX1_account_112 rfl (lv_at hl 0 rfl) ?_
              refine gf_100 hx hb hts hown hs hm hA.z (hts _ q519) dX1_account_113 ?_
              refine k_calli (va_runV (As := []) (rest := []) ⟨hx, hb, hml, hown, hts⟩ (cm2_dug l E t M  ((c + 1))  hA.c1 ) (cwV 0 hts (lw_V q682 q683 q684 q59 q685) rfl rfl rfl (by decide +kernel) ⟨Nat.le_of_ble_eq_true rfl, Nat.le_of_ble_eq_true rfl⟩) (k_preV hs hm hS (mw.recv hs hm (mt_ne (lay.z hA.c1) (by decide)) (ct2 (lay.z hA.c1)) rfl)) rfl rfl hl.1 rfl (lv_room (Nat.le_of_ble_eq_true rfl)) dX1_account_116 ⟨Nat.le_of_ble_eq_true rfl, Nat.le_of_ble_eq_true rfl⟩) hS (fun r_17 u_17 H locs hw_17 hm_17 hS => ?_)
              obtain ⟨hr_17, hu_17⟩ := hw_17
              replace hu_17 := hu_17.symm
              subst hu_17
              have hm := hm_17
              subst hr_17
              subst hr_1
              refine vx_ret ?_
              refine W.widen (k := 1) (n := 6) (Nat.le_of_ble_eq_true rfl) (Nat.le_of_ble_eq_true rfl) ?_
              exact W.iret (v := _) hx hb hr (fun t9 ht9 _ => ⟨⟨_, _, rfl, pp3 ((if_neg c_2).trans ((if_neg c_3).trans ((if_neg c_4).trans ((if_neg c_5).trans ((if_neg c_6).trans ((if_pos c_7).trans (rfl))))))), hb9 ht9 hm⟩, hS.F ht9⟩) hS.2.2 dX1_account_119
            · by_cases c_8 : x = (5 : Int32)
              · refine lv_tableIn (off := 109) (tgt := 120) hx hb dX1_account_11 (by rw [c_8]; decide) (by rw [c_8]; decide) (by rw [c_8]; rfl) (by decide) ?_
                refine lv_aload_n hx hb dX1_account_120 rfl (lv_at hl 0 rfl) ?_
                refine gf_100 hx hb hts hown hs hm hA.z (hts _ q519) dX1_account_121 ?_
                refine k_calli (va_runV (As := []) (rest := []) ⟨hx, hb, hml, hown, hts⟩ (cm2_crops l E t M  ((c + 1))  hA.c1 ) (cwV 0 hts (lw_V q1629 q656 q657 q59 q658) rfl rfl rfl (by decide +kernel) ⟨Nat.le_of_ble_eq_true rfl, Nat.le_of_ble_eq_true rfl⟩) (k_preV hs hm hS (mw.recv hs hm (mt_ne (lay.z hA.c1) (by decide)) (ct2 (lay.z hA.c1)) rfl)) rfl rfl hl.1 rfl (lv_room (Nat.le_of_ble_eq_true rfl)) dX1_account_124 ⟨Nat.le_of_ble_eq_true rfl, Nat.le_of_ble_eq_true rfl⟩) hS (fun r_18 u_18 H locs hw_18 hm_18 hS => ?_)
                obtain ⟨hr_18, hu_18⟩ := hw_18
                replace hu_18 := hu_18.symm
                subst hu_18
                have hm := hm_18
                subst hr_18
                subst hr_1
                refine vx_ret ?_
                refine W.widen (k := 1) (n := 6) (Nat.le_of_ble_eq_true rfl) (Nat.le_of_ble_eq_true rfl) ?_
                exact W.iret (v := _) hx hb hr (fun t9 ht9 _ => ⟨⟨_, _, rfl, pp3 ((if_neg c_2).trans ((if_neg c_3).trans ((if_neg c_4).trans ((if_neg c_5).trans ((if_neg c_6).trans ((if_neg c_7).trans ((if_pos c_8).trans (rfl)))))))), hb9 ht9 hm⟩, hS.F ht9⟩) hS.2.2 dX1_account_127
              · by_cases c_9 : x = (6 : Int32)
                · refine lv_tableIn (off := 117) (tgt := 128) hx hb dX1_account_11 (by rw [c_9]; decide) (by rw [c_9]; decide) (by rw [c_9]; rfl) (by decide) ?_
                  refine lv_aload_n hx hb dX1_account_128 rfl (lv_at hl 0 rfl) ?_
                  refine gf_100 hx hb hts hown hs hm hA.z (hts _ q519) dX1_account_129 ?_
                  refine k_calli (va_runV (As := []) (rest := []) ⟨hx, hb, hml, hown, hts⟩ (cm2_onBenches l E t M  ((c + 1))  hA.c1 ) (cwV 0 hts (lw_V q1630 q652 q653 q59 q654) rfl rfl rfl (by decide +kernel) ⟨Nat.le_of_ble_eq_true rfl, Nat.le_of_ble_eq_true rfl⟩) (k_preV hs hm hS (mw.recv hs hm (mt_ne (lay.z hA.c1) (by decide)) (ct2 (lay.z hA.c1)) rfl)) rfl rfl hl.1 rfl (lv_room (Nat.le_of_ble_eq_true rfl)) dX1_account_132 ⟨Nat.le_of_ble_eq_true rfl, Nat.le_of_ble_eq_true rfl⟩) hS (fun r_19 u_19 H locs hw_19 hm_19 hS => ?_)
                  obtain ⟨hr_19, hu_19⟩ := hw_19
                  replace hu_19 := hu_19.symm
                  subst hu_19
                  have hm := hm_19
                  subst hr_19
                  subst hr_1
                  refine vx_ret ?_
                  refine W.widen (k := 1) (n := 6) (Nat.le_of_ble_eq_true rfl) (Nat.le_of_ble_eq_true rfl) ?_
                  exact W.iret (v := _) hx hb hr (fun t9 ht9 _ => ⟨⟨_, _, rfl, pp3 ((if_neg c_2).trans ((if_neg c_3).trans ((if_neg c_4).trans ((if_neg c_5).trans ((if_neg c_6).trans ((if_neg c_7).trans ((if_neg c_8).trans ((if_pos c_9).trans (rfl))))))))), hb9 ht9 hm⟩, hS.F ht9⟩) hS.2.2 dX1_account_135
                · by_cases c_10 : x = (7 : Int32)
                  · refine lv_tableIn (off := 125) (tgt := 136) hx hb dX1_account_11 (by rw [c_10]; decide) (by rw [c_10]; decide) (by rw [c_10]; rfl) (by decide) ?_
                    refine lv_aload_n hx hb dX1_account_136 rfl (lv_at hl 0 rfl) ?_
                    refine gf_100 hx hb hts hown hs hm hA.z (hts _ q519) dX1_account_137 ?_
                    refine gfN_217 hx hb hts hown hs hm (lay.z hA.c1) q260 dX1_account_140 ?_
                    subst hr_1
                    refine vx_ret ?_
                    refine W.widen (k := 1) (n := 6) (Nat.le_of_ble_eq_true rfl) (Nat.le_of_ble_eq_true rfl) ?_
                    exact W.iret (v := _) hx hb hr (fun t9 ht9 _ => ⟨⟨_, _, rfl, pp3 ((if_neg c_2).trans ((if_neg c_3).trans ((if_neg c_4).trans ((if_neg c_5).trans ((if_neg c_6).trans ((if_neg c_7).trans ((if_neg c_8).trans ((if_neg c_9).trans ((if_pos c_10).trans (rfl)))))))))), hb9 ht9 hm⟩, hS.F ht9⟩) hS.2.2 dX1_account_143
                  · by_cases c_11 : x = (8 : Int32)
                    · refine lv_tableIn (off := 133) (tgt := 144) hx hb dX1_account_11 (by rw [c_11]; decide) (by rw [c_11]; decide) (by rw [c_11]; rfl) (by decide) ?_
                      refine lv_aload_n hx hb dX1_account_144 rfl (lv_at hl 0 rfl) ?_
                      refine gf_100 hx hb hts hown hs hm hA.z (hts _ q519) dX1_account_145 ?_
                      refine gfN_218 hx hb hts hown hs hm (lay.z hA.c1) q262 dX1_account_148 ?_
                      subst hr_1
                      refine vx_ret ?_
                      refine W.widen (k := 1) (n := 6) (Nat.le_of_ble_eq_true rfl) (Nat.le_of_ble_eq_true rfl) ?_
                      exact W.iret (v := _) hx hb hr (fun t9 ht9 _ => ⟨⟨_, _, rfl, pp3 ((if_neg c_2).trans ((if_neg c_3).trans ((if_neg c_4).trans ((if_neg c_5).trans ((if_neg c_6).trans ((if_neg c_7).trans ((if_neg c_8).trans ((if_neg c_9).trans ((if_neg c_10).trans ((if_pos c_11).trans (rfl))))))))))), hb9 ht9 hm⟩, hS.F ht9⟩) hS.2.2 dX1_account_151
                    · by_cases c_12 : x = (9 : Int32)
                      · refine lv_tableIn (off := 141) (tgt := 152) hx hb dX1_account_11 (by rw [c_12]; decide) (by rw [c_12]; decide) (by rw [c_12]; rfl) (by decide) ?_
                        refine lv_aload_n hx hb dX1_account_152 rfl (lv_at hl 0 rfl) ?_
                        refine gf_100 hx hb hts hown hs hm hA.z (hts _ q519) dX1_account_153 ?_
                        refine gfN_212 hx hb hts hown hs hm (lay.z hA.c1) q248 dX1_account_156 ?_
                        subst hr_1
                        refine vx_ret ?_
                        refine W.widen (k := 1) (n := 6) (Nat.le_of_ble_eq_true rfl) (Nat.le_of_ble_eq_true rfl) ?_
                        exact W.iret (v := _) hx hb hr (fun t9 ht9 _ => ⟨⟨_, _, rfl, pp3 ((if_neg c_2).trans ((if_neg c_3).trans ((if_neg c_4).trans ((if_neg c_5).trans ((if_neg c_6).trans ((if_neg c_7).trans ((if_neg c_8).trans ((if_neg c_9).trans ((if_neg c_10).trans ((if_neg c_11).trans ((if_pos c_12).trans (rfl)))))))))))), hb9 ht9 hm⟩, hS.F ht9⟩) hS.2.2 dX1_account_159
                      · by_cases c_13 : x = (10 : Int32)
                        · refine lv_tableIn (off := 149) (tgt := 160) hx hb dX1_account_11 (by rw [c_13]; decide) (by rw [c_13]; decide) (by rw [c_13]; rfl) (by decide) ?_
                          refine lv_aload_n hx hb dX1_account_160 rfl (lv_at hl 0 rfl) ?_
                          refine gf_100 hx hb hts hown hs hm hA.z (hts _ q519) dX1_account_161 ?_
                          refine k_calli (va_runV (As := []) (rest := []) ⟨hx, hb, hml, hown, hts⟩ (cm2_standing l E t M  ((c + 1))  hA.c1 hw.w1.n2) (cwV 0 hts (lw_V q1631 q1632 q1633 q59 q1634) rfl rfl rfl (by decide +kernel) ⟨Nat.le_of_ble_eq_true rfl, Nat.le_of_ble_eq_true rfl⟩) (k_preV hs hm hS (mw.recv hs hm (mt_ne (lay.z hA.c1) (by decide)) (ct2 (lay.z hA.c1)) rfl)) rfl rfl hl.1 rfl (lv_room (Nat.le_of_ble_eq_true rfl)) dX1_account_164 ⟨Nat.le_of_ble_eq_true rfl, Nat.le_of_ble_eq_true rfl⟩) hS (fun r_20 u_20 H locs hw_20 hm_20 hS => ?_)
                          obtain ⟨hr_20, hu_20⟩ := hw_20
                          replace hu_20 := hu_20.symm
                          subst hu_20
                          have hm := hm_20
                          subst hr_20
                          subst hr_1
                          refine vx_ret ?_
                          refine W.widen (k := 1) (n := 6) (Nat.le_of_ble_eq_true rfl) (Nat.le_of_ble_eq_true rfl) ?_
                          exact W.iret (v := _) hx hb hr (fun t9 ht9 _ => ⟨⟨_, _, rfl, pp3 ((if_neg c_2).trans ((if_neg c_3).trans ((if_neg c_4).trans ((if_neg c_5).trans ((if_neg c_6).trans ((if_neg c_7).trans ((if_neg c_8).trans ((if_neg c_9).trans ((if_neg c_10).trans ((if_neg c_11).trans ((if_neg c_12).trans ((if_pos c_13).trans (rfl))))))))))))), hb9 ht9 hm⟩, hS.F ht9⟩) hS.2.2 dX1_account_167
                        · by_cases c_14 : x = (11 : Int32)
                          · refine lv_tableIn (off := 157) (tgt := 168) hx hb dX1_account_11 (by rw [c_14]; decide) (by rw [c_14]; decide) (by rw [c_14]; rfl) (by decide) ?_
                            refine lv_aload_n hx hb dX1_account_168 rfl (lv_at hl 0 rfl) ?_
                            refine gf_100 hx hb hts hown hs hm hA.z (hts _ q519) dX1_account_169 ?_
                            refine k_calli (va_runV (As := []) (rest := []) ⟨hx, hb, hml, hown, hts⟩ (cm2_moles l E t M  ((c + 1))  hA.c1 ) (cwV 0 hts (lw_V q1635 q1636 q1637 q59 q1638) rfl rfl rfl (by decide +kernel) ⟨Nat.le_of_ble_eq_true rfl, Nat.le_of_ble_eq_true rfl⟩) (k_preV hs hm hS (mw.recv hs hm (mt_ne (lay.z hA.c1) (by decide)) (ct2 (lay.z hA.c1)) rfl)) rfl rfl hl.1 rfl (lv_room (Nat.le_of_ble_eq_true rfl)) dX1_account_172 ⟨Nat.le_of_ble_eq_true rfl, Nat.le_of_ble_eq_true rfl⟩) hS (fun r_21 u_21 H locs hw_21 hm_21 hS => ?_)
                            obtain ⟨hr_21, hu_21⟩ := hw_21
                            replace hu_21 := hu_21.symm
                            subst hu_21
                            have hm := hm_21
                            subst hr_21
                            subst hr_1
                            refine vx_ret ?_
                            refine W.widen (k := 1) (n := 6) (Nat.le_of_ble_eq_true rfl) (Nat.le_of_ble_eq_true rfl) ?_
                            exact W.iret (v := _) hx hb hr (fun t9 ht9 _ => ⟨⟨_, _, rfl, pp3 ((if_neg c_2).trans ((if_neg c_3).trans ((if_neg c_4).trans ((if_neg c_5).trans ((if_neg c_6).trans ((if_neg c_7).trans ((if_neg c_8).trans ((if_neg c_9).trans ((if_neg c_10).trans ((if_neg c_11).trans ((if_neg c_12).trans ((if_neg c_13).trans ((if_pos c_14).trans (rfl)))))))))))))), hb9 ht9 hm⟩, hS.F ht9⟩) hS.2.2 dX1_account_175
                          · by_cases c_15 : x = (12 : Int32)
                            · refine lv_tableIn (off := 165) (tgt := 176) hx hb dX1_account_11 (by rw [c_15]; decide) (by rw [c_15]; decide) (by rw [c_15]; rfl) (by decide) ?_
                              refine lv_aload_n hx hb dX1_account_176 rfl (lv_at hl 0 rfl) ?_
                              refine gf_100 hx hb hts hown hs hm hA.z (hts _ q519) dX1_account_177 ?_
                              refine gfN_219 hx hb hts hown hs hm (lay.z hA.c1) q264 dX1_account_180 ?_
                              subst hr_1
                              refine vx_ret ?_
                              refine W.widen (k := 1) (n := 6) (Nat.le_of_ble_eq_true rfl) (Nat.le_of_ble_eq_true rfl) ?_
                              exact W.iret (v := _) hx hb hr (fun t9 ht9 _ => ⟨⟨_, _, rfl, pp3 ((if_neg c_2).trans ((if_neg c_3).trans ((if_neg c_4).trans ((if_neg c_5).trans ((if_neg c_6).trans ((if_neg c_7).trans ((if_neg c_8).trans ((if_neg c_9).trans ((if_neg c_10).trans ((if_neg c_11).trans ((if_neg c_12).trans ((if_neg c_13).trans ((if_neg c_14).trans ((if_pos c_15).trans (rfl))))))))))))))), hb9 ht9 hm⟩, hS.F ht9⟩) hS.2.2 dX1_account_183
                            · by_cases c_16 : x = (13 : Int32)
                              · refine lv_tableIn (off := 173) (tgt := 184) hx hb dX1_account_11 (by rw [c_16]; decide) (by rw [c_16]; decide) (by rw [c_16]; rfl) (by decide) ?_
                                refine lv_aload_n hx hb dX1_account_184 rfl (lv_at hl 0 rfl) ?_
                                refine gf_106 hx hb hts hown hs hm hA.z (hts _ q525) dX1_account_185 ?_
                                refine k_calli (va_runV (As := []) (rest := []) ⟨hx, hb, hml, hown, hts⟩ (cmJ3_length l E t M  ((c + 197))  hA.b ) (cwV 0 hts (lw_V q1249 q1250 q1251 q69 q1252) rfl rfl rfl (by decide +kernel) ⟨Nat.le_of_ble_eq_true rfl, Nat.le_of_ble_eq_true rfl⟩) (k_preV hs hm hS (mw.recv hs hm (mt_ne hA.b (by decide)) (ct11 hA.b) rfl)) rfl rfl hl.1 rfl (lv_room (Nat.le_of_ble_eq_true rfl)) dX1_account_188 ⟨Nat.le_of_ble_eq_true rfl, Nat.le_of_ble_eq_true rfl⟩) hS (fun r_22 u_22 H locs hw_22 hm_22 hS => ?_)
                                obtain ⟨hr_22, hu_22⟩ := hw_22
                                replace hu_22 := hu_22.symm
                                subst hu_22
                                have hm := hm_22
                                subst hr_22
                                subst hr_1
                                refine vx_ret ?_
                                refine W.widen (k := 1) (n := 6) (Nat.le_of_ble_eq_true rfl) (Nat.le_of_ble_eq_true rfl) ?_
                                exact W.iret (v := _) hx hb hr (fun t9 ht9 _ => ⟨⟨_, _, rfl, pp3 ((if_neg c_2).trans ((if_neg c_3).trans ((if_neg c_4).trans ((if_neg c_5).trans ((if_neg c_6).trans ((if_neg c_7).trans ((if_neg c_8).trans ((if_neg c_9).trans ((if_neg c_10).trans ((if_neg c_11).trans ((if_neg c_12).trans ((if_neg c_13).trans ((if_neg c_14).trans ((if_neg c_15).trans ((if_pos c_16).trans (rfl)))))))))))))))), hb9 ht9 hm⟩, hS.F ht9⟩) hS.2.2 dX1_account_191
                              · refine lv_tableOut (tgt := 192) hx hb dX1_account_11 (sw_out _ 14 (by decide) (k_sw14 c_3 c_4 c_5 c_6 c_7 c_8 c_9 c_10 c_11 c_12 c_13 c_14 c_15 c_16) rfl) (by decide) ?_
                                refine lv_aload_n hx hb dX1_account_192 rfl (lv_at hl 0 rfl) ?_
                                refine gf_104 hx hb hts hown hs hm hA.z (hts _ q523) dX1_account_193 ?_
                                refine k_calli (va_runV (As := []) (rest := []) ⟨hx, hb, hml, hown, hts⟩ (cmJ1_size l E t M  ((c + 193))  hA.k ) (cwV 0 hts (lw_V q1639 q1640 q1641 q67 q1642) rfl rfl rfl (by decide +kernel) ⟨Nat.le_of_ble_eq_true rfl, Nat.le_of_ble_eq_true rfl⟩) (k_preV hs hm hS (mw.recv hs hm (mt_ne hA.k.z (by decide)) (ct10 hA.k.z) rfl)) rfl rfl hl.1 rfl (lv_room (Nat.le_of_ble_eq_true rfl)) dX1_account_196 ⟨Nat.le_of_ble_eq_true rfl, Nat.le_of_ble_eq_true rfl⟩) hS (fun r_23 u_23 H locs hw_23 hm_23 hS => ?_)
                                obtain ⟨hr_23, hu_23⟩ := hw_23
                                replace hu_23 := hu_23.symm
                                subst hu_23
                                have hm := hm_23
                                subst hr_23
                                subst hr_1
                                refine vx_ret ?_
                                refine W.widen (k := 1) (n := 6) (Nat.le_of_ble_eq_true rfl) (Nat.le_of_ble_eq_true rfl) ?_
                                exact W.iret (v := _) hx hb hr (fun t9 ht9 _ => ⟨⟨_, _, rfl, pp3 ((if_neg c_2).trans ((if_neg c_3).trans ((if_neg c_4).trans ((if_neg c_5).trans ((if_neg c_6).trans ((if_neg c_7).trans ((if_neg c_8).trans ((if_neg c_9).trans ((if_neg c_10).trans ((if_neg c_11).trans ((if_neg c_12).trans ((if_neg c_13).trans ((if_neg c_14).trans ((if_neg c_15).trans ((if_neg c_16).trans (rfl)))))))))))))))), hb9 ht9 hm⟩, hS.F ht9⟩) hS.2.2 dX1_account_199
abbrev CJ2_ensure0 (t : mt) (M : mm) (c : Nat) (x : Int32) : mm := M
set_option maxHeartbeats 4000000 in
theorem cmJ2_ensureCapacityInternal (l : Launch) (E : mE) (t : mt) (M : mm) (c : Nat) (x : Int32) (hc : t c = (11, 0)) (n k : Nat) (hB : sbP t M c n k) (hg : x - (nI n >>> ((gI M 1101 c) &&& 31)) ≤ 0) : Met l yJ2_ensureCapacityInternal (ws_ yJ2_ensureCapacityInternal cJ2_ensureCapacityInternal 3 none) ({ frames := 0, cells := 0, slots := 0, locals := 0 }) (va_Pc [.ref c, .int x] (wP E t M)) (va_Qv (fun (u : mm) => u = CJ2_ensure0 t M c x) (fun u U => mw E t u U.heap) (eA E)) 0 0 (eA E) := by
  refine Met.ofW (cc := cJ2_ensureCapacityInternal) (maxL := 3) (ret := none) (by decide) rfl ?_
  intro p e s m args below meth c0 s₁ B hml hv
  obtain ⟨rfl, hs, hm⟩ := hv
  have hx := B.exec
  have hb := B.bytes
  have hr := B.returns
  have hts := atoms_spec (ws := ws_ yJ2_ensureCapacityInternal cJ2_ensureCapacityInternal 3 none) B.pre
  have hts : ∀ w ∈ lw_all, w.before _ s = true := fun w h => hts w (List.mem_cons_of_mem _ h)
  have hown : s.vm.findClass RJ2 = some m.cls := findClass_of_methodNamed B.named
  have hlocks := B.notSynchronized
  have hS : va_S (eA E) s.heap s.heap [] := va_S.rf
  have hl := lv_entry ([.ref c, .int x]) (n := 3) (Nat.le_of_ble_eq_true rfl)
  rw [lg_entry_eq]
  generalize (lg_sl ([.ref c, .int x]) ++ List.replicate (3 - (lg_sl ([.ref c, .int x])).length) Slot.unset).toArray = ls at hl ⊢
  have hl : lv_has ls 3 [(0, .ref (c)), (1, .int (x))] := hl
  refine lv_aload_n hx hb dJ2_ensureCapacityInternal_0 rfl (lv_at hl 0 rfl) ?_
  refine gf_1100 hx hb hts hown hs hm hc (hts _ q345) dJ2_ensureCapacityInternal_1 ?_
  refine k_alen (j := 3) (v := (nI n)) hx hb hs hm hB.2.1 (by decide) rfl rfl rfl dJ2_ensureCapacityInternal_4 ?_
  refine lv_aload_n hx hb dJ2_ensureCapacityInternal_5 rfl (lv_at hl 0 rfl) ?_
  refine gf_1101 hx hb hts hown hs hm hc (hts _ q346) dJ2_ensureCapacityInternal_6 ?_
  refine lv_ishr hx hb dJ2_ensureCapacityInternal_9 ?_
  refine lv_istore_n (lv' := [(2, _), (0, _), (1, _)]) hx hb dJ2_ensureCapacityInternal_10 rfl hl (by decide) rfl (fun ls hl => ?_)
  refine lv_iload_n hx hb dJ2_ensureCapacityInternal_11 rfl (lv_at hl 2 rfl) ?_
  refine lv_iload_n hx hb dJ2_ensureCapacityInternal_12 rfl (lv_at hl 0 rfl) ?_
  refine lv_isub hx hb dJ2_ensureCapacityInternal_13 ?_
  refine lv_if_le (tgt := 38) hx hb dJ2_ensureCapacityInternal_14 (by decide) (fun c_1 => ?_) (fun c_1 => (c_1 hg).elim)
  exact W.vret hx hb hr (fun t9 ht9 _ => ⟨⟨_, rfl, (rfl).symm, hb9 ht9 hm⟩, hS.F ht9⟩) hS.2.2 dJ2_ensureCapacityInternal_38
def CJ2_setLength (t : mt) (M : mm) (c : Nat) (x : Int32) : mm :=
  let x5 := if (gI M 1103 c) ≤ x then M else (sI M 1102 c (1 : Int32));
  (sI x5 1103 c x)
set_option maxHeartbeats 4000000 in
theorem cmJ2_setLength (l : Launch) (E : mE) (t : mt) (M : mm) (c : Nat) (x : Int32) (hc : t c = (11, 0)) (n k : Nat) (hB : sbP t M c n k) (hx0 : x = 0) : Met l yJ2_setLength (ws_ yJ2_setLength cJ2_setLength 2 none) ({ frames := 1, cells := 0, slots := 0, locals := 22 }) (va_Pc [.ref c, .int x] (wP E t M)) (va_Qv (fun (u : mm) => u = CJ2_setLength t M c x) (fun u U => mw E t u U.heap) (eA E)) 0 0 (eA E) := by
  refine Met.ofW (cc := cJ2_setLength) (maxL := 2) (ret := none) (by decide) rfl ?_
  intro p e s m args below meth c0 s₁ B hml hv
  obtain ⟨rfl, hs, hm⟩ := hv
  have hx := B.exec
  have hb := B.bytes
  have hr := B.returns
  have hts := atoms_spec (ws := ws_ yJ2_setLength cJ2_setLength 2 none) B.pre
  have hts : ∀ w ∈ lw_all, w.before _ s = true := fun w h => hts w (List.mem_cons_of_mem _ h)
  have hown : s.vm.findClass RJ2 = some m.cls := findClass_of_methodNamed B.named
  have hlocks := B.notSynchronized
  have hS : va_S (eA E) s.heap s.heap [] := va_S.rf
  have hl := lv_entry ([.ref c, .int x]) (n := 2) (Nat.le_of_ble_eq_true rfl)
  rw [lg_entry_eq]
  generalize (lg_sl ([.ref c, .int x]) ++ List.replicate (2 - (lg_sl ([.ref c, .int x])).length) Slot.unset).toArray = ls at hl ⊢
  have hl : lv_has ls 2 [(0, .ref (c)), (1, .int (x))] := hl
  refine lv_iload_n hx hb dJ2_setLength_0 rfl (lv_at hl 1 rfl) ?_
  refine lv_if_ge (tgt := 13) hx hb dJ2_setLength_1 (by decide) (fun c_1 => ?_) (fun c_1 => (c_1 (by rw [hx0]; decide)).elim)
  refine lv_aload_n hx hb dJ2_setLength_13 rfl (lv_at hl 0 rfl) ?_
  refine lv_iload_n hx hb dJ2_setLength_14 rfl (lv_at hl 1 rfl) ?_
  refine k_callv (va_runU (As := [.int (x)]) (rest := []) ⟨hx, hb, hml, hown, hts⟩ (cmJ2_ensureCapacityInternal l E t M  (c) (x) hc n k hB (by rw [hx0]; exact sb_nogrow hB)) (cwP 1 hts (lw_meth q1274) rfl rfl rfl (hts _ q1271) (hts _ q2093) (selP (z := yJ2_isLatin1) (by decide +kernel) rfl (hts _ q1299) (hs.2.2.1.at q1272 rfl rfl) (hts _ q1273)) (hts _ q1273) (hts _ q68) (by decide +kernel) ⟨Nat.le_of_ble_eq_true rfl, Nat.le_of_ble_eq_true rfl⟩) (k_preV hs hm hS (mw.recv hs hm (mt_ne hc (by decide)) (ct11 hc) rfl)) rfl rfl hl.1 rfl (lv_room (Nat.le_of_ble_eq_true rfl)) dJ2_setLength_15 ⟨Nat.le_of_ble_eq_true rfl, Nat.le_of_ble_eq_true rfl⟩) hS (fun u_2 H locs hw_2 hm_2 hS => ?_)
  replace hw_2 : M = u_2 := Eq.symm hw_2
  subst hw_2
  have hm : mw E t (M) H := hm_2
  refine lv_aload_n hx hb dJ2_setLength_18 rfl (lv_at hl 0 rfl) ?_
  refine gf_1103 hx hb hts hown hs hm hc (hts _ q349) dJ2_setLength_19 ?_
  refine lv_iload_n hx hb dJ2_setLength_22 rfl (lv_at hl 1 rfl) ?_
  refine lv_icmp_ge (tgt := 63) hx hb dJ2_setLength_23 (by decide) (fun c_3 => ?_) (fun c_3 => (c_3 (by rw [hx0, hB.2.2.2.1]; exact nI_pos' (by have := hB.2.2.1; have := hB.2.2.2.2; omega))).elim)
  refine lv_aload_n hx hb dJ2_setLength_63 rfl (lv_at hl 0 rfl) ?_
  refine gf_1103 hx hb hts hown hs hm hc (hts _ q349) dJ2_setLength_64 ?_
  refine lv_iload_n hx hb dJ2_setLength_67 rfl (lv_at hl 1 rfl) ?_
  refine k_join (fun (x5 : mm) H locs ls => x5 = (if (gI M 1103 c) ≤ x then M else (sI M 1102 c (1 : Int32))) ∧ mw E t (x5) H ∧ va_S (eA E) s.heap H locs ∧ lv_has ls 2 [(0, .ref (c)), (1, .int (x))]) (fun (x5 : mm) ls => F0 m 76 ls []) (fun x5 H locs ls hJ => ?_) (fun J5 => ?_)
  · obtain ⟨hX5, hm, hS, hl⟩ := hJ
    refine lv_aload_n hx hb dJ2_setLength_76 rfl (lv_at hl 0 rfl) ?_
    refine lv_iload_n hx hb dJ2_setLength_77 rfl (lv_at hl 1 rfl) ?_
    refine pf_1103 hx hb hts hown hs hm hS hc (hts _ q349) dJ2_setLength_78 (fun H locs hm hS => ?_)
    have hm : mw E t ((sI x5 1103 c x)) H := hm
    subst hX5
    exact W.vret hx hb hr (fun t9 ht9 _ => ⟨⟨_, rfl, (rfl).symm, hb9 ht9 hm⟩, hS.F ht9⟩) hS.2.2 dJ2_setLength_81
  · refine lv_icmp_le (tgt := 76) hx hb dJ2_setLength_68 (by decide) (fun c_4 => ?_) (fun c_4 => ?_)
    · exact J5 (M) _ _ _ ⟨((if_pos c_4).trans (rfl)).symm, hm, hS, lv_sub hl [0, 1] rfl⟩
    · refine lv_aload_n hx hb dJ2_setLength_71 rfl (lv_at hl 0 rfl) ?_
      refine lv_iconst (v := (1 : Int32)) hx hb dJ2_setLength_72 (by decide) ?_
      refine pf_1102 hx hb hts hown hs hm hS hc (hts _ q347) rfl rfl dJ2_setLength_73 (fun H locs hm hS => ?_)
      have hm : mw E t ((sI M 1102 c (1 : Int32))) H := hm
      exact J5 ((sI M 1102 c (1 : Int32))) _ _ _ ⟨((if_neg c_4).trans (rfl)).symm, hm, hS, lv_sub hl [0, 1] rfl⟩
def CJ3_setLength (t : mt) (M : mm) (c : Nat) (x : Int32) : mm :=
  let u_1 := CJ2_setLength t M (c) (x);
  u_1
set_option maxHeartbeats 4000000 in
theorem cmJ3_setLength (l : Launch) (E : mE) (t : mt) (M : mm) (c : Nat) (x : Int32) (hc : t c = (11, 0)) (n k : Nat) (hB : sbP t M c n k) (hx0 : x = 0) : Met l yJ3_setLength (ws_ yJ3_setLength cJ3_setLength 2 none) ({ frames := 2, cells := 0, slots := 0, locals := 43 }) (va_Pc [.ref c, .int x] (wP E t M)) (va_Qv (fun (u : mm) => u = CJ3_setLength t M c x) (fun u U => mw E t u U.heap) (eA E)) 0 0 (eA E) := by
  refine Met.ofW (cc := cJ3_setLength) (maxL := 2) (ret := none) (by decide) rfl ?_
  intro p e s m args below meth c0 s₁ B hml hv
  obtain ⟨rfl, hs, hm⟩ := hv
  have hx := B.exec
  have hb := B.bytes
  have hr := B.returns
  have hts := atoms_spec (ws := ws_ yJ3_setLength cJ3_setLength 2 none) B.pre
  have hts : ∀ w ∈ lw_all, w.before _ s = true := fun w h => hts w (List.mem_cons_of_mem _ h)
  have hown : s.vm.findClass RJ3 = some m.cls := findClass_of_methodNamed B.named
  have hlocks := B.notSynchronized
  have hS : va_S (eA E) s.heap s.heap [] := va_S.rf
  have hl := lv_entry ([.ref c, .int x]) (n := 2) (Nat.le_of_ble_eq_true rfl)
  rw [lg_entry_eq]
  generalize (lg_sl ([.ref c, .int x]) ++ List.replicate (2 - (lg_sl ([.ref c, .int x])).length) Slot.unset).toArray = ls at hl ⊢
  have hl : lv_has ls 2 [(0, .ref (c)), (1, .int (x))] := hl
  refine lv_aload_n hx hb dJ3_setLength_0 rfl (lv_at hl 0 rfl) ?_
  refine lv_iload_n hx hb dJ3_setLength_1 rfl (lv_at hl 1 rfl) ?_
  refine k_callv (va_runSU (hs.2.1.1 10 _ rfl).2 (As := [.int (x)]) (rest := []) ⟨hx, hb, hml, hown, hts⟩ (cmJ2_setLength l E t M  (c) (x) hc n k hB hx0) (va_cwSU 1 hts (lw_SU q1426 q2097 q358 q1427 q68 q1428) rfl rfl rfl (by decide +kernel) ⟨Nat.le_of_ble_eq_true rfl, Nat.le_of_ble_eq_true rfl⟩) (k_preV hs hm hS (mw.recv hs hm (mt_ne hc (by decide)) (ct11 hc) rfl)) rfl rfl hl.1 rfl (lv_room (Nat.le_of_ble_eq_true rfl)) dJ3_setLength_2 ⟨Nat.le_of_ble_eq_true rfl, Nat.le_of_ble_eq_true rfl⟩) hS (fun u_1 H locs hw_1 hm_1 hS => ?_)
  have hu_1 := hw_1
  have hm := hm_1
  subst hu_1
  exact W.vret hx hb hr (fun t9 ht9 _ => ⟨⟨_, rfl, (rfl).symm, hb9 ht9 hm⟩, hS.F ht9⟩) hS.2.2 dJ3_setLength_5
theorem xc_account (t : mt) (M : mm) (c : Nat) (x : Int32) : (C1_account t M c x).1 = (0 : Int32) ∨ (C1_account t M c x).1 = (1 : Int32) := by
  unfold C1_account
  (try dsimp only)
  by_cases e : C1_in x 0 14 = 0
  · rw [if_pos e]
    exact .inr rfl
  · left
    rw [if_neg e]
    exact fst_if rfl (fst_if rfl (fst_if rfl (fst_if rfl (fst_if rfl (fst_if rfl (fst_if rfl (fst_if rfl (fst_if rfl (fst_if rfl (fst_if rfl (fst_if rfl (fst_if rfl (fst_if rfl rfl)))))))))))))
def C0_account (t : mt) (M : mm) (a : Nat) (x : Int32) (o : Nat) : Int32 × Int32 × mm :=
  let r_1 := (C1_account t M (a) (x)).2.1;
  let u_1 := (C1_account t M (a) (x)).2.2;
  if (C1_account t M (a) (x)).1 = 0 then
    ((0 : Int32), (0 : Int32), (wL u_1 o (vp_updL (aL u_1 o) 0 (r_1).toInt64)))
  else
    if (C1_account t M (a) (x)).1 = (1 : Int32) then
      ((0 : Int32), (1 : Int32), (C1_account t M (a) (x)).2.2)
    else
      ((0 : Int32), (0 : Int32), M)
set_option maxHeartbeats 4000000 in
theorem cm0_account (l : Launch) (E : mE) (hl9 : l.stackTraces = false) (t : mt) (M : mm) (a : Nat) (x : Int32) (o : Nat) (hA : layA t a) (ho : t o = (60, 1)) (K S : List Nat) (hw : wfA M a K S) : vx_Met l yX0_account (wsW_ yX0_account cX0_account 4 (some .int) [((0 : Nat), (9 : Nat), (12 : Nat), (13 : Nat))]) ({ frames := 8, cells := 1, slots := 6, locals := 161 }) (va_Pc [.ref a, .int x, .ref o] (wP E t M)) (va_Qi (fun (r : Int32) (u : mm) => (C0_account t M a x o).1 = 0 ∧ r = (C0_account t M a x o).2.1 ∧ u = (C0_account t M a x o).2.2) (fun u U => mw E t u U.heap) (eA E)) (vx_X (fun (u : mm) => ¬ (C0_account t M a x o).1 = 0 ∧ u = (C0_account t M a x o).2.2) (fun En q u U => XS E t (C0_account t M a x o).1 En q u U.heap) (eA E)) 1 6 (eA E) := by
  refine vx_ofWH (cc := cX0_account) (maxL := 4) (ret := (some .int)) (hh := [((0 : Nat), (9 : Nat), (12 : Nat), (13 : Nat))]) (by decide) rfl ?_
  intro p e s m args below meth c0 s₁ B hml hv
  obtain ⟨rfl, hs, hm⟩ := hv
  have hx := B.exec
  have hb := B.bytes
  have hr := B.returns
  have hts := atoms_spec (ws := wsW_ yX0_account cX0_account 4 (some .int) [((0 : Nat), (9 : Nat), (12 : Nat), (13 : Nat))]) B.pre
  have hts : ∀ w ∈ lw_all, w.before _ s = true := fun w h => hts w (List.mem_cons_of_mem _ h)
  have hown : s.vm.findClass RX0 = some m.cls := findClass_of_methodNamed B.named
  have hlocks := B.notSynchronized
  have htab := vx_table (x := yX0_account) B (atoms_spec (ws := wsW_ yX0_account cX0_account 4 (some .int) [((0 : Nat), (9 : Nat), (12 : Nat), (13 : Nat))]) B.pre _ List.mem_cons_self)
  have hS : va_S (eA E) s.heap s.heap [] := va_S.rf
  have hl := lv_entry ([.ref a, .int x, .ref o]) (n := 4) (Nat.le_of_ble_eq_true rfl)
  rw [lg_entry_eq]
  generalize (lg_sl ([.ref a, .int x, .ref o]) ++ List.replicate (4 - (lg_sl ([.ref a, .int x, .ref o])).length) Slot.unset).toArray = ls at hl ⊢
  have hl : lv_has ls 4 [(0, .ref (a)), (1, .int (x)), (2, .ref (o))] := hl
  refine lv_aload_n hx hb dX0_account_0 rfl (lv_at hl 2 rfl) ?_
  refine lv_iconst (v := (0 : Int32)) hx hb dX0_account_1 (by decide) ?_
  refine lv_aload_n hx hb dX0_account_2 rfl (lv_at hl 0 rfl) ?_
  refine lv_iload_n hx hb dX0_account_3 rfl (lv_at hl 1 rfl) ?_
  refine kx_calli (BX := fun En q u H => XS E t (C1_account t M (a) (x)).1 En q u H) (vx_runV (As := [.int (x)]) (rest := [.int ((0 : Int32)), .ref (o)]) ⟨hx, hb, hml, hown, hts⟩ (cm1_account l E hl9 t M  (a) (x) hA K S hw) (cwV 1 hts (lw_V q1625 q1626 q1627 q58 q1628) rfl rfl rfl (by decide +kernel) ⟨Nat.le_of_ble_eq_true rfl, Nat.le_of_ble_eq_true rfl⟩) (k_preV hs hm hS (mw.recv hs hm (mt_ne hA.z (by decide)) (ct1 hA.z) rfl)) rfl rfl hl.1 rfl (lv_room (Nat.le_of_ble_eq_true rfl)) dX0_account_4 ⟨Nat.le_of_ble_eq_true rfl, Nat.le_of_ble_eq_true rfl⟩) hS (fun En_1 ce_1 q_1 u9_1 H locs hp_1 hB_1 hS h1_1 h2_1 h3_1 => ?_) (fun r_1 u_1 H locs hw_1 hm_1 hS => ?_)
  · obtain ⟨c_1, hu9_1⟩ := hp_1
    replace hu9_1 := hu9_1.symm
    subst hu9_1
    obtain ⟨hE_1, hm⟩ := hB_1
    have hk_1 := xc_account t M a x
    by_cases d_1_0 : (C1_account t M (a) (x)).1 = (1 : Int32)
    · have hE9 : En_1 = "java/lang/IllegalArgumentException" := by rw [hE_1, d_1_0]; rfl
      subst hE9
      refine vx_catch (name := "java/lang/IllegalArgumentException") hown [] ⟨0, 9, 12, 13⟩ [] htab (fun z hz => nomatch hz) (by decide) (by decide) (hts _ q694) (hs.2.2.1.at q707 rfl rfl) h1_1 h2_1 h3_1 ?_
      refine lv_astore_n (lv' := [(3, _), (0, _), (1, _), (2, _)]) hx hb dX0_account_12 rfl hl (by decide) rfl (fun ls hl => ?_)
      refine lv_iconst (v := (1 : Int32)) hx hb dX0_account_13 (by decide) ?_
      refine vx_ret ?_
      refine W.widen (k := 1) (n := 6) (Nat.le_of_ble_eq_true rfl) (Nat.le_of_ble_eq_true rfl) ?_
      exact W.iret (v := _) hx hb hr (fun t9 ht9 _ => ⟨⟨_, _, rfl, pp3 ((if_neg c_1).trans ((if_pos d_1_0).trans (rfl))), hb9 ht9 hm⟩, hS.F ht9⟩) hS.2.2 dX0_account_14
    · rcases hk_1 with h9 | h9
      · exact absurd h9 c_1
      · exact absurd h9 d_1_0
  · obtain ⟨c_1, hr_1, hu_1⟩ := hw_1
    have hm := hm_1
    refine lv_i2l hx hb dX0_account_7 rfl ?_
    refine k_last hx hb hs hm hS ho (vi 0 (by decide) (by decide)) dX0_account_8 (fun H locs hm hS => ?_)
    have hm : mw E t ((wL u_1 o (vp_updL (aL u_1 o) 0 (r_1).toInt64))) H := hm
    refine lv_goto (tgt := 15) hx hb dX0_account_9 (by decide) ?_
    refine lv_iconst (v := (0 : Int32)) hx hb dX0_account_15 (by decide) ?_
    subst hu_1
    subst hr_1
    refine vx_ret ?_
    refine W.widen (k := 1) (n := 6) (Nat.le_of_ble_eq_true rfl) (Nat.le_of_ble_eq_true rfl) ?_
    exact W.iret (v := _) hx hb hr (fun t9 ht9 _ => ⟨⟨_, _, rfl, pp3 ((if_pos c_1).trans (rfl)), hb9 ht9 hm⟩, hS.F ht9⟩) hS.2.2 dX0_account_16
