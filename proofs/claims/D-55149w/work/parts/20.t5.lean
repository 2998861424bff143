set_option maxRecDepth 100000
/-! the reference, method by method: what it computes (T_..), and that it does (tm_..) -/
def freeF (g : Nat → Int32) (x : Int32) : Nat → Nat → Int32
  | 0, k => nI k
  | n + 1, k => if g ((((70 : Int32) + ((5 : Int32) * x)) + nI k)).toNatClampNeg ≤ 0 then nI k else freeF g x n (k + 1)
theorem free_e1 {Tr : Int32} {g : Nat → Int32} {x : Int32} {k : Nat} (h : k ≤ 5 ∧ Tr = freeF g x (5 - k) k) (c : (5 : Int32) ≤ nI k) : Tr = nI k := by
  obtain rfl : k = 5 := lp_ge (by decide) h.1 c
  exact h.2
theorem free_e2 {Tr : Int32} {g : Nat → Int32} {x : Int32} {k : Nat} (h : k ≤ 5 ∧ Tr = freeF g x (5 - k) k) (c : ¬ (5 : Int32) ≤ nI k) (c2 : g ((((70 : Int32) + ((5 : Int32) * x)) + nI k)).toNatClampNeg ≤ 0) : Tr = nI k := by
  have hk : k < 5 := lp_lt (by decide) h.1 c
  rw [h.2, show 5 - k = (5 - (k + 1)) + 1 by omega]
  exact if_pos c2
theorem free_s {Tr : Int32} {g : Nat → Int32} {x : Int32} {k : Nat} (h : k ≤ 5 ∧ Tr = freeF g x (5 - k) k) (c : ¬ (5 : Int32) ≤ nI k) (c2 : ¬ g ((((70 : Int32) + ((5 : Int32) * x)) + nI k)).toNatClampNeg ≤ 0) : k + 1 ≤ 5 ∧ Tr = freeF g x (5 - (k + 1)) (k + 1) := by
  have hk : k < 5 := lp_lt (by decide) h.1 c
  refine ⟨hk, ?_⟩
  rw [h.2, show 5 - k = (5 - (k + 1)) + 1 by omega]
  exact if_neg c2
theorem free_le (g : Nat → Int32) (x : Int32) : ∀ (n k : Nat), ∃ j, k ≤ j ∧ j ≤ k + n ∧ freeF g x n k = nI j
  | 0, k => ⟨k, Nat.le_refl _, Nat.le_refl _, rfl⟩
  | n + 1, k => by
    unfold freeF
    split
    · exact ⟨k, Nat.le_refl _, by omega, rfl⟩
    · obtain ⟨j, h1, h2, h3⟩ := free_le g x n (k + 1)
      exact ⟨j, by omega, by omega, h3⟩
def T_freePlace (v : tw) (x : Int32) : Int32 := freeF (t0 v) x 5 0
set_option maxHeartbeats 4000000 in
theorem tm_freePlace (l : Launch) (E : mE) (h : Nat) (v : tw) (x : Int32) (hx2 : ix 2 x) : Met l yX10_freePlace (ws_ yX10_freePlace cX10_freePlace 3 (some .int)) ({ frames := 0, cells := 0, slots := 0, locals := 0 }) (va_Pc [.ref h, .int x] (tP E h v)) (va_Qi (fun (r : Int32) (u : tw) => r = T_freePlace v x ∧ u = v) (fun u U => tW E h u U.heap) (eA E)) 0 0 (eA E) := by
  refine Met.ofW (cc := cX10_freePlace) (maxL := 3) (ret := (some .int)) (by decide) rfl ?_
  intro p e s m args below meth c s₁ B hml hv
  obtain ⟨rfl, hs, hm⟩ := hv
  have hx := B.exec
  have hb := B.bytes
  have hr := B.returns
  have hts := atoms_spec (ws := ws_ yX10_freePlace cX10_freePlace 3 (some .int)) B.pre
  have hts : ∀ w ∈ lw_all, w.before _ s = true := fun w h => hts w (List.mem_cons_of_mem _ h)
  have hown : s.vm.findClass RX10 = some m.cls := findClass_of_methodNamed B.named
  have hlocks := B.notSynchronized
  have hS : va_S (eA E) s.heap s.heap [] := va_S.rf
  have hl := lv_entry ([.ref h, .int x]) (n := 3) (Nat.le_of_ble_eq_true rfl)
  rw [lg_entry_eq]
  generalize (lg_sl ([.ref h, .int x]) ++ List.replicate (3 - (lg_sl ([.ref h, .int x])).length) Slot.unset).toArray = ls at hl ⊢
  have hl : lv_has ls 3 [(0, .ref (h)), (1, .int (x))] := hl
  refine lv_iconst (v := (0 : Int32)) hx hb dX10_freePlace_0 (by decide) ?_
  refine lv_istore_n (lv' := [(2, _), (0, _), (1, _)]) hx hb dX10_freePlace_1 rfl hl (by decide) rfl (fun ls hl => ?_)
  refine k_loop (fun k => 5 - k) (fun (k : Nat) H locs ls => (k ≤ 5 ∧ T_freePlace v x = freeF (t0 v) x (5 - k) k) ∧ tW E h (v) H ∧ va_S (eA E) s.heap H locs ∧ lv_has ls 3 [(2, .int (nI k)), (0, .ref (h)), (1, .int (x))]) (fun (k : Nat) ls => F0 m 2 ls []) (fun k => (0, 0)) (fun k ih_1 H locs ls hP => ?_) (0) ⟨⟨by omega, rfl⟩, hm, hS, lv_sub hl [0, 1, 2] rfl⟩
  obtain ⟨hI_1, hm, hS, hl⟩ := hP
  refine lv_iload_n hx hb dX10_freePlace_2 rfl (lv_at hl 0 rfl) ?_
  refine lv_iconst (v := (5 : Int32)) hx hb dX10_freePlace_3 (by decide) ?_
  refine lv_icmp_ge (tgt := 29) hx hb dX10_freePlace_4 (by decide) (fun c_2 => ?_) (fun c_2 => ?_)
  · refine lv_iload_n hx hb dX10_freePlace_29 rfl (lv_at hl 0 rfl) ?_
    exact W.iret (v := _) hx hb hr (fun t9 ht9 _ => ⟨⟨_, _, rfl, ⟨((show T_freePlace v x = nI k by first | exact free_e1 hI_1 c_2 | exact free_e2 hI_1 trivial c_2)).symm, rfl⟩, hb9 ht9 hm⟩, hS.F ht9⟩) hS.2.2 dX10_freePlace_30
  · have hk : k < 5 := lp_lt (by decide) hI_1.1 c_2
    refine lv_aload_n hx hb dX10_freePlace_7 rfl (lv_at hl 1 rfl) ?_
    refine tg_0 hx hb hts hown hs hm (hts _ q1674) dX10_freePlace_8 ?_
    refine lv_bipush (v := (70 : Int32)) hx hb dX10_freePlace_11 (by decide) ?_
    refine lv_iconst (v := (5 : Int32)) hx hb dX10_freePlace_13 (by decide) ?_
    refine lv_iload_n hx hb dX10_freePlace_14 rfl (lv_at hl 2 rfl) ?_
    refine lv_imul hx hb dX10_freePlace_15 ?_
    refine lv_iadd hx hb dX10_freePlace_16 ?_
    refine lv_iload_n hx hb dX10_freePlace_17 rfl (lv_at hl 0 rfl) ?_
    refine lv_iadd hx hb dX10_freePlace_18 ?_
    refine tl_0 hx hb hs hm (ix.two 70 5 112 (hx2) (⟨k, hk, rfl⟩) (by decide) (by decide)) dX10_freePlace_19 ?_
    refine lv_if_le (tgt := 29) hx hb dX10_freePlace_20 (by decide) (fun c_3 => ?_) (fun c_3 => ?_)
    · refine lv_iload_n hx hb dX10_freePlace_29 rfl (lv_at hl 0 rfl) ?_
      exact W.iret (v := _) hx hb hr (fun t9 ht9 _ => ⟨⟨_, _, rfl, ⟨((show T_freePlace v x = nI k by first | exact free_e1 hI_1 c_3 | exact free_e2 hI_1 c_2 c_3)).symm, rfl⟩, hb9 ht9 hm⟩, hS.F ht9⟩) hS.2.2 dX10_freePlace_30
    · refine lv_iinc (v := nI (k + 1)) (lv' := [(2, _), (0, _), (1, _)]) hx hb dX10_freePlace_23 hl (k := 0) rfl (nI_succ k).symm (by decide) rfl (fun ls hl => ?_)
      refine lv_goto (tgt := 2) hx hb dX10_freePlace_26 (by decide) ?_
      exact ih_1 (k + 1) (by omega) _ _ _ ⟨free_s hI_1 c_2 c_3, hm, hS, lv_sub hl [0, 1, 2] rfl⟩
theorem free_ix {v : tw} {x r : Int32} (hr : r = T_freePlace v x) (c : ¬ r = 5) : ix 5 r := by
  obtain ⟨j, h1, h2, h3⟩ := free_le (t0 v) x 5 0
  have h4 : r = nI j := hr.trans h3
  refine ⟨j, ?_, h4⟩
  rcases Nat.lt_or_ge j 5 with h | h
  · exact h
  · exact absurd (by rw [h4, show j = 5 by omega]; rfl) c
def T_seedling (v : tw) (x : Int32) (y : Int32) : Int32 × tw :=
  let r_1 := T_isBench (y);
  if r_1 = 0 then
    ((0 : Int32), (T_fails v (1 : Int32)).2)
  else
    let r_3 := T_isBench (x);
    if r_3 = 0 then
      ((0 : Int32), (T_fails v (2 : Int32)).2)
    else
      let r_5 := T_freePlace v (y);
      if r_5 = (5 : Int32) then
        ((0 : Int32), (T_refused v (5 : Int32) y (3 : Int32)).2)
      else
        if x = y then
          let r_10 := (T_kept (u18 (u0 (T_looksBack v) (upd (upd (t0 v) ((((70 : Int32) + ((5 : Int32) * y)) + r_5)).toNatClampNeg ((t0 v ((0 : Int32)).toNatClampNeg) + (1 : Int32))) ((93 : Int32)).toNatClampNeg (((upd (t0 v) ((((70 : Int32) + ((5 : Int32) * y)) + r_5)).toNatClampNeg ((t0 v ((0 : Int32)).toNatClampNeg) + (1 : Int32))) ((93 : Int32)).toNatClampNeg) + (1 : Int32)))) (0 : Int32)) (r_5)).1;
          let u_10 := (T_kept (u18 (u0 (T_looksBack v) (upd (upd (t0 v) ((((70 : Int32) + ((5 : Int32) * y)) + r_5)).toNatClampNeg ((t0 v ((0 : Int32)).toNatClampNeg) + (1 : Int32))) ((93 : Int32)).toNatClampNeg (((upd (t0 v) ((((70 : Int32) + ((5 : Int32) * y)) + r_5)).toNatClampNeg ((t0 v ((0 : Int32)).toNatClampNeg) + (1 : Int32))) ((93 : Int32)).toNatClampNeg) + (1 : Int32)))) (0 : Int32)) (r_5)).2;
          (r_10, u_10)
        else
          ((0 : Int32), (T_refused v (6 : Int32) y (3 : Int32)).2)
set_option maxHeartbeats 4000000 in
theorem tm_seedling (l : Launch) (E : mE) (h : Nat) (v : tw) (x : Int32) (y : Int32) (hw : wf (t0 v) (t1 v)) (h9 : ix 9 (t6 v)) : Met l yX10_seedling (ws_ yX10_seedling cX10_seedling 4 (some .int)) ({ frames := 2, cells := 0, slots := 0, locals := 46 }) (va_Pc [.ref h, .int x, .int y] (tP E h v)) (va_Qi (fun (r : Int32) (u : tw) => r = (T_seedling v x y).1 ∧ u = (T_seedling v x y).2) (fun u U => tW E h u U.heap) (eA E)) 0 0 (eA E) := by
  refine Met.ofW (cc := cX10_seedling) (maxL := 4) (ret := (some .int)) (by decide) rfl ?_
  intro p e s m args below meth c s₁ B hml hv
  obtain ⟨rfl, hs, hm⟩ := hv
  have hx := B.exec
  have hb := B.bytes
  have hr := B.returns
  have hts := atoms_spec (ws := ws_ yX10_seedling cX10_seedling 4 (some .int)) B.pre
  have hts : ∀ w ∈ lw_all, w.before _ s = true := fun w h => hts w (List.mem_cons_of_mem _ h)
  have hown : s.vm.findClass RX10 = some m.cls := findClass_of_methodNamed B.named
  have hlocks := B.notSynchronized
  have hS : va_S (eA E) s.heap s.heap [] := va_S.rf
  have hl := lv_entry ([.ref h, .int x, .int y]) (n := 4) (Nat.le_of_ble_eq_true rfl)
  rw [lg_entry_eq]
  generalize (lg_sl ([.ref h, .int x, .int y]) ++ List.replicate (4 - (lg_sl ([.ref h, .int x, .int y])).length) Slot.unset).toArray = ls at hl ⊢
  have hl : lv_has ls 4 [(0, .ref (h)), (1, .int (x)), (2, .int (y))] := hl
  refine lv_iload_n hx hb dX10_seedling_0 rfl (lv_at hl 2 rfl) ?_
  refine k_calli (va_runS (As := [.int (y)]) (rest := []) ⟨hx, hb, hml, hown, hts⟩ (tm_isBench l E (y) _) (va_cwS 1 hts (lw_S q1896 q1897 q80 q1898) rfl rfl rfl (by decide +kernel) ⟨Nat.le_of_ble_eq_true rfl, Nat.le_of_ble_eq_true rfl⟩) (k_pure hs hS) rfl rfl hl.1 rfl (lv_room (Nat.le_of_ble_eq_true rfl)) dX10_seedling_1 ⟨Nat.le_of_ble_eq_true rfl, Nat.le_of_ble_eq_true rfl⟩) hS (fun r_1 u_1 H9 locs hw_1 hm_1 hS => ?_)
  replace hm_1 : _ = H9 := Eq.symm hm_1
  subst hm_1
  have hr_1 := hw_1
  refine lv_if_ne (tgt := 13) hx hb dX10_seedling_4 (by decide) (fun c_2 => ?_) (fun c_2 => ?_)
  · have hy2 := bench_ix hr_1 c_2
    refine lv_iload_n hx hb dX10_seedling_13 rfl (lv_at hl 1 rfl) ?_
    refine k_calli (va_runS (As := [.int (x)]) (rest := []) ⟨hx, hb, hml, hown, hts⟩ (tm_isBench l E (x) _) (va_cwS 1 hts (lw_S q1896 q1897 q80 q1898) rfl rfl rfl (by decide +kernel) ⟨Nat.le_of_ble_eq_true rfl, Nat.le_of_ble_eq_true rfl⟩) (k_pure hs hS) rfl rfl hl.1 rfl (lv_room (Nat.le_of_ble_eq_true rfl)) dX10_seedling_14 ⟨Nat.le_of_ble_eq_true rfl, Nat.le_of_ble_eq_true rfl⟩) hS (fun r_3 u_3 H9 locs hw_3 hm_3 hS => ?_)
    replace hm_3 : _ = H9 := Eq.symm hm_3
    subst hm_3
    have hr_3 := hw_3
    refine lv_if_ne (tgt := 26) hx hb dX10_seedling_17 (by decide) (fun c_4 => ?_) (fun c_4 => ?_)
    · refine lv_aload_n hx hb dX10_seedling_26 rfl (lv_at hl 0 rfl) ?_
      refine lv_iload_n hx hb dX10_seedling_27 rfl (lv_at hl 2 rfl) ?_
      refine k_calli (va_runV (As := [.int (y)]) (rest := []) ⟨hx, hb, hml, hown, hts⟩ (tm_freePlace l E h v (y) hy2) (cwV 1 hts (lw_V q1899 q1901 qs40 q80 q1902) rfl rfl rfl (by decide +kernel) ⟨Nat.le_of_ble_eq_true rfl, Nat.le_of_ble_eq_true rfl⟩) (k_preVt hs hm hS) rfl rfl hl.1 rfl (lv_room (Nat.le_of_ble_eq_true rfl)) dX10_seedling_28 ⟨Nat.le_of_ble_eq_true rfl, Nat.le_of_ble_eq_true rfl⟩) hS (fun r_5 u_5 H9 locs hw_5 hm_5 hS => ?_)
      obtain ⟨hr_5, hu_5⟩ := hw_5
      replace hu_5 := hu_5.symm
      subst hu_5
      have hm := hm_5
      refine lv_istore_n (lv' := [(3, _), (0, _), (1, _), (2, _)]) hx hb dX10_seedling_31 rfl hl (by decide) rfl (fun ls hl => ?_)
      refine lv_iload_n hx hb dX10_seedling_32 rfl (lv_at hl 0 rfl) ?_
      refine lv_iconst (v := (5 : Int32)) hx hb dX10_seedling_33 (by decide) ?_
      refine lv_icmp_ne (tgt := 45) hx hb dX10_seedling_34 (by decide) (fun c_6 => ?_) (fun c_6 => ?_)
      · have h5 := free_ix hr_5 c_6
        refine lv_iload_n hx hb dX10_seedling_45 rfl (lv_at hl 2 rfl) ?_
        refine lv_iload_n hx hb dX10_seedling_46 rfl (lv_at hl 3 rfl) ?_
        refine lv_icmp_eq (tgt := 59) hx hb dX10_seedling_47 (by decide) (fun c_7 => ?_) (fun c_7 => ?_)
        · refine lv_aload_n hx hb dX10_seedling_59 rfl (lv_at hl 1 rfl) ?_
          refine k_callv (va_runV (As := []) (rest := []) ⟨hx, hb, hml, hown, hts⟩ (tm_looksBack l E h v  ) (cwV 0 hts (lw_V q1749 q1751 qs21 q80 q1752) rfl rfl rfl (by decide +kernel) ⟨Nat.le_of_ble_eq_true rfl, Nat.le_of_ble_eq_true rfl⟩) (k_preVt hs hm hS) rfl rfl hl.1 rfl (lv_room (Nat.le_of_ble_eq_true rfl)) dX10_seedling_60 ⟨Nat.le_of_ble_eq_true rfl, Nat.le_of_ble_eq_true rfl⟩) hS (fun u_8 H9 locs hw_8 hm_8 hS => ?_)
          replace hw_8 : u_8 = (T_looksBack v) := hw_8
          replace hw_8 := hw_8.symm
          subst hw_8
          have hm := hm_8
          refine lv_aload_n hx hb dX10_seedling_63 rfl (lv_at hl 1 rfl) ?_
          refine tg_0 hx hb hts hown hs hm (hts _ q1674) dX10_seedling_64 ?_
          refine lv_bipush (v := (70 : Int32)) hx hb dX10_seedling_67 (by decide) ?_
          refine lv_iconst (v := (5 : Int32)) hx hb dX10_seedling_69 (by decide) ?_
          refine lv_iload_n hx hb dX10_seedling_70 rfl (lv_at hl 3 rfl) ?_
          refine lv_imul hx hb dX10_seedling_71 ?_
          refine lv_iadd hx hb dX10_seedling_72 ?_
          refine lv_iload_n hx hb dX10_seedling_73 rfl (lv_at hl 0 rfl) ?_
          refine lv_iadd hx hb dX10_seedling_74 ?_
          refine lv_aload_n hx hb dX10_seedling_75 rfl (lv_at hl 1 rfl) ?_
          refine tg_0 hx hb hts hown hs hm (hts _ q1674) dX10_seedling_76 ?_
          refine lv_iconst (v := (0 : Int32)) hx hb dX10_seedling_79 (by decide) ?_
          refine tl_0 hx hb hs hm (vi 0 (by decide) (by decide)) dX10_seedling_80 ?_
          refine lv_iconst (v := (1 : Int32)) hx hb dX10_seedling_81 (by decide) ?_
          refine lv_iadd hx hb dX10_seedling_82 ?_
          refine ts_0 hx hb hs hm hS (ix.two 70 5 112 (hy2) (h5) (by decide) (by decide)) dX10_seedling_83 (fun H locs hm hS => ?_)
          have hm : tW E h (u0 (T_looksBack v) (upd (t0 v) ((((70 : Int32) + ((5 : Int32) * y)) + r_5)).toNatClampNeg ((t0 v ((0 : Int32)).toNatClampNeg) + (1 : Int32)))) H := hm
          refine lv_aload_n hx hb dX10_seedling_84 rfl (lv_at hl 1 rfl) ?_
          refine tg_0 hx hb hts hown hs hm (hts _ q1674) dX10_seedling_85 ?_
          refine lv_bipush (v := (93 : Int32)) hx hb dX10_seedling_88 (by decide) ?_
          refine lv_dup2_11 hx hb dX10_seedling_90 rfl rfl ?_
          refine tl_0 hx hb hs hm (vi 93 (by decide) (by decide)) dX10_seedling_91 ?_
          refine lv_iconst (v := (1 : Int32)) hx hb dX10_seedling_92 (by decide) ?_
          refine lv_iadd hx hb dX10_seedling_93 ?_
          refine ts_0 hx hb hs hm hS (vi 93 (by decide) (by decide)) dX10_seedling_94 (fun H locs hm hS => ?_)
          have hm : tW E h (u0 (T_looksBack v) (upd (upd (t0 v) ((((70 : Int32) + ((5 : Int32) * y)) + r_5)).toNatClampNeg ((t0 v ((0 : Int32)).toNatClampNeg) + (1 : Int32))) ((93 : Int32)).toNatClampNeg (((upd (t0 v) ((((70 : Int32) + ((5 : Int32) * y)) + r_5)).toNatClampNeg ((t0 v ((0 : Int32)).toNatClampNeg) + (1 : Int32))) ((93 : Int32)).toNatClampNeg) + (1 : Int32)))) H := hm
          refine lv_aload_n hx hb dX10_seedling_95 rfl (lv_at hl 1 rfl) ?_
          refine lv_aload_n hx hb dX10_seedling_96 rfl (lv_at hl 1 rfl) ?_
          refine lv_iload_n hx hb dX10_seedling_97 rfl (lv_at hl 0 rfl) ?_
          refine k_calli (va_runV (As := [.int (r_5)]) (rest := [.ref (h)]) ⟨hx, hb, hml, hown, hts⟩ (tm_done l E h (u0 (T_looksBack v) (upd (upd (t0 v) ((((70 : Int32) + ((5 : Int32) * y)) + r_5)).toNatClampNeg ((t0 v ((0 : Int32)).toNatClampNeg) + (1 : Int32))) ((93 : Int32)).toNatClampNeg (((upd (t0 v) ((((70 : Int32) + ((5 : Int32) * y)) + r_5)).toNatClampNeg ((t0 v ((0 : Int32)).toNatClampNeg) + (1 : Int32))) ((93 : Int32)).toNatClampNeg) + (1 : Int32)))) (r_5) ) (cwV 1 hts (lw_V q1770 q1772 qs24 q80 q1773) rfl rfl rfl (by decide +kernel) ⟨Nat.le_of_ble_eq_true rfl, Nat.le_of_ble_eq_true rfl⟩) (k_preVt hs hm hS) rfl rfl hl.1 rfl (lv_room (Nat.le_of_ble_eq_true rfl)) dX10_seedling_98 ⟨Nat.le_of_ble_eq_true rfl, Nat.le_of_ble_eq_true rfl⟩) hS (fun r_9 u_9 H9 locs hw_9 hm_9 hS => ?_)
          replace hw_9 : r_9 = r_5 ∧ u_9 = (u18 (u0 (T_looksBack v) (upd (upd (t0 v) ((((70 : Int32) + ((5 : Int32) * y)) + r_5)).toNatClampNeg ((t0 v ((0 : Int32)).toNatClampNeg) + (1 : Int32))) ((93 : Int32)).toNatClampNeg (((upd (t0 v) ((((70 : Int32) + ((5 : Int32) * y)) + r_5)).toNatClampNeg ((t0 v ((0 : Int32)).toNatClampNeg) + (1 : Int32))) ((93 : Int32)).toNatClampNeg) + (1 : Int32)))) (0 : Int32)) := hw_9
          obtain ⟨hr_9, hw_9⟩ := hw_9
          replace hr_9 := hr_9.symm
          subst hr_9
          replace hw_9 := hw_9.symm
          subst hw_9
          have hm := hm_9
          refine k_calli (va_runV (As := [.int (r_5)]) (rest := []) ⟨hx, hb, hml, hown, hts⟩ (tm_kept l E h (u18 (u0 (T_looksBack v) (upd (upd (t0 v) ((((70 : Int32) + ((5 : Int32) * y)) + r_5)).toNatClampNeg ((t0 v ((0 : Int32)).toNatClampNeg) + (1 : Int32))) ((93 : Int32)).toNatClampNeg (((upd (t0 v) ((((70 : Int32) + ((5 : Int32) * y)) + r_5)).toNatClampNeg ((t0 v ((0 : Int32)).toNatClampNeg) + (1 : Int32))) ((93 : Int32)).toNatClampNeg) + (1 : Int32)))) (0 : Int32)) (r_5) (i9_u18 (i9_u0 (i9_looksBack h9)))) (cwV 1 hts (lw_V q1774 q1776 qs25 q80 q1777) rfl rfl rfl (by decide +kernel) ⟨Nat.le_of_ble_eq_true rfl, Nat.le_of_ble_eq_true rfl⟩) (k_preVt hs hm hS) rfl rfl hl.1 rfl (lv_room (Nat.le_of_ble_eq_true rfl)) dX10_seedling_101 ⟨Nat.le_of_ble_eq_true rfl, Nat.le_of_ble_eq_true rfl⟩) hS (fun r_10 u_10 H9 locs hw_10 hm_10 hS => ?_)
          obtain ⟨hr_10, hu_10⟩ := hw_10
          have hm := hm_10
          subst hu_10
          subst hr_10
          subst hr_5
          subst hr_3
          subst hr_1
          exact W.iret (v := _) hx hb hr (fun t9 ht9 _ => ⟨⟨_, _, rfl, pp ((if_neg c_2).trans ((if_neg c_4).trans ((if_neg c_6).trans ((if_pos c_7).trans (rfl))))), hb9 ht9 hm⟩, hS.F ht9⟩) hS.2.2 dX10_seedling_104
        · refine lv_aload_n hx hb dX10_seedling_50 rfl (lv_at hl 1 rfl) ?_
          refine lv_bipush (v := (6 : Int32)) hx hb dX10_seedling_51 (by decide) ?_
          refine lv_iload_n hx hb dX10_seedling_53 rfl (lv_at hl 3 rfl) ?_
          refine lv_iconst (v := (3 : Int32)) hx hb dX10_seedling_54 (by decide) ?_
          refine k_calli (va_runV (As := [.int ((6 : Int32)), .int (y), .int ((3 : Int32))]) (rest := []) ⟨hx, hb, hml, hown, hts⟩ (tm_refused l E h v ((6 : Int32)) (y) ((3 : Int32)) ) (cwV 3 hts (lw_V q1790 q1792 qs27 q80 q1793) rfl rfl rfl (by decide +kernel) ⟨Nat.le_of_ble_eq_true rfl, Nat.le_of_ble_eq_true rfl⟩) (k_preVt hs hm hS) rfl rfl hl.1 rfl (lv_room (Nat.le_of_ble_eq_true rfl)) dX10_seedling_55 ⟨Nat.le_of_ble_eq_true rfl, Nat.le_of_ble_eq_true rfl⟩) hS (fun r_11 u_11 H9 locs hw_11 hm_11 hS => ?_)
          replace hw_11 : r_11 = (0 : Int32) ∧ u_11 = (T_refused v (6 : Int32) y (3 : Int32)).2 := hw_11
          obtain ⟨hr_11, hw_11⟩ := hw_11
          replace hr_11 := hr_11.symm
          subst hr_11
          replace hw_11 := hw_11.symm
          subst hw_11
          have hm := hm_11
          subst hr_5
          subst hr_3
          subst hr_1
          exact W.iret (v := _) hx hb hr (fun t9 ht9 _ => ⟨⟨_, _, rfl, pp ((if_neg c_2).trans ((if_neg c_4).trans ((if_neg c_6).trans ((if_neg c_7).trans (rfl))))), hb9 ht9 hm⟩, hS.F ht9⟩) hS.2.2 dX10_seedling_58
      · refine lv_aload_n hx hb dX10_seedling_37 rfl (lv_at hl 1 rfl) ?_
        refine lv_iconst (v := (5 : Int32)) hx hb dX10_seedling_38 (by decide) ?_
        refine lv_iload_n hx hb dX10_seedling_39 rfl (lv_at hl 3 rfl) ?_
        refine lv_iconst (v := (3 : Int32)) hx hb dX10_seedling_40 (by decide) ?_
        refine k_calli (va_runV (As := [.int ((5 : Int32)), .int (y), .int ((3 : Int32))]) (rest := []) ⟨hx, hb, hml, hown, hts⟩ (tm_refused l E h v ((5 : Int32)) (y) ((3 : Int32)) ) (cwV 3 hts (lw_V q1790 q1792 qs27 q80 q1793) rfl rfl rfl (by decide +kernel) ⟨Nat.le_of_ble_eq_true rfl, Nat.le_of_ble_eq_true rfl⟩) (k_preVt hs hm hS) rfl rfl hl.1 rfl (lv_room (Nat.le_of_ble_eq_true rfl)) dX10_seedling_41 ⟨Nat.le_of_ble_eq_true rfl, Nat.le_of_ble_eq_true rfl⟩) hS (fun r_12 u_12 H9 locs hw_12 hm_12 hS => ?_)
        replace hw_12 : r_12 = (0 : Int32) ∧ u_12 = (T_refused v (5 : Int32) y (3 : Int32)).2 := hw_12
        obtain ⟨hr_12, hw_12⟩ := hw_12
        replace hr_12 := hr_12.symm
        subst hr_12
        replace hw_12 := hw_12.symm
        subst hw_12
        have hm := hm_12
        subst hr_5
        subst hr_3
        subst hr_1
        exact W.iret (v := _) hx hb hr (fun t9 ht9 _ => ⟨⟨_, _, rfl, pp ((if_neg c_2).trans ((if_neg c_4).trans ((if_pos c_6).trans (rfl)))), hb9 ht9 hm⟩, hS.F ht9⟩) hS.2.2 dX10_seedling_44
    · refine lv_aload_n hx hb dX10_seedling_20 rfl (lv_at hl 0 rfl) ?_
      refine lv_iconst (v := (2 : Int32)) hx hb dX10_seedling_21 (by decide) ?_
      refine k_calli (va_runV (As := [.int ((2 : Int32))]) (rest := []) ⟨hx, hb, hml, hown, hts⟩ (tm_fails l E h v ((2 : Int32)) ) (cwV 1 hts (lw_V q1766 q1768 qs23 q80 q1769) rfl rfl rfl (by decide +kernel) ⟨Nat.le_of_ble_eq_true rfl, Nat.le_of_ble_eq_true rfl⟩) (k_preVt hs hm hS) rfl rfl hl.1 rfl (lv_room (Nat.le_of_ble_eq_true rfl)) dX10_seedling_22 ⟨Nat.le_of_ble_eq_true rfl, Nat.le_of_ble_eq_true rfl⟩) hS (fun r_13 u_13 H9 locs hw_13 hm_13 hS => ?_)
      replace hw_13 : r_13 = (0 : Int32) ∧ u_13 = (T_fails v (2 : Int32)).2 := hw_13
      obtain ⟨hr_13, hw_13⟩ := hw_13
      replace hr_13 := hr_13.symm
      subst hr_13
      replace hw_13 := hw_13.symm
      subst hw_13
      have hm := hm_13
      subst hr_3
      subst hr_1
      exact W.iret (v := _) hx hb hr (fun t9 ht9 _ => ⟨⟨_, _, rfl, pp ((if_neg c_2).trans ((if_pos c_4).trans (rfl))), hb9 ht9 hm⟩, hS.F ht9⟩) hS.2.2 dX10_seedling_25
  · refine lv_aload_n hx hb dX10_seedling_7 rfl (lv_at hl 0 rfl) ?_
    refine lv_iconst (v := (1 : Int32)) hx hb dX10_seedling_8 (by decide) ?_
    refine k_calli (va_runV (As := [.int ((1 : Int32))]) (rest := []) ⟨hx, hb, hml, hown, hts⟩ (tm_fails l E h v ((1 : Int32)) ) (cwV 1 hts (lw_V q1766 q1768 qs23 q80 q1769) rfl rfl rfl (by decide +kernel) ⟨Nat.le_of_ble_eq_true rfl, Nat.le_of_ble_eq_true rfl⟩) (k_preVt hs hm hS) rfl rfl hl.1 rfl (lv_room (Nat.le_of_ble_eq_true rfl)) dX10_seedling_9 ⟨Nat.le_of_ble_eq_true rfl, Nat.le_of_ble_eq_true rfl⟩) hS (fun r_14 u_14 H9 locs hw_14 hm_14 hS => ?_)
    replace hw_14 : r_14 = (0 : Int32) ∧ u_14 = (T_fails v (1 : Int32)).2 := hw_14
    obtain ⟨hr_14, hw_14⟩ := hw_14
    replace hr_14 := hr_14.symm
    subst hr_14
    replace hw_14 := hw_14.symm
    subst hw_14
    have hm := hm_14
    subst hr_1
    exact W.iret (v := _) hx hb hr (fun t9 ht9 _ => ⟨⟨_, _, rfl, pp ((if_pos c_2).trans (rfl)), hb9 ht9 hm⟩, hS.F ht9⟩) hS.2.2 dX10_seedling_12
def T_waits (v : tw) (x : Int32) (y : Int32) : Int32 × tw :=
  let r_1 := T_isPlace (x) (y);
  if r_1 = 0 then
    ((0 : Int32), (T_fails v (1 : Int32)).2)
  else
    if (t0 v ((((70 : Int32) + ((5 : Int32) * x)) + y)).toNatClampNeg) = 0 then
      ((0 : Int32), (T_fails v (2 : Int32)).2)
    else
      ((((t0 v ((0 : Int32)).toNatClampNeg) + (1 : Int32)) - (t0 v ((((70 : Int32) + ((5 : Int32) * x)) + y)).toNatClampNeg)), (u18 v (0 : Int32)))
set_option maxHeartbeats 4000000 in
theorem tm_waits (l : Launch) (E : mE) (h : Nat) (v : tw) (x : Int32) (y : Int32)  : Met l yX10_waits (ws_ yX10_waits cX10_waits 4 (some .int)) ({ frames := 3, cells := 0, slots := 0, locals := 63 }) (va_Pc [.ref h, .int x, .int y] (tP E h v)) (va_Qi (fun (r : Int32) (u : tw) => r = (T_waits v x y).1 ∧ u = (T_waits v x y).2) (fun u U => tW E h u U.heap) (eA E)) 0 0 (eA E) := by
  refine Met.ofW (cc := cX10_waits) (maxL := 4) (ret := (some .int)) (by decide) rfl ?_
  intro p e s m args below meth c s₁ B hml hv
  obtain ⟨rfl, hs, hm⟩ := hv
  have hx := B.exec
  have hb := B.bytes
  have hr := B.returns
  have hts := atoms_spec (ws := ws_ yX10_waits cX10_waits 4 (some .int)) B.pre
  have hts : ∀ w ∈ lw_all, w.before _ s = true := fun w h => hts w (List.mem_cons_of_mem _ h)
  have hown : s.vm.findClass RX10 = some m.cls := findClass_of_methodNamed B.named
  have hlocks := B.notSynchronized
  have hS : va_S (eA E) s.heap s.heap [] := va_S.rf
  have hl := lv_entry ([.ref h, .int x, .int y]) (n := 4) (Nat.le_of_ble_eq_true rfl)
  rw [lg_entry_eq]
  generalize (lg_sl ([.ref h, .int x, .int y]) ++ List.replicate (4 - (lg_sl ([.ref h, .int x, .int y])).length) Slot.unset).toArray = ls at hl ⊢
  have hl : lv_has ls 4 [(0, .ref (h)), (1, .int (x)), (2, .int (y))] := hl
  refine lv_iload_n hx hb dX10_waits_0 rfl (lv_at hl 1 rfl) ?_
  refine lv_iload_n hx hb dX10_waits_1 rfl (lv_at hl 2 rfl) ?_
  refine k_calli (va_runS (As := [.int (x), .int (y)]) (rest := []) ⟨hx, hb, hml, hown, hts⟩ (tm_isPlace l E (x) (y) _) (va_cwS 2 hts (lw_S q1907 q1908 q80 q1909) rfl rfl rfl (by decide +kernel) ⟨Nat.le_of_ble_eq_true rfl, Nat.le_of_ble_eq_true rfl⟩) (k_pure hs hS) rfl rfl hl.1 rfl (lv_room (Nat.le_of_ble_eq_true rfl)) dX10_waits_2 ⟨Nat.le_of_ble_eq_true rfl, Nat.le_of_ble_eq_true rfl⟩) hS (fun r_1 u_1 H9 locs hw_1 hm_1 hS => ?_)
  replace hm_1 : _ = H9 := Eq.symm hm_1
  subst hm_1
  have hr_1 := hw_1
  refine lv_if_ne (tgt := 14) hx hb dX10_waits_5 (by decide) (fun c_2 => ?_) (fun c_2 => ?_)
  · have hp := place_ix hr_1 c_2
    refine lv_aload_n hx hb dX10_waits_14 rfl (lv_at hl 0 rfl) ?_
    refine tg_0 hx hb hts hown hs hm (hts _ q1674) dX10_waits_15 ?_
    refine lv_bipush (v := (70 : Int32)) hx hb dX10_waits_18 (by decide) ?_
    refine lv_iconst (v := (5 : Int32)) hx hb dX10_waits_20 (by decide) ?_
    refine lv_iload_n hx hb dX10_waits_21 rfl (lv_at hl 1 rfl) ?_
    refine lv_imul hx hb dX10_waits_22 ?_
    refine lv_iadd hx hb dX10_waits_23 ?_
    refine lv_iload_n hx hb dX10_waits_24 rfl (lv_at hl 2 rfl) ?_
    refine lv_iadd hx hb dX10_waits_25 ?_
    refine tl_0 hx hb hs hm (ix.two 70 5 112 (hp.1) (hp.2) (by decide) (by decide)) dX10_waits_26 ?_
    refine lv_istore_n (lv' := [(3, _), (0, _), (1, _), (2, _)]) hx hb dX10_waits_27 rfl hl (by decide) rfl (fun ls hl => ?_)
    refine lv_iload_n hx hb dX10_waits_28 rfl (lv_at hl 0 rfl) ?_
    refine lv_if_ne (tgt := 40) hx hb dX10_waits_29 (by decide) (fun c_3 => ?_) (fun c_3 => ?_)
    · refine lv_aload_n hx hb dX10_waits_40 rfl (lv_at hl 1 rfl) ?_
      refine lv_aload_n hx hb dX10_waits_41 rfl (lv_at hl 1 rfl) ?_
      refine tg_0 hx hb hts hown hs hm (hts _ q1674) dX10_waits_42 ?_
      refine lv_iconst (v := (0 : Int32)) hx hb dX10_waits_45 (by decide) ?_
      refine tl_0 hx hb hs hm (vi 0 (by decide) (by decide)) dX10_waits_46 ?_
      refine lv_iconst (v := (1 : Int32)) hx hb dX10_waits_47 (by decide) ?_
      refine lv_iadd hx hb dX10_waits_48 ?_
      refine lv_iload_n hx hb dX10_waits_49 rfl (lv_at hl 0 rfl) ?_
      refine lv_isub hx hb dX10_waits_50 ?_
      refine k_calli (va_runV (As := [.int ((((t0 v ((0 : Int32)).toNatClampNeg) + (1 : Int32)) - (t0 v ((((70 : Int32) + ((5 : Int32) * x)) + y)).toNatClampNeg)))]) (rest := []) ⟨hx, hb, hml, hown, hts⟩ (tm_done l E h v ((((t0 v ((0 : Int32)).toNatClampNeg) + (1 : Int32)) - (t0 v ((((70 : Int32) + ((5 : Int32) * x)) + y)).toNatClampNeg))) ) (cwV 1 hts (lw_V q1770 q1772 qs24 q80 q1773) rfl rfl rfl (by decide +kernel) ⟨Nat.le_of_ble_eq_true rfl, Nat.le_of_ble_eq_true rfl⟩) (k_preVt hs hm hS) rfl rfl hl.1 rfl (lv_room (Nat.le_of_ble_eq_true rfl)) dX10_waits_51 ⟨Nat.le_of_ble_eq_true rfl, Nat.le_of_ble_eq_true rfl⟩) hS (fun r_4 u_4 H9 locs hw_4 hm_4 hS => ?_)
      replace hw_4 : r_4 = (((t0 v ((0 : Int32)).toNatClampNeg) + (1 : Int32)) - (t0 v ((((70 : Int32) + ((5 : Int32) * x)) + y)).toNatClampNeg)) ∧ u_4 = (u18 v (0 : Int32)) := hw_4
      obtain ⟨hr_4, hw_4⟩ := hw_4
      replace hr_4 := hr_4.symm
      subst hr_4
      replace hw_4 := hw_4.symm
      subst hw_4
      have hm := hm_4
      subst hr_1
      exact W.iret (v := _) hx hb hr (fun t9 ht9 _ => ⟨⟨_, _, rfl, pp ((if_neg c_2).trans ((if_neg c_3).trans (rfl))), hb9 ht9 hm⟩, hS.F ht9⟩) hS.2.2 dX10_waits_54
    · refine lv_aload_n hx hb dX10_waits_32 rfl (lv_at hl 1 rfl) ?_
      refine lv_iconst (v := (2 : Int32)) hx hb dX10_waits_33 (by decide) ?_
      refine k_calli (va_runV (As := [.int ((2 : Int32))]) (rest := []) ⟨hx, hb, hml, hown, hts⟩ (tm_fails l E h v ((2 : Int32)) ) (cwV 1 hts (lw_V q1766 q1768 qs23 q80 q1769) rfl rfl rfl (by decide +kernel) ⟨Nat.le_of_ble_eq_true rfl, Nat.le_of_ble_eq_true rfl⟩) (k_preVt hs hm hS) rfl rfl hl.1 rfl (lv_room (Nat.le_of_ble_eq_true rfl)) dX10_waits_34 ⟨Nat.le_of_ble_eq_true rfl, Nat.le_of_ble_eq_true rfl⟩) hS (fun r_5 u_5 H9 locs hw_5 hm_5 hS => ?_)
      replace hw_5 : r_5 = (0 : Int32) ∧ u_5 = (T_fails v (2 : Int32)).2 := hw_5
      obtain ⟨hr_5, hw_5⟩ := hw_5
      replace hr_5 := hr_5.symm
      subst hr_5
      replace hw_5 := hw_5.symm
      subst hw_5
      have hm := hm_5
      refine lv_goto (tgt := 54) hx hb dX10_waits_37 (by decide) ?_
      subst hr_1
      exact W.iret (v := _) hx hb hr (fun t9 ht9 _ => ⟨⟨_, _, rfl, pp ((if_neg c_2).trans ((if_pos c_3).trans (rfl))), hb9 ht9 hm⟩, hS.F ht9⟩) hS.2.2 dX10_waits_54
  · refine lv_aload_n hx hb dX10_waits_8 rfl (lv_at hl 0 rfl) ?_
    refine lv_iconst (v := (1 : Int32)) hx hb dX10_waits_9 (by decide) ?_
    refine k_calli (va_runV (As := [.int ((1 : Int32))]) (rest := []) ⟨hx, hb, hml, hown, hts⟩ (tm_fails l E h v ((1 : Int32)) ) (cwV 1 hts (lw_V q1766 q1768 qs23 q80 q1769) rfl rfl rfl (by decide +kernel) ⟨Nat.le_of_ble_eq_true rfl, Nat.le_of_ble_eq_true rfl⟩) (k_preVt hs hm hS) rfl rfl hl.1 rfl (lv_room (Nat.le_of_ble_eq_true rfl)) dX10_waits_10 ⟨Nat.le_of_ble_eq_true rfl, Nat.le_of_ble_eq_true rfl⟩) hS (fun r_6 u_6 H9 locs hw_6 hm_6 hS => ?_)
    replace hw_6 : r_6 = (0 : Int32) ∧ u_6 = (T_fails v (1 : Int32)).2 := hw_6
    obtain ⟨hr_6, hw_6⟩ := hw_6
    replace hr_6 := hr_6.symm
    subst hr_6
    replace hw_6 := hw_6.symm
    subst hw_6
    have hm := hm_6
    subst hr_1
    exact W.iret (v := _) hx hb hr (fun t9 ht9 _ => ⟨⟨_, _, rfl, pp ((if_pos c_2).trans (rfl)), hb9 ht9 hm⟩, hS.F ht9⟩) hS.2.2 dX10_waits_13
def T_plant (v : tw) (x : Int32) (y : Int32) (z : Int32) : Int32 × tw :=
  let r_1 := T_isMember v (x);
  if r_1 = 0 then
    ((0 : Int32), (T_fails v (1 : Int32)).2)
  else
    let r_4 := T_isPlace (y) (z);
    if r_4 = 0 then
      ((0 : Int32), (T_fails v (1 : Int32)).2)
    else
      if (t0 v ((((70 : Int32) + ((5 : Int32) * y)) + z)).toNatClampNeg) = 0 then
        ((0 : Int32), (T_fails v (2 : Int32)).2)
      else
        if (t0 v (((52 : Int32) + x)).toNatClampNeg) = (-1 : Int32) then
          ((0 : Int32), (T_refused v (4 : Int32) x (3 : Int32)).2)
        else
          if (t0 v (((27 : Int32) + (t0 v (((52 : Int32) + x)).toNatClampNeg))).toNatClampNeg) = (-1 : Int32) then
            let x11 := if y = 0 then FP.fconst1 else (1056964608 : UInt32);
            let r_13 := (T_kept (u18 (u1 (u0 (T_looksBack v) (upd (upd (upd (t0 v) ((((70 : Int32) + ((5 : Int32) * y)) + z)).toNatClampNeg (0 : Int32)) (((27 : Int32) + (t0 v (((52 : Int32) + x)).toNatClampNeg))).toNatClampNeg y) (((39 : Int32) + (t0 v (((52 : Int32) + x)).toNatClampNeg))).toNatClampNeg ((upd (upd (t0 v) ((((70 : Int32) + ((5 : Int32) * y)) + z)).toNatClampNeg (0 : Int32)) (((27 : Int32) + (t0 v (((52 : Int32) + x)).toNatClampNeg))).toNatClampNeg y) ((0 : Int32)).toNatClampNeg))) (vf_upd (t1 v) (((12 : Int32) + (t0 v (((52 : Int32) + x)).toNatClampNeg))).toNatClampNeg x11)) (0 : Int32)) ((t0 v (((52 : Int32) + x)).toNatClampNeg))).1;
            let u_13 := (T_kept (u18 (u1 (u0 (T_looksBack v) (upd (upd (upd (t0 v) ((((70 : Int32) + ((5 : Int32) * y)) + z)).toNatClampNeg (0 : Int32)) (((27 : Int32) + (t0 v (((52 : Int32) + x)).toNatClampNeg))).toNatClampNeg y) (((39 : Int32) + (t0 v (((52 : Int32) + x)).toNatClampNeg))).toNatClampNeg ((upd (upd (t0 v) ((((70 : Int32) + ((5 : Int32) * y)) + z)).toNatClampNeg (0 : Int32)) (((27 : Int32) + (t0 v (((52 : Int32) + x)).toNatClampNeg))).toNatClampNeg y) ((0 : Int32)).toNatClampNeg))) (vf_upd (t1 v) (((12 : Int32) + (t0 v (((52 : Int32) + x)).toNatClampNeg))).toNatClampNeg x11)) (0 : Int32)) ((t0 v (((52 : Int32) + x)).toNatClampNeg))).2;
            (r_13, u_13)
          else
            ((0 : Int32), (T_refused v (7 : Int32) (t0 v (((27 : Int32) + (t0 v (((52 : Int32) + x)).toNatClampNeg))).toNatClampNeg) (3 : Int32)).2)
set_option maxHeartbeats 4000000 in
theorem tm_plant (l : Launch) (E : mE) (h : Nat) (v : tw) (x : Int32) (y : Int32) (z : Int32) (hw : wf (t0 v) (t1 v)) (h9 : ix 9 (t6 v)) : Met l yX10_plant (ws_ yX10_plant cX10_plant 5 (some .int)) ({ frames := 3, cells := 0, slots := 0, locals := 63 }) (va_Pc [.ref h, .int x, .int y, .int z] (tP E h v)) (va_Qi (fun (r : Int32) (u : tw) => r = (T_plant v x y z).1 ∧ u = (T_plant v x y z).2) (fun u U => tW E h u U.heap) (eA E)) 0 0 (eA E) := by
  refine Met.ofW (cc := cX10_plant) (maxL := 5) (ret := (some .int)) (by decide) rfl ?_
  intro p e s m args below meth c s₁ B hml hv
  obtain ⟨rfl, hs, hm⟩ := hv
  have hx := B.exec
  have hb := B.bytes
  have hr := B.returns
  have hts := atoms_spec (ws := ws_ yX10_plant cX10_plant 5 (some .int)) B.pre
  have hts : ∀ w ∈ lw_all, w.before _ s = true := fun w h => hts w (List.mem_cons_of_mem _ h)
  have hown : s.vm.findClass RX10 = some m.cls := findClass_of_methodNamed B.named
  have hlocks := B.notSynchronized
  have hS : va_S (eA E) s.heap s.heap [] := va_S.rf
  have hl := lv_entry ([.ref h, .int x, .int y, .int z]) (n := 5) (Nat.le_of_ble_eq_true rfl)
  rw [lg_entry_eq]
  generalize (lg_sl ([.ref h, .int x, .int y, .int z]) ++ List.replicate (5 - (lg_sl ([.ref h, .int x, .int y, .int z])).length) Slot.unset).toArray = ls at hl ⊢
  have hl : lv_has ls 5 [(0, .ref (h)), (1, .int (x)), (2, .int (y)), (3, .int (z))] := hl
  refine lv_aload_n hx hb dX10_plant_0 rfl (lv_at hl 0 rfl) ?_
  refine lv_iload_n hx hb dX10_plant_1 rfl (lv_at hl 1 rfl) ?_
  refine k_calli (va_runV (As := [.int (x)]) (rest := []) ⟨hx, hb, hml, hown, hts⟩ (tm_isMember l E h v (x) ) (cwV 1 hts (lw_V q1802 q1804 qs29 q80 q1805) rfl rfl rfl (by decide +kernel) ⟨Nat.le_of_ble_eq_true rfl, Nat.le_of_ble_eq_true rfl⟩) (k_preVt hs hm hS) rfl rfl hl.1 rfl (lv_room (Nat.le_of_ble_eq_true rfl)) dX10_plant_2 ⟨Nat.le_of_ble_eq_true rfl, Nat.le_of_ble_eq_true rfl⟩) hS (fun r_1 u_1 H9 locs hw_1 hm_1 hS => ?_)
  obtain ⟨hr_1, hu_1⟩ := hw_1
  replace hu_1 := hu_1.symm
  subst hu_1
  have hm := hm_1
  refine lv_if_eq (tgt := 16) hx hb dX10_plant_5 (by decide) (fun c_2 => ?_) (fun c_2 => ?_)
  · refine lv_aload_n hx hb dX10_plant_16 rfl (lv_at hl 0 rfl) ?_
    refine lv_iconst (v := (1 : Int32)) hx hb dX10_plant_17 (by decide) ?_
    refine k_calli (va_runV (As := [.int ((1 : Int32))]) (rest := []) ⟨hx, hb, hml, hown, hts⟩ (tm_fails l E h v ((1 : Int32)) ) (cwV 1 hts (lw_V q1766 q1768 qs23 q80 q1769) rfl rfl rfl (by decide +kernel) ⟨Nat.le_of_ble_eq_true rfl, Nat.le_of_ble_eq_true rfl⟩) (k_preVt hs hm hS) rfl rfl hl.1 rfl (lv_room (Nat.le_of_ble_eq_true rfl)) dX10_plant_18 ⟨Nat.le_of_ble_eq_true rfl, Nat.le_of_ble_eq_true rfl⟩) hS (fun r_3 u_3 H9 locs hw_3 hm_3 hS => ?_)
    replace hw_3 : r_3 = (0 : Int32) ∧ u_3 = (T_fails v (1 : Int32)).2 := hw_3
    obtain ⟨hr_3, hw_3⟩ := hw_3
    replace hr_3 := hr_3.symm
    subst hr_3
    replace hw_3 := hw_3.symm
    subst hw_3
    have hm := hm_3
    subst hr_1
    exact W.iret (v := _) hx hb hr (fun t9 ht9 _ => ⟨⟨_, _, rfl, pp ((if_pos c_2).trans (rfl)), hb9 ht9 hm⟩, hS.F ht9⟩) hS.2.2 dX10_plant_21
  · refine lv_iload_n hx hb dX10_plant_8 rfl (lv_at hl 2 rfl) ?_
    refine lv_iload_n hx hb dX10_plant_9 rfl (lv_at hl 3 rfl) ?_
    refine k_calli (va_runS (As := [.int (y), .int (z)]) (rest := []) ⟨hx, hb, hml, hown, hts⟩ (tm_isPlace l E (y) (z) _) (va_cwS 2 hts (lw_S q1907 q1908 q80 q1909) rfl rfl rfl (by decide +kernel) ⟨Nat.le_of_ble_eq_true rfl, Nat.le_of_ble_eq_true rfl⟩) (k_pure hs hS) rfl rfl hl.1 rfl (lv_room (Nat.le_of_ble_eq_true rfl)) dX10_plant_10 ⟨Nat.le_of_ble_eq_true rfl, Nat.le_of_ble_eq_true rfl⟩) hS (fun r_4 u_4 H9 locs hw_4 hm_4 hS => ?_)
    replace hm_4 : _ = H9 := Eq.symm hm_4
    subst hm_4
    have hr_4 := hw_4
    refine lv_if_ne (tgt := 22) hx hb dX10_plant_13 (by decide) (fun c_5 => ?_) (fun c_5 => ?_)
    · have hx6 := mem_ix hr_1 c_2 hw
      have hp := place_ix hr_4 c_5
      refine lv_aload_n hx hb dX10_plant_22 rfl (lv_at hl 0 rfl) ?_
      refine tg_0 hx hb hts hown hs hm (hts _ q1674) dX10_plant_23 ?_
      refine lv_bipush (v := (70 : Int32)) hx hb dX10_plant_26 (by decide) ?_
      refine lv_iconst (v := (5 : Int32)) hx hb dX10_plant_28 (by decide) ?_
      refine lv_iload_n hx hb dX10_plant_29 rfl (lv_at hl 2 rfl) ?_
      refine lv_imul hx hb dX10_plant_30 ?_
      refine lv_iadd hx hb dX10_plant_31 ?_
      refine lv_iload_n hx hb dX10_plant_32 rfl (lv_at hl 3 rfl) ?_
      refine lv_iadd hx hb dX10_plant_33 ?_
      refine tl_0 hx hb hs hm (ix.two 70 5 112 (hp.1) (hp.2) (by decide) (by decide)) dX10_plant_34 ?_
      refine lv_if_ne (tgt := 44) hx hb dX10_plant_35 (by decide) (fun c_6 => ?_) (fun c_6 => ?_)
      · refine lv_aload_n hx hb dX10_plant_44 rfl (lv_at hl 0 rfl) ?_
        refine tg_0 hx hb hts hown hs hm (hts _ q1674) dX10_plant_45 ?_
        refine lv_bipush (v := (52 : Int32)) hx hb dX10_plant_48 (by decide) ?_
        refine lv_iload_n hx hb dX10_plant_50 rfl (lv_at hl 1 rfl) ?_
        refine lv_iadd hx hb dX10_plant_51 ?_
        refine tl_0 hx hb hs hm (ix.add 52 112 (hx6) (by decide) (by decide)) dX10_plant_52 ?_
        refine lv_istore (lv' := [(4, _), (0, _), (1, _), (2, _), (3, _)]) hx hb dX10_plant_53 hl (by decide) rfl (fun ls hl => ?_)
        refine lv_iload hx hb dX10_plant_55 (lv_at hl 0 rfl) ?_
        refine lv_iconst (v := (-1 : Int32)) hx hb dX10_plant_57 (by decide) ?_
        refine lv_icmp_ne (tgt := 69) hx hb dX10_plant_58 (by decide) (fun c_7 => ?_) (fun c_7 => ?_)
        · have hp12 := hw.plot hx6 c_7
          refine lv_aload_n hx hb dX10_plant_69 rfl (lv_at hl 1 rfl) ?_
          refine tg_0 hx hb hts hown hs hm (hts _ q1674) dX10_plant_70 ?_
          refine lv_bipush (v := (27 : Int32)) hx hb dX10_plant_73 (by decide) ?_
          refine lv_iload hx hb dX10_plant_75 (lv_at hl 0 rfl) ?_
          refine lv_iadd hx hb dX10_plant_77 ?_
          refine tl_0 hx hb hs hm (ix.add 27 112 (hp12) (by decide) (by decide)) dX10_plant_78 ?_
          refine lv_iconst (v := (-1 : Int32)) hx hb dX10_plant_79 (by decide) ?_
          refine lv_icmp_eq (tgt := 101) hx hb dX10_plant_80 (by decide) (fun c_8 => ?_) (fun c_8 => ?_)
          · refine lv_aload_n hx hb dX10_plant_101 rfl (lv_at hl 1 rfl) ?_
            refine k_callv (va_runV (As := []) (rest := []) ⟨hx, hb, hml, hown, hts⟩ (tm_looksBack l E h v  ) (cwV 0 hts (lw_V q1749 q1751 qs21 q80 q1752) rfl rfl rfl (by decide +kernel) ⟨Nat.le_of_ble_eq_true rfl, Nat.le_of_ble_eq_true rfl⟩) (k_preVt hs hm hS) rfl rfl hl.1 rfl (lv_room (Nat.le_of_ble_eq_true rfl)) dX10_plant_102 ⟨Nat.le_of_ble_eq_true rfl, Nat.le_of_ble_eq_true rfl⟩) hS (fun u_9 H9 locs hw_9 hm_9 hS => ?_)
            replace hw_9 : u_9 = (T_looksBack v) := hw_9
            replace hw_9 := hw_9.symm
            subst hw_9
            have hm := hm_9
            refine lv_aload_n hx hb dX10_plant_105 rfl (lv_at hl 1 rfl) ?_
            refine tg_0 hx hb hts hown hs hm (hts _ q1674) dX10_plant_106 ?_
            refine lv_bipush (v := (70 : Int32)) hx hb dX10_plant_109 (by decide) ?_
            refine lv_iconst (v := (5 : Int32)) hx hb dX10_plant_111 (by decide) ?_
            refine lv_iload_n hx hb dX10_plant_112 rfl (lv_at hl 3 rfl) ?_
            refine lv_imul hx hb dX10_plant_113 ?_
            refine lv_iadd hx hb dX10_plant_114 ?_
            refine lv_iload_n hx hb dX10_plant_115 rfl (lv_at hl 4 rfl) ?_
            refine lv_iadd hx hb dX10_plant_116 ?_
            refine lv_iconst (v := (0 : Int32)) hx hb dX10_plant_117 (by decide) ?_
            refine ts_0 hx hb hs hm hS (ix.two 70 5 112 (hp.1) (hp.2) (by decide) (by decide)) dX10_plant_118 (fun H locs hm hS => ?_)
            have hm : tW E h (u0 (T_looksBack v) (upd (t0 v) ((((70 : Int32) + ((5 : Int32) * y)) + z)).toNatClampNeg (0 : Int32))) H := hm
            refine lv_aload_n hx hb dX10_plant_119 rfl (lv_at hl 1 rfl) ?_
            refine tg_0 hx hb hts hown hs hm (hts _ q1674) dX10_plant_120 ?_
            refine lv_bipush (v := (27 : Int32)) hx hb dX10_plant_123 (by decide) ?_
            refine lv_iload hx hb dX10_plant_125 (lv_at hl 0 rfl) ?_
            refine lv_iadd hx hb dX10_plant_127 ?_
            refine lv_iload_n hx hb dX10_plant_128 rfl (lv_at hl 3 rfl) ?_
            refine ts_0 hx hb hs hm hS (ix.add 27 112 (hp12) (by decide) (by decide)) dX10_plant_129 (fun H locs hm hS => ?_)
            have hm : tW E h (u0 (T_looksBack v) (upd (upd (t0 v) ((((70 : Int32) + ((5 : Int32) * y)) + z)).toNatClampNeg (0 : Int32)) (((27 : Int32) + (t0 v (((52 : Int32) + x)).toNatClampNeg))).toNatClampNeg y)) H := hm
            refine lv_aload_n hx hb dX10_plant_130 rfl (lv_at hl 1 rfl) ?_
            refine tg_0 hx hb hts hown hs hm (hts _ q1674) dX10_plant_131 ?_
            refine lv_bipush (v := (39 : Int32)) hx hb dX10_plant_134 (by decide) ?_
            refine lv_iload hx hb dX10_plant_136 (lv_at hl 0 rfl) ?_
            refine lv_iadd hx hb dX10_plant_138 ?_
            refine lv_aload_n hx hb dX10_plant_139 rfl (lv_at hl 1 rfl) ?_
            refine tg_0 hx hb hts hown hs hm (hts _ q1674) dX10_plant_140 ?_
            refine lv_iconst (v := (0 : Int32)) hx hb dX10_plant_143 (by decide) ?_
            refine tl_0 hx hb hs hm (vi 0 (by decide) (by decide)) dX10_plant_144 ?_
            refine ts_0 hx hb hs hm hS (ix.add 39 112 (hp12) (by decide) (by decide)) dX10_plant_145 (fun H locs hm hS => ?_)
            have hm : tW E h (u0 (T_looksBack v) (upd (upd (upd (t0 v) ((((70 : Int32) + ((5 : Int32) * y)) + z)).toNatClampNeg (0 : Int32)) (((27 : Int32) + (t0 v (((52 : Int32) + x)).toNatClampNeg))).toNatClampNeg y) (((39 : Int32) + (t0 v (((52 : Int32) + x)).toNatClampNeg))).toNatClampNeg ((upd (upd (t0 v) ((((70 : Int32) + ((5 : Int32) * y)) + z)).toNatClampNeg (0 : Int32)) (((27 : Int32) + (t0 v (((52 : Int32) + x)).toNatClampNeg))).toNatClampNeg y) ((0 : Int32)).toNatClampNeg))) H := hm
            refine lv_aload_n hx hb dX10_plant_146 rfl (lv_at hl 1 rfl) ?_
            refine tg_1 hx hb hts hown hs hm (hts _ q1675) dX10_plant_147 ?_
            refine lv_bipush (v := (12 : Int32)) hx hb dX10_plant_150 (by decide) ?_
            refine lv_iload hx hb dX10_plant_152 (lv_at hl 0 rfl) ?_
            refine lv_iadd hx hb dX10_plant_154 ?_
            refine lv_iload_n hx hb dX10_plant_155 rfl (lv_at hl 3 rfl) ?_
            refine k_join (fun (x11 : UInt32) H locs ls => x11 = (if y = 0 then FP.fconst1 else (1056964608 : UInt32)) ∧ tW E h ((u0 (T_looksBack v) (upd (upd (upd (t0 v) ((((70 : Int32) + ((5 : Int32) * y)) + z)).toNatClampNeg (0 : Int32)) (((27 : Int32) + (t0 v (((52 : Int32) + x)).toNatClampNeg))).toNatClampNeg y) (((39 : Int32) + (t0 v (((52 : Int32) + x)).toNatClampNeg))).toNatClampNeg ((upd (upd (t0 v) ((((70 : Int32) + ((5 : Int32) * y)) + z)).toNatClampNeg (0 : Int32)) (((27 : Int32) + (t0 v (((52 : Int32) + x)).toNatClampNeg))).toNatClampNeg y) ((0 : Int32)).toNatClampNeg)))) H ∧ va_S (eA E) s.heap H locs ∧ lv_has ls 5 [(4, .int ((t0 v (((52 : Int32) + x)).toNatClampNeg))), (0, .ref (h)), (1, .int (x)), (2, .int (y)), (3, .int (z))]) (fun (x11 : UInt32) ls => F0 m 165 ls [.float (x11), .int (((12 : Int32) + (t0 v (((52 : Int32) + x)).toNatClampNeg))), .ref (h + 2)]) (fun x11 H locs ls hJ => ?_) (fun J11 => ?_)
            · obtain ⟨hX11, hm, hS, hl⟩ := hJ
              refine ts_1 hx hb hs hm hS (ix.add 12 33 (hp12) (by decide) (by decide)) dX10_plant_165 (fun H locs hm hS => ?_)
              have hm : tW E h (u1 (u0 (T_looksBack v) (upd (upd (upd (t0 v) ((((70 : Int32) + ((5 : Int32) * y)) + z)).toNatClampNeg (0 : Int32)) (((27 : Int32) + (t0 v (((52 : Int32) + x)).toNatClampNeg))).toNatClampNeg y) (((39 : Int32) + (t0 v (((52 : Int32) + x)).toNatClampNeg))).toNatClampNeg ((upd (upd (t0 v) ((((70 : Int32) + ((5 : Int32) * y)) + z)).toNatClampNeg (0 : Int32)) (((27 : Int32) + (t0 v (((52 : Int32) + x)).toNatClampNeg))).toNatClampNeg y) ((0 : Int32)).toNatClampNeg))) (vf_upd (t1 v) (((12 : Int32) + (t0 v (((52 : Int32) + x)).toNatClampNeg))).toNatClampNeg x11)) H := hm
              refine lv_aload_n hx hb dX10_plant_166 rfl (lv_at hl 1 rfl) ?_
              refine lv_aload_n hx hb dX10_plant_167 rfl (lv_at hl 1 rfl) ?_
              refine lv_iload hx hb dX10_plant_168 (lv_at hl 0 rfl) ?_
              refine k_calli (va_runV (As := [.int ((t0 v (((52 : Int32) + x)).toNatClampNeg))]) (rest := [.ref (h)]) ⟨hx, hb, hml, hown, hts⟩ (tm_done l E h (u1 (u0 (T_looksBack v) (upd (upd (upd (t0 v) ((((70 : Int32) + ((5 : Int32) * y)) + z)).toNatClampNeg (0 : Int32)) (((27 : Int32) + (t0 v (((52 : Int32) + x)).toNatClampNeg))).toNatClampNeg y) (((39 : Int32) + (t0 v (((52 : Int32) + x)).toNatClampNeg))).toNatClampNeg ((upd (upd (t0 v) ((((70 : Int32) + ((5 : Int32) * y)) + z)).toNatClampNeg (0 : Int32)) (((27 : Int32) + (t0 v (((52 : Int32) + x)).toNatClampNeg))).toNatClampNeg y) ((0 : Int32)).toNatClampNeg))) (vf_upd (t1 v) (((12 : Int32) + (t0 v (((52 : Int32) + x)).toNatClampNeg))).toNatClampNeg x11)) ((t0 v (((52 : Int32) + x)).toNatClampNeg)) ) (cwV 1 hts (lw_V q1770 q1772 qs24 q80 q1773) rfl rfl rfl (by decide +kernel) ⟨Nat.le_of_ble_eq_true rfl, Nat.le_of_ble_eq_true rfl⟩) (k_preVt hs hm hS) rfl rfl hl.1 rfl (lv_room (Nat.le_of_ble_eq_true rfl)) dX10_plant_170 ⟨Nat.le_of_ble_eq_true rfl, Nat.le_of_ble_eq_true rfl⟩) hS (fun r_12 u_12 H9 locs hw_12 hm_12 hS => ?_)
              replace hw_12 : r_12 = (t0 v (((52 : Int32) + x)).toNatClampNeg) ∧ u_12 = (u18 (u1 (u0 (T_looksBack v) (upd (upd (upd (t0 v) ((((70 : Int32) + ((5 : Int32) * y)) + z)).toNatClampNeg (0 : Int32)) (((27 : Int32) + (t0 v (((52 : Int32) + x)).toNatClampNeg))).toNatClampNeg y) (((39 : Int32) + (t0 v (((52 : Int32) + x)).toNatClampNeg))).toNatClampNeg ((upd (upd (t0 v) ((((70 : Int32) + ((5 : Int32) * y)) + z)).toNatClampNeg (0 : Int32)) (((27 : Int32) + (t0 v (((52 : Int32) + x)).toNatClampNeg))).toNatClampNeg y) ((0 : Int32)).toNatClampNeg))) (vf_upd (t1 v) (((12 : Int32) + (t0 v (((52 : Int32) + x)).toNatClampNeg))).toNatClampNeg x11)) (0 : Int32)) := hw_12
              obtain ⟨hr_12, hw_12⟩ := hw_12
              replace hr_12 := hr_12.symm
              subst hr_12
              replace hw_12 := hw_12.symm
              subst hw_12
              have hm := hm_12
              refine k_calli (va_runV (As := [.int ((t0 v (((52 : Int32) + x)).toNatClampNeg))]) (rest := []) ⟨hx, hb, hml, hown, hts⟩ (tm_kept l E h (u18 (u1 (u0 (T_looksBack v) (upd (upd (upd (t0 v) ((((70 : Int32) + ((5 : Int32) * y)) + z)).toNatClampNeg (0 : Int32)) (((27 : Int32) + (t0 v (((52 : Int32) + x)).toNatClampNeg))).toNatClampNeg y) (((39 : Int32) + (t0 v (((52 : Int32) + x)).toNatClampNeg))).toNatClampNeg ((upd (upd (t0 v) ((((70 : Int32) + ((5 : Int32) * y)) + z)).toNatClampNeg (0 : Int32)) (((27 : Int32) + (t0 v (((52 : Int32) + x)).toNatClampNeg))).toNatClampNeg y) ((0 : Int32)).toNatClampNeg))) (vf_upd (t1 v) (((12 : Int32) + (t0 v (((52 : Int32) + x)).toNatClampNeg))).toNatClampNeg x11)) (0 : Int32)) ((t0 v (((52 : Int32) + x)).toNatClampNeg)) (i9_u18 (i9_u1 (i9_u0 (i9_looksBack h9))))) (cwV 1 hts (lw_V q1774 q1776 qs25 q80 q1777) rfl rfl rfl (by decide +kernel) ⟨Nat.le_of_ble_eq_true rfl, Nat.le_of_ble_eq_true rfl⟩) (k_preVt hs hm hS) rfl rfl hl.1 rfl (lv_room (Nat.le_of_ble_eq_true rfl)) dX10_plant_173 ⟨Nat.le_of_ble_eq_true rfl, Nat.le_of_ble_eq_true rfl⟩) hS (fun r_13 u_13 H9 locs hw_13 hm_13 hS => ?_)
              obtain ⟨hr_13, hu_13⟩ := hw_13
              have hm := hm_13
              subst hu_13
              subst hr_13
              subst hX11
              subst hr_4
              subst hr_1
              exact W.iret (v := _) hx hb hr (fun t9 ht9 _ => ⟨⟨_, _, rfl, pp ((if_neg c_2).trans ((if_neg c_5).trans ((if_neg c_6).trans ((if_neg c_7).trans ((if_pos c_8).trans (rfl)))))), hb9 ht9 hm⟩, hS.F ht9⟩) hS.2.2 dX10_plant_176
            · refine lv_if_ne (tgt := 163) hx hb dX10_plant_156 (by decide) (fun c_10 => ?_) (fun c_10 => ?_)
              · refine lv_ldcf (v := 1056964608) hx hb hown (hts _ q1850) dX10_plant_163 ?_
                exact J11 ((1056964608 : UInt32)) _ _ _ ⟨((if_neg c_10).trans (rfl)).symm, hm, hS, lv_sub hl [0, 1, 2, 3, 4] rfl⟩
              · refine lv_fconst1 hx hb dX10_plant_159 ?_
                refine lv_goto (tgt := 165) hx hb dX10_plant_160 (by decide) ?_
                exact J11 (FP.fconst1) _ _ _ ⟨((if_pos c_10).trans (rfl)).symm, hm, hS, lv_sub hl [0, 1, 2, 3, 4] rfl⟩
          · refine lv_aload_n hx hb dX10_plant_83 rfl (lv_at hl 1 rfl) ?_
            refine lv_bipush (v := (7 : Int32)) hx hb dX10_plant_84 (by decide) ?_
            refine lv_aload_n hx hb dX10_plant_86 rfl (lv_at hl 1 rfl) ?_
            refine tg_0 hx hb hts hown hs hm (hts _ q1674) dX10_plant_87 ?_
            refine lv_bipush (v := (27 : Int32)) hx hb dX10_plant_90 (by decide) ?_
            refine lv_iload hx hb dX10_plant_92 (lv_at hl 0 rfl) ?_
            refine lv_iadd hx hb dX10_plant_94 ?_
            refine tl_0 hx hb hs hm (ix.add 27 112 (hp12) (by decide) (by decide)) dX10_plant_95 ?_
            refine lv_iconst (v := (3 : Int32)) hx hb dX10_plant_96 (by decide) ?_
            refine k_calli (va_runV (As := [.int ((7 : Int32)), .int ((t0 v (((27 : Int32) + (t0 v (((52 : Int32) + x)).toNatClampNeg))).toNatClampNeg)), .int ((3 : Int32))]) (rest := []) ⟨hx, hb, hml, hown, hts⟩ (tm_refused l E h v ((7 : Int32)) ((t0 v (((27 : Int32) + (t0 v (((52 : Int32) + x)).toNatClampNeg))).toNatClampNeg)) ((3 : Int32)) ) (cwV 3 hts (lw_V q1790 q1792 qs27 q80 q1793) rfl rfl rfl (by decide +kernel) ⟨Nat.le_of_ble_eq_true rfl, Nat.le_of_ble_eq_true rfl⟩) (k_preVt hs hm hS) rfl rfl hl.1 rfl (lv_room (Nat.le_of_ble_eq_true rfl)) dX10_plant_97 ⟨Nat.le_of_ble_eq_true rfl, Nat.le_of_ble_eq_true rfl⟩) hS (fun r_14 u_14 H9 locs hw_14 hm_14 hS => ?_)
            replace hw_14 : r_14 = (0 : Int32) ∧ u_14 = (T_refused v (7 : Int32) (t0 v (((27 : Int32) + (t0 v (((52 : Int32) + x)).toNatClampNeg))).toNatClampNeg) (3 : Int32)).2 := hw_14
            obtain ⟨hr_14, hw_14⟩ := hw_14
            replace hr_14 := hr_14.symm
            subst hr_14
            replace hw_14 := hw_14.symm
            subst hw_14
            have hm := hm_14
            subst hr_4
            subst hr_1
            exact W.iret (v := _) hx hb hr (fun t9 ht9 _ => ⟨⟨_, _, rfl, pp ((if_neg c_2).trans ((if_neg c_5).trans ((if_neg c_6).trans ((if_neg c_7).trans ((if_neg c_8).trans (rfl)))))), hb9 ht9 hm⟩, hS.F ht9⟩) hS.2.2 dX10_plant_100
        · refine lv_aload_n hx hb dX10_plant_61 rfl (lv_at hl 1 rfl) ?_
          refine lv_iconst (v := (4 : Int32)) hx hb dX10_plant_62 (by decide) ?_
          refine lv_iload_n hx hb dX10_plant_63 rfl (lv_at hl 2 rfl) ?_
          refine lv_iconst (v := (3 : Int32)) hx hb dX10_plant_64 (by decide) ?_
          refine k_calli (va_runV (As := [.int ((4 : Int32)), .int (x), .int ((3 : Int32))]) (rest := []) ⟨hx, hb, hml, hown, hts⟩ (tm_refused l E h v ((4 : Int32)) (x) ((3 : Int32)) ) (cwV 3 hts (lw_V q1790 q1792 qs27 q80 q1793) rfl rfl rfl (by decide +kernel) ⟨Nat.le_of_ble_eq_true rfl, Nat.le_of_ble_eq_true rfl⟩) (k_preVt hs hm hS) rfl rfl hl.1 rfl (lv_room (Nat.le_of_ble_eq_true rfl)) dX10_plant_65 ⟨Nat.le_of_ble_eq_true rfl, Nat.le_of_ble_eq_true rfl⟩) hS (fun r_15 u_15 H9 locs hw_15 hm_15 hS => ?_)
          replace hw_15 : r_15 = (0 : Int32) ∧ u_15 = (T_refused v (4 : Int32) x (3 : Int32)).2 := hw_15
          obtain ⟨hr_15, hw_15⟩ := hw_15
          replace hr_15 := hr_15.symm
          subst hr_15
          replace hw_15 := hw_15.symm
          subst hw_15
          have hm := hm_15
          subst hr_4
          subst hr_1
          exact W.iret (v := _) hx hb hr (fun t9 ht9 _ => ⟨⟨_, _, rfl, pp ((if_neg c_2).trans ((if_neg c_5).trans ((if_neg c_6).trans ((if_pos c_7).trans (rfl))))), hb9 ht9 hm⟩, hS.F ht9⟩) hS.2.2 dX10_plant_68
      · refine lv_aload_n hx hb dX10_plant_38 rfl (lv_at hl 0 rfl) ?_
        refine lv_iconst (v := (2 : Int32)) hx hb dX10_plant_39 (by decide) ?_
        refine k_calli (va_runV (As := [.int ((2 : Int32))]) (rest := []) ⟨hx, hb, hml, hown, hts⟩ (tm_fails l E h v ((2 : Int32)) ) (cwV 1 hts (lw_V q1766 q1768 qs23 q80 q1769) rfl rfl rfl (by decide +kernel) ⟨Nat.le_of_ble_eq_true rfl, Nat.le_of_ble_eq_true rfl⟩) (k_preVt hs hm hS) rfl rfl hl.1 rfl (lv_room (Nat.le_of_ble_eq_true rfl)) dX10_plant_40 ⟨Nat.le_of_ble_eq_true rfl, Nat.le_of_ble_eq_true rfl⟩) hS (fun r_16 u_16 H9 locs hw_16 hm_16 hS => ?_)
        replace hw_16 : r_16 = (0 : Int32) ∧ u_16 = (T_fails v (2 : Int32)).2 := hw_16
        obtain ⟨hr_16, hw_16⟩ := hw_16
        replace hr_16 := hr_16.symm
        subst hr_16
        replace hw_16 := hw_16.symm
        subst hw_16
        have hm := hm_16
        subst hr_4
        subst hr_1
        exact W.iret (v := _) hx hb hr (fun t9 ht9 _ => ⟨⟨_, _, rfl, pp ((if_neg c_2).trans ((if_neg c_5).trans ((if_pos c_6).trans (rfl)))), hb9 ht9 hm⟩, hS.F ht9⟩) hS.2.2 dX10_plant_43
    · refine lv_aload_n hx hb dX10_plant_16 rfl (lv_at hl 0 rfl) ?_
      refine lv_iconst (v := (1 : Int32)) hx hb dX10_plant_17 (by decide) ?_
      refine k_calli (va_runV (As := [.int ((1 : Int32))]) (rest := []) ⟨hx, hb, hml, hown, hts⟩ (tm_fails l E h v ((1 : Int32)) ) (cwV 1 hts (lw_V q1766 q1768 qs23 q80 q1769) rfl rfl rfl (by decide +kernel) ⟨Nat.le_of_ble_eq_true rfl, Nat.le_of_ble_eq_true rfl⟩) (k_preVt hs hm hS) rfl rfl hl.1 rfl (lv_room (Nat.le_of_ble_eq_true rfl)) dX10_plant_18 ⟨Nat.le_of_ble_eq_true rfl, Nat.le_of_ble_eq_true rfl⟩) hS (fun r_17 u_17 H9 locs hw_17 hm_17 hS => ?_)
      replace hw_17 : r_17 = (0 : Int32) ∧ u_17 = (T_fails v (1 : Int32)).2 := hw_17
      obtain ⟨hr_17, hw_17⟩ := hw_17
      replace hr_17 := hr_17.symm
      subst hr_17
      replace hw_17 := hw_17.symm
      subst hw_17
      have hm := hm_17
      subst hr_4
      subst hr_1
      exact W.iret (v := _) hx hb hr (fun t9 ht9 _ => ⟨⟨_, _, rfl, pp ((if_neg c_2).trans ((if_pos c_5).trans (rfl))), hb9 ht9 hm⟩, hS.F ht9⟩) hS.2.2 dX10_plant_21
def T_weight (v : tw) (x : Int32) : Int32 × tw :=
  let r_1 := T_isPlot (x);
  if r_1 = 0 then
    ((0 : Int32), (T_fails v (1 : Int32)).2)
  else
    if (t0 v (((27 : Int32) + x)).toNatClampNeg) = (-1 : Int32) then
      ((0 : Int32), (T_fails v (2 : Int32)).2)
    else
      let r_4 := T_fbits ((t1 v (((12 : Int32) + x)).toNatClampNeg));
      (r_4, (u18 v (0 : Int32)))
set_option maxHeartbeats 4000000 in
theorem tm_weight (l : Launch) (E : mE) (h : Nat) (v : tw) (x : Int32)  : Met l yX10_weight (ws_ yX10_weight cX10_weight 2 (some .int)) ({ frames := 2, cells := 0, slots := 0, locals := 60 }) (va_Pc [.ref h, .int x] (tP E h v)) (va_Qi (fun (r : Int32) (u : tw) => r = (T_weight v x).1 ∧ u = (T_weight v x).2) (fun u U => tW E h u U.heap) (eA E)) 0 0 (eA E) := by
  refine Met.ofW (cc := cX10_weight) (maxL := 2) (ret := (some .int)) (by decide) rfl ?_
  intro p e s m args below meth c s₁ B hml hv
  obtain ⟨rfl, hs, hm⟩ := hv
  have hx := B.exec
  have hb := B.bytes
  have hr := B.returns
  have hts := atoms_spec (ws := ws_ yX10_weight cX10_weight 2 (some .int)) B.pre
  have hts : ∀ w ∈ lw_all, w.before _ s = true := fun w h => hts w (List.mem_cons_of_mem _ h)
  have hown : s.vm.findClass RX10 = some m.cls := findClass_of_methodNamed B.named
  have hlocks := B.notSynchronized
  have hS : va_S (eA E) s.heap s.heap [] := va_S.rf
  have hl := lv_entry ([.ref h, .int x]) (n := 2) (Nat.le_of_ble_eq_true rfl)
  rw [lg_entry_eq]
  generalize (lg_sl ([.ref h, .int x]) ++ List.replicate (2 - (lg_sl ([.ref h, .int x])).length) Slot.unset).toArray = ls at hl ⊢
  have hl : lv_has ls 2 [(0, .ref (h)), (1, .int (x))] := hl
  refine lv_iload_n hx hb dX10_weight_0 rfl (lv_at hl 1 rfl) ?_
  refine k_calli (va_runS (As := [.int (x)]) (rest := []) ⟨hx, hb, hml, hown, hts⟩ (tm_isPlot l E (x) _) (va_cwS 1 hts (lw_S q1806 q1807 q80 q1808) rfl rfl rfl (by decide +kernel) ⟨Nat.le_of_ble_eq_true rfl, Nat.le_of_ble_eq_true rfl⟩) (k_pure hs hS) rfl rfl hl.1 rfl (lv_room (Nat.le_of_ble_eq_true rfl)) dX10_weight_1 ⟨Nat.le_of_ble_eq_true rfl, Nat.le_of_ble_eq_true rfl⟩) hS (fun r_1 u_1 H9 locs hw_1 hm_1 hS => ?_)
  replace hm_1 : _ = H9 := Eq.symm hm_1
  subst hm_1
  have hr_1 := hw_1
  refine lv_if_ne (tgt := 13) hx hb dX10_weight_4 (by decide) (fun c_2 => ?_) (fun c_2 => ?_)
  · have hx12 := plot_ix hr_1 c_2
    refine lv_aload_n hx hb dX10_weight_13 rfl (lv_at hl 0 rfl) ?_
    refine tg_0 hx hb hts hown hs hm (hts _ q1674) dX10_weight_14 ?_
    refine lv_bipush (v := (27 : Int32)) hx hb dX10_weight_17 (by decide) ?_
    refine lv_iload_n hx hb dX10_weight_19 rfl (lv_at hl 1 rfl) ?_
    refine lv_iadd hx hb dX10_weight_20 ?_
    refine tl_0 hx hb hs hm (ix.add 27 112 (hx12) (by decide) (by decide)) dX10_weight_21 ?_
    refine lv_iconst (v := (-1 : Int32)) hx hb dX10_weight_22 (by decide) ?_
    refine lv_icmp_ne (tgt := 34) hx hb dX10_weight_23 (by decide) (fun c_3 => ?_) (fun c_3 => ?_)
    · refine lv_aload_n hx hb dX10_weight_34 rfl (lv_at hl 0 rfl) ?_
      refine lv_aload_n hx hb dX10_weight_35 rfl (lv_at hl 0 rfl) ?_
      refine tg_1 hx hb hts hown hs hm (hts _ q1675) dX10_weight_36 ?_
      refine lv_bipush (v := (12 : Int32)) hx hb dX10_weight_39 (by decide) ?_
      refine lv_iload_n hx hb dX10_weight_41 rfl (lv_at hl 1 rfl) ?_
      refine lv_iadd hx hb dX10_weight_42 ?_
      refine tl_1 hx hb hs hm (ix.add 12 33 (hx12) (by decide) (by decide)) dX10_weight_43 ?_
      refine k_calli (va_runS (As := [.float ((t1 v (((12 : Int32) + x)).toNatClampNeg))]) (rest := [.ref (h)]) ⟨hx, hb, hml, hown, hts⟩ (jm_J16_floatToIntBits l E ((t1 v (((12 : Int32) + x)).toNatClampNeg)) _) (va_cwS 1 hts (lw_S q1855 q931 q87 q932) rfl rfl rfl (by decide +kernel) ⟨Nat.le_of_ble_eq_true rfl, Nat.le_of_ble_eq_true rfl⟩) (k_pure hs hS) rfl rfl hl.1 rfl (lv_room (Nat.le_of_ble_eq_true rfl)) dX10_weight_44 ⟨Nat.le_of_ble_eq_true rfl, Nat.le_of_ble_eq_true rfl⟩) hS (fun r_4 u_4 H9 locs hw_4 hm_4 hS => ?_)
      replace hm_4 : _ = H9 := Eq.symm hm_4
      subst hm_4
      have hr_4 := hw_4
      refine k_calli (va_runV (As := [.int (r_4)]) (rest := []) ⟨hx, hb, hml, hown, hts⟩ (tm_done l E h v (r_4) ) (cwV 1 hts (lw_V q1770 q1772 qs24 q80 q1773) rfl rfl rfl (by decide +kernel) ⟨Nat.le_of_ble_eq_true rfl, Nat.le_of_ble_eq_true rfl⟩) (k_preVt hs hm hS) rfl rfl hl.1 rfl (lv_room (Nat.le_of_ble_eq_true rfl)) dX10_weight_47 ⟨Nat.le_of_ble_eq_true rfl, Nat.le_of_ble_eq_true rfl⟩) hS (fun r_5 u_5 H9 locs hw_5 hm_5 hS => ?_)
      replace hw_5 : r_5 = r_4 ∧ u_5 = (u18 v (0 : Int32)) := hw_5
      obtain ⟨hr_5, hw_5⟩ := hw_5
      replace hr_5 := hr_5.symm
      subst hr_5
      replace hw_5 := hw_5.symm
      subst hw_5
      have hm := hm_5
      subst hr_4
      subst hr_1
      exact W.iret (v := _) hx hb hr (fun t9 ht9 _ => ⟨⟨_, _, rfl, pp ((if_neg c_2).trans ((if_neg c_3).trans (rfl))), hb9 ht9 hm⟩, hS.F ht9⟩) hS.2.2 dX10_weight_50
    · refine lv_aload_n hx hb dX10_weight_26 rfl (lv_at hl 0 rfl) ?_
      refine lv_iconst (v := (2 : Int32)) hx hb dX10_weight_27 (by decide) ?_
      refine k_calli (va_runV (As := [.int ((2 : Int32))]) (rest := []) ⟨hx, hb, hml, hown, hts⟩ (tm_fails l E h v ((2 : Int32)) ) (cwV 1 hts (lw_V q1766 q1768 qs23 q80 q1769) rfl rfl rfl (by decide +kernel) ⟨Nat.le_of_ble_eq_true rfl, Nat.le_of_ble_eq_true rfl⟩) (k_preVt hs hm hS) rfl rfl hl.1 rfl (lv_room (Nat.le_of_ble_eq_true rfl)) dX10_weight_28 ⟨Nat.le_of_ble_eq_true rfl, Nat.le_of_ble_eq_true rfl⟩) hS (fun r_6 u_6 H9 locs hw_6 hm_6 hS => ?_)
      replace hw_6 : r_6 = (0 : Int32) ∧ u_6 = (T_fails v (2 : Int32)).2 := hw_6
      obtain ⟨hr_6, hw_6⟩ := hw_6
      replace hr_6 := hr_6.symm
      subst hr_6
      replace hw_6 := hw_6.symm
      subst hw_6
      have hm := hm_6
      refine lv_goto (tgt := 50) hx hb dX10_weight_31 (by decide) ?_
      subst hr_1
      exact W.iret (v := _) hx hb hr (fun t9 ht9 _ => ⟨⟨_, _, rfl, pp ((if_neg c_2).trans ((if_pos c_3).trans (rfl))), hb9 ht9 hm⟩, hS.F ht9⟩) hS.2.2 dX10_weight_50
  · refine lv_aload_n hx hb dX10_weight_7 rfl (lv_at hl 0 rfl) ?_
    refine lv_iconst (v := (1 : Int32)) hx hb dX10_weight_8 (by decide) ?_
    refine k_calli (va_runV (As := [.int ((1 : Int32))]) (rest := []) ⟨hx, hb, hml, hown, hts⟩ (tm_fails l E h v ((1 : Int32)) ) (cwV 1 hts (lw_V q1766 q1768 qs23 q80 q1769) rfl rfl rfl (by decide +kernel) ⟨Nat.le_of_ble_eq_true rfl, Nat.le_of_ble_eq_true rfl⟩) (k_preVt hs hm hS) rfl rfl hl.1 rfl (lv_room (Nat.le_of_ble_eq_true rfl)) dX10_weight_9 ⟨Nat.le_of_ble_eq_true rfl, Nat.le_of_ble_eq_true rfl⟩) hS (fun r_7 u_7 H9 locs hw_7 hm_7 hS => ?_)
    replace hw_7 : r_7 = (0 : Int32) ∧ u_7 = (T_fails v (1 : Int32)).2 := hw_7
    obtain ⟨hr_7, hw_7⟩ := hw_7
    replace hr_7 := hr_7.symm
    subst hr_7
    replace hw_7 := hw_7.symm
    subst hw_7
    have hm := hm_7
    subst hr_1
    exact W.iret (v := _) hx hb hr (fun t9 ht9 _ => ⟨⟨_, _, rfl, pp ((if_pos c_2).trans (rfl)), hb9 ht9 hm⟩, hS.F ht9⟩) hS.2.2 dX10_weight_12
def heavK (g : Nat → Int32) (f : Nat → UInt32) (x : Int32) : Nat → Int32
  | 0 => -1
  | k + 1 => if (if g (((27 : Int32) + nI k)).toNatClampNeg = x then (1 : Int32) else 0) = 0 then heavK g f x k else if heavK g f x k = -1 then nI k else if Op.cmpValue (FP.fcmp (f (((12 : Int32) + nI k)).toNatClampNeg) (f (((12 : Int32) + heavK g f x k)).toNatClampNeg)) .l ≤ 0 then heavK g f x k else nI k
theorem heavK_or (g : Nat → Int32) (f : Nat → UInt32) (x : Int32) : ∀ k : Nat, heavK g f x k = -1 ∨ ix k (heavK g f x k)
  | 0 => Or.inl rfl
  | k + 1 => by
    show (if (if g (((27 : Int32) + nI k)).toNatClampNeg = x then (1 : Int32) else 0) = 0 then heavK g f x k else if heavK g f x k = -1 then nI k else if Op.cmpValue (FP.fcmp (f (((12 : Int32) + nI k)).toNatClampNeg) (f (((12 : Int32) + heavK g f x k)).toNatClampNeg)) .l ≤ 0 then heavK g f x k else nI k) = -1 ∨ ix (k + 1) (if (if g (((27 : Int32) + nI k)).toNatClampNeg = x then (1 : Int32) else 0) = 0 then heavK g f x k else if heavK g f x k = -1 then nI k else if Op.cmpValue (FP.fcmp (f (((12 : Int32) + nI k)).toNatClampNeg) (f (((12 : Int32) + heavK g f x k)).toNatClampNeg)) .l ≤ 0 then heavK g f x k else nI k)
    have h := (heavK_or g f x k).imp id (fun h => h.mono (Nat.le_succ k))
    by_cases h1 : (if g (((27 : Int32) + nI k)).toNatClampNeg = x then (1 : Int32) else 0) = 0
    · rw [if_pos h1]; exact h
    · rw [if_neg h1]
      by_cases h2 : heavK g f x k = -1
      · rw [if_pos h2]; exact Or.inr ⟨k, by omega, rfl⟩
      · rw [if_neg h2]
        split
        · exact h
        · exact Or.inr ⟨k, by omega, rfl⟩
theorem heavK_ix {g : Nat → Int32} {f : Nat → UInt32} {x : Int32} {k : Nat} (hk : k ≤ 12) (c : ¬ heavK g f x k = -1) : ix 12 (heavK g f x k) := by
  rcases heavK_or g f x k with h | h
  · exact absurd h c
  · exact h.mono hk
def T_heaviest (v : tw) (x : Int32) : Int32 × tw :=
  let r_1 := T_in (x) ((0 : Int32)) ((1 : Int32));
  if r_1 = 0 then
    ((0 : Int32), (T_fails v (1 : Int32)).2)
  else
    if (heavK (t0 v) (t1 v) x 12) = (-1 : Int32) then
      ((0 : Int32), (T_fails v (2 : Int32)).2)
    else
      ((heavK (t0 v) (t1 v) x 12), (u18 v (0 : Int32)))
set_option maxHeartbeats 4000000 in
theorem tm_heaviest (l : Launch) (E : mE) (h : Nat) (v : tw) (x : Int32)  : Met l yX10_heaviest (ws_ yX10_heaviest cX10_heaviest 5 (some .int)) ({ frames := 1, cells := 0, slots := 0, locals := 22 }) (va_Pc [.ref h, .int x] (tP E h v)) (va_Qi (fun (r : Int32) (u : tw) => r = (T_heaviest v x).1 ∧ u = (T_heaviest v x).2) (fun u U => tW E h u U.heap) (eA E)) 0 0 (eA E) := by
  refine Met.ofW (cc := cX10_heaviest) (maxL := 5) (ret := (some .int)) (by decide) rfl ?_
  intro p e s m args below meth c s₁ B hml hv
  obtain ⟨rfl, hs, hm⟩ := hv
  have hx := B.exec
  have hb := B.bytes
  have hr := B.returns
  have hts := atoms_spec (ws := ws_ yX10_heaviest cX10_heaviest 5 (some .int)) B.pre
  have hts : ∀ w ∈ lw_all, w.before _ s = true := fun w h => hts w (List.mem_cons_of_mem _ h)
  have hown : s.vm.findClass RX10 = some m.cls := findClass_of_methodNamed B.named
  have hlocks := B.notSynchronized
  have hS : va_S (eA E) s.heap s.heap [] := va_S.rf
  have hl := lv_entry ([.ref h, .int x]) (n := 5) (Nat.le_of_ble_eq_true rfl)
  rw [lg_entry_eq]
  generalize (lg_sl ([.ref h, .int x]) ++ List.replicate (5 - (lg_sl ([.ref h, .int x])).length) Slot.unset).toArray = ls at hl ⊢
  have hl : lv_has ls 5 [(0, .ref (h)), (1, .int (x))] := hl
  refine lv_iload_n hx hb dX10_heaviest_0 rfl (lv_at hl 1 rfl) ?_
  refine lv_iconst (v := (0 : Int32)) hx hb dX10_heaviest_1 (by decide) ?_
  refine lv_iconst (v := (1 : Int32)) hx hb dX10_heaviest_2 (by decide) ?_
  refine k_calli (va_runS (As := [.int (x), .int ((0 : Int32)), .int ((1 : Int32))]) (rest := []) ⟨hx, hb, hml, hown, hts⟩ (tm_in l E (x) ((0 : Int32)) ((1 : Int32)) _) (va_cwS 3 hts (lw_S q1763 q1764 q80 q1765) rfl rfl rfl (by decide +kernel) ⟨Nat.le_of_ble_eq_true rfl, Nat.le_of_ble_eq_true rfl⟩) (k_pure hs hS) rfl rfl hl.1 rfl (lv_room (Nat.le_of_ble_eq_true rfl)) dX10_heaviest_3 ⟨Nat.le_of_ble_eq_true rfl, Nat.le_of_ble_eq_true rfl⟩) hS (fun r_1 u_1 H9 locs hw_1 hm_1 hS => ?_)
  replace hm_1 : _ = H9 := Eq.symm hm_1
  subst hm_1
  have hr_1 := hw_1
  refine lv_if_ne (tgt := 15) hx hb dX10_heaviest_6 (by decide) (fun c_2 => ?_) (fun c_2 => ?_)
  · refine lv_iconst (v := (-1 : Int32)) hx hb dX10_heaviest_15 (by decide) ?_
    refine lv_istore_n (lv' := [(2, _), (0, _), (1, _)]) hx hb dX10_heaviest_16 rfl hl (by decide) rfl (fun ls hl => ?_)
    refine lv_iconst (v := (0 : Int32)) hx hb dX10_heaviest_17 (by decide) ?_
    refine lv_istore_n (lv' := [(3, _), (2, _), (0, _), (1, _)]) hx hb dX10_heaviest_18 rfl hl (by decide) rfl (fun ls hl => ?_)
    refine k_loop (fun k => 12 - k) (fun (k : Nat) H locs ls => (k ≤ 12) ∧ tW E h (v) H ∧ va_S (eA E) s.heap H locs ∧ lv_has ls 5 [(3, .int (nI k)), (2, .int ((heavK (t0 v) (t1 v) x k))), (0, .ref (h)), (1, .int (x))]) (fun (k : Nat) ls => F0 m 19 ls []) (fun k => (0, 0)) (fun k ih_3 H locs ls hP => ?_) (0) ⟨(Nat.zero_le _), hm, hS, lv_sub hl [0, 1, 2, 3] rfl⟩
    obtain ⟨hI_3, hm, hS, hl⟩ := hP
    refine lv_iload_n hx hb dX10_heaviest_19 rfl (lv_at hl 0 rfl) ?_
    refine lv_bipush (v := (12 : Int32)) hx hb dX10_heaviest_20 (by decide) ?_
    refine lv_icmp_ge (tgt := 89) hx hb dX10_heaviest_22 (by decide) (fun c_4 => ?_) (fun c_4 => ?_)
    · have hkN : k = 12 := lp_ge (by decide) hI_3 c_4
      replace hkN := hkN.symm
      subst hkN
      refine lv_iload_n hx hb dX10_heaviest_89 rfl (lv_at hl 1 rfl) ?_
      refine lv_iconst (v := (-1 : Int32)) hx hb dX10_heaviest_90 (by decide) ?_
      refine lv_icmp_ne (tgt := 102) hx hb dX10_heaviest_91 (by decide) (fun c_5 => ?_) (fun c_5 => ?_)
      · refine lv_aload_n hx hb dX10_heaviest_102 rfl (lv_at hl 2 rfl) ?_
        refine lv_iload_n hx hb dX10_heaviest_103 rfl (lv_at hl 1 rfl) ?_
        refine k_calli (va_runV (As := [.int ((heavK (t0 v) (t1 v) x 12))]) (rest := []) ⟨hx, hb, hml, hown, hts⟩ (tm_done l E h v ((heavK (t0 v) (t1 v) x 12)) ) (cwV 1 hts (lw_V q1770 q1772 qs24 q80 q1773) rfl rfl rfl (by decide +kernel) ⟨Nat.le_of_ble_eq_true rfl, Nat.le_of_ble_eq_true rfl⟩) (k_preVt hs hm hS) rfl rfl hl.1 rfl (lv_room (Nat.le_of_ble_eq_true rfl)) dX10_heaviest_104 ⟨Nat.le_of_ble_eq_true rfl, Nat.le_of_ble_eq_true rfl⟩) hS (fun r_6 u_6 H9 locs hw_6 hm_6 hS => ?_)
        replace hw_6 : r_6 = (heavK (t0 v) (t1 v) x 12) ∧ u_6 = (u18 v (0 : Int32)) := hw_6
        obtain ⟨hr_6, hw_6⟩ := hw_6
        replace hr_6 := hr_6.symm
        subst hr_6
        replace hw_6 := hw_6.symm
        subst hw_6
        have hm := hm_6
        subst hr_1
        exact W.iret (v := _) hx hb hr (fun t9 ht9 _ => ⟨⟨_, _, rfl, pp ((if_neg c_2).trans ((if_neg c_5).trans (rfl))), hb9 ht9 hm⟩, hS.F ht9⟩) hS.2.2 dX10_heaviest_107
      · refine lv_aload_n hx hb dX10_heaviest_94 rfl (lv_at hl 2 rfl) ?_
        refine lv_iconst (v := (2 : Int32)) hx hb dX10_heaviest_95 (by decide) ?_
        refine k_calli (va_runV (As := [.int ((2 : Int32))]) (rest := []) ⟨hx, hb, hml, hown, hts⟩ (tm_fails l E h v ((2 : Int32)) ) (cwV 1 hts (lw_V q1766 q1768 qs23 q80 q1769) rfl rfl rfl (by decide +kernel) ⟨Nat.le_of_ble_eq_true rfl, Nat.le_of_ble_eq_true rfl⟩) (k_preVt hs hm hS) rfl rfl hl.1 rfl (lv_room (Nat.le_of_ble_eq_true rfl)) dX10_heaviest_96 ⟨Nat.le_of_ble_eq_true rfl, Nat.le_of_ble_eq_true rfl⟩) hS (fun r_7 u_7 H9 locs hw_7 hm_7 hS => ?_)
        replace hw_7 : r_7 = (0 : Int32) ∧ u_7 = (T_fails v (2 : Int32)).2 := hw_7
        obtain ⟨hr_7, hw_7⟩ := hw_7
        replace hr_7 := hr_7.symm
        subst hr_7
        replace hw_7 := hw_7.symm
        subst hw_7
        have hm := hm_7
        refine lv_goto (tgt := 107) hx hb dX10_heaviest_99 (by decide) ?_
        subst hr_1
        exact W.iret (v := _) hx hb hr (fun t9 ht9 _ => ⟨⟨_, _, rfl, pp ((if_neg c_2).trans ((if_pos c_5).trans (rfl))), hb9 ht9 hm⟩, hS.F ht9⟩) hS.2.2 dX10_heaviest_107
    · have hk : k < 12 := lp_lt (by decide) hI_3 c_4
      refine lv_aload_n hx hb dX10_heaviest_25 rfl (lv_at hl 2 rfl) ?_
      refine tg_0 hx hb hts hown hs hm (hts _ q1674) dX10_heaviest_26 ?_
      refine lv_bipush (v := (27 : Int32)) hx hb dX10_heaviest_29 (by decide) ?_
      refine lv_iload_n hx hb dX10_heaviest_31 rfl (lv_at hl 0 rfl) ?_
      refine lv_iadd hx hb dX10_heaviest_32 ?_
      refine tl_0 hx hb hs hm (ix.add 27 112 (⟨k, hk, rfl⟩) (by decide) (by decide)) dX10_heaviest_33 ?_
      refine lv_iload_n hx hb dX10_heaviest_34 rfl (lv_at hl 3 rfl) ?_
      refine k_join (fun (x9 : Int32) H locs ls => x9 = (if (t0 v (((27 : Int32) + nI k)).toNatClampNeg) = x then (1 : Int32) else (0 : Int32)) ∧ tW E h (v) H ∧ va_S (eA E) s.heap H locs ∧ lv_has ls 5 [(3, .int (nI k)), (2, .int ((heavK (t0 v) (t1 v) x k))), (0, .ref (h)), (1, .int (x))]) (fun (x9 : Int32) ls => F0 m 43 ls [.int (x9)]) (fun x9 H locs ls hJ => ?_) (fun J9 => ?_)
      · obtain ⟨hX9, hm, hS, hl⟩ := hJ
        refine lv_istore (lv' := [(4, _), (3, _), (2, _), (0, _), (1, _)]) hx hb dX10_heaviest_43 hl (by decide) rfl (fun ls hl => ?_)
        refine lv_iload hx hb dX10_heaviest_45 (lv_at hl 0 rfl) ?_
        refine k_join (fun (x11 : Int32) H locs ls => x11 = (if x9 = 0 then (heavK (t0 v) (t1 v) x k) else if (heavK (t0 v) (t1 v) x k) = (-1 : Int32) then nI k else if (Op.cmpValue (FP.fcmp (t1 v (((12 : Int32) + nI k)).toNatClampNeg) (t1 v (((12 : Int32) + (heavK (t0 v) (t1 v) x k))).toNatClampNeg)) .l) ≤ 0 then (heavK (t0 v) (t1 v) x k) else nI k) ∧ tW E h (v) H ∧ va_S (eA E) s.heap H locs ∧ lv_has ls 5 [(4, .int (x9)), (3, .int (nI k)), (2, .int ((heavK (t0 v) (t1 v) x k))), (0, .ref (h)), (1, .int (x))]) (fun (x11 : Int32) ls => F0 m 82 ls [.int (x11)]) (fun x11 H locs ls hJ => ?_) (fun J11 => ?_)
        · obtain ⟨hX11, hm, hS, hl⟩ := hJ
          refine lv_istore_n (lv' := [(2, _), (4, _), (3, _), (0, _), (1, _)]) hx hb dX10_heaviest_82 rfl hl (by decide) rfl (fun ls hl => ?_)
          refine lv_iinc (v := nI (k + 1)) (lv' := [(3, _), (2, _), (4, _), (0, _), (1, _)]) hx hb dX10_heaviest_83 hl (k := 2) rfl (nI_succ k).symm (by decide) rfl (fun ls hl => ?_)
          refine lv_goto (tgt := 19) hx hb dX10_heaviest_86 (by decide) ?_
          exact ih_3 (k + 1) (by omega) _ _ _ ⟨(by omega), hm, hS, (by rw [show heavK (t0 v) (t1 v) x (k + 1) = x11 from by rw [hX11, hX9]; rfl]; exact lv_sub hl [0, 1, 3, 4] rfl)⟩
        · refine lv_if_eq (tgt := 81) hx hb dX10_heaviest_47 (by decide) (fun c_10 => ?_) (fun c_10 => ?_)
          · refine lv_iload_n hx hb dX10_heaviest_81 rfl (lv_at hl 2 rfl) ?_
            exact J11 ((heavK (t0 v) (t1 v) x k)) _ _ _ ⟨((if_pos c_10).trans (rfl)).symm, hm, hS, lv_sub hl [0, 1, 2, 3, 4] rfl⟩
          · refine lv_iload_n hx hb dX10_heaviest_50 rfl (lv_at hl 2 rfl) ?_
            refine lv_iconst (v := (-1 : Int32)) hx hb dX10_heaviest_51 (by decide) ?_
            refine lv_icmp_eq (tgt := 77) hx hb dX10_heaviest_52 (by decide) (fun c_12 => ?_) (fun c_12 => ?_)
            · refine lv_iload_n hx hb dX10_heaviest_77 rfl (lv_at hl 1 rfl) ?_
              refine lv_goto (tgt := 82) hx hb dX10_heaviest_78 (by decide) ?_
              exact J11 (nI k) _ _ _ ⟨((if_neg c_10).trans ((if_pos c_12).trans (rfl))).symm, hm, hS, lv_sub hl [0, 1, 2, 3, 4] rfl⟩
            · have hb12 := heavK_ix (by omega) c_12
              refine lv_aload_n hx hb dX10_heaviest_55 rfl (lv_at hl 3 rfl) ?_
              refine tg_1 hx hb hts hown hs hm (hts _ q1675) dX10_heaviest_56 ?_
              refine lv_bipush (v := (12 : Int32)) hx hb dX10_heaviest_59 (by decide) ?_
              refine lv_iload_n hx hb dX10_heaviest_61 rfl (lv_at hl 1 rfl) ?_
              refine lv_iadd hx hb dX10_heaviest_62 ?_
              refine tl_1 hx hb hs hm (ix.add 12 33 (⟨k, hk, rfl⟩) (by decide) (by decide)) dX10_heaviest_63 ?_
              refine lv_aload_n hx hb dX10_heaviest_64 rfl (lv_at hl 3 rfl) ?_
              refine tg_1 hx hb hts hown hs hm (hts _ q1675) dX10_heaviest_65 ?_
              refine lv_bipush (v := (12 : Int32)) hx hb dX10_heaviest_68 (by decide) ?_
              refine lv_iload_n hx hb dX10_heaviest_70 rfl (lv_at hl 2 rfl) ?_
              refine lv_iadd hx hb dX10_heaviest_71 ?_
              refine tl_1 hx hb hs hm (ix.add 12 33 (hb12) (by decide) (by decide)) dX10_heaviest_72 ?_
              refine lv_fcmp hx hb dX10_heaviest_73 ?_
              refine lv_if_le (tgt := 81) hx hb dX10_heaviest_74 (by decide) (fun c_13 => ?_) (fun c_13 => ?_)
              · refine lv_iload_n hx hb dX10_heaviest_81 rfl (lv_at hl 2 rfl) ?_
                exact J11 ((heavK (t0 v) (t1 v) x k)) _ _ _ ⟨((if_neg c_10).trans ((if_neg c_12).trans ((if_pos c_13).trans (rfl)))).symm, hm, hS, lv_sub hl [0, 1, 2, 3, 4] rfl⟩
              · refine lv_iload_n hx hb dX10_heaviest_77 rfl (lv_at hl 1 rfl) ?_
                refine lv_goto (tgt := 82) hx hb dX10_heaviest_78 (by decide) ?_
                exact J11 (nI k) _ _ _ ⟨((if_neg c_10).trans ((if_neg c_12).trans ((if_neg c_13).trans (rfl)))).symm, hm, hS, lv_sub hl [0, 1, 2, 3, 4] rfl⟩
      · refine lv_icmp_ne (tgt := 42) hx hb dX10_heaviest_35 (by decide) (fun c_8 => ?_) (fun c_8 => ?_)
        · refine lv_iconst (v := (0 : Int32)) hx hb dX10_heaviest_42 (by decide) ?_
          exact J9 ((0 : Int32)) _ _ _ ⟨((if_neg c_8).trans (rfl)).symm, hm, hS, lv_sub hl [0, 1, 2, 3] rfl⟩
        · refine lv_iconst (v := (1 : Int32)) hx hb dX10_heaviest_38 (by decide) ?_
          refine lv_goto (tgt := 43) hx hb dX10_heaviest_39 (by decide) ?_
          exact J9 ((1 : Int32)) _ _ _ ⟨((if_pos c_8).trans (rfl)).symm, hm, hS, lv_sub hl [0, 1, 2, 3] rfl⟩
  · refine lv_aload_n hx hb dX10_heaviest_9 rfl (lv_at hl 0 rfl) ?_
    refine lv_iconst (v := (1 : Int32)) hx hb dX10_heaviest_10 (by decide) ?_
    refine k_calli (va_runV (As := [.int ((1 : Int32))]) (rest := []) ⟨hx, hb, hml, hown, hts⟩ (tm_fails l E h v ((1 : Int32)) ) (cwV 1 hts (lw_V q1766 q1768 qs23 q80 q1769) rfl rfl rfl (by decide +kernel) ⟨Nat.le_of_ble_eq_true rfl, Nat.le_of_ble_eq_true rfl⟩) (k_preVt hs hm hS) rfl rfl hl.1 rfl (lv_room (Nat.le_of_ble_eq_true rfl)) dX10_heaviest_11 ⟨Nat.le_of_ble_eq_true rfl, Nat.le_of_ble_eq_true rfl⟩) hS (fun r_14 u_14 H9 locs hw_14 hm_14 hS => ?_)
    replace hw_14 : r_14 = (0 : Int32) ∧ u_14 = (T_fails v (1 : Int32)).2 := hw_14
    obtain ⟨hr_14, hw_14⟩ := hw_14
    replace hr_14 := hr_14.symm
    subst hr_14
    replace hw_14 := hw_14.symm
    subst hw_14
    have hm := hm_14
    subst hr_1
    exact W.iret (v := _) hx hb hr (fun t9 ht9 _ => ⟨⟨_, _, rfl, pp ((if_pos c_2).trans (rfl)), hb9 ht9 hm⟩, hS.F ht9⟩) hS.2.2 dX10_heaviest_14
def T_prize (v : tw) (x : Int32) (y : Int32) : Int32 × tw :=
  let r_1 := T_in (x) ((0 : Int32)) (((t0 v ((96 : Int32)).toNatClampNeg) - (1 : Int32)));
  if r_1 = 0 then
    ((0 : Int32), (T_fails v (1 : Int32)).2)
  else
    if y = (0 : Int32) then
      ((t0 v (((97 : Int32) + x)).toNatClampNeg), (u18 v (0 : Int32)))
    else
      if y = (1 : Int32) then
        ((t0 v (((102 : Int32) + x)).toNatClampNeg), (u18 v (0 : Int32)))
      else
        if y = (2 : Int32) then
          let r_9 := T_fbits ((t1 v (((28 : Int32) + x)).toNatClampNeg));
          (r_9, (u18 v (0 : Int32)))
        else
          if y = (3 : Int32) then
            ((t0 v (((107 : Int32) + x)).toNatClampNeg), (u18 v (0 : Int32)))
          else
            ((0 : Int32), (T_fails v (2 : Int32)).2)
set_option maxHeartbeats 4000000 in
theorem tm_prize (l : Launch) (E : mE) (h : Nat) (v : tw) (x : Int32) (y : Int32) (hw : wf (t0 v) (t1 v)) : Met l yX10_prize (ws_ yX10_prize cX10_prize 3 (some .int)) ({ frames := 2, cells := 0, slots := 0, locals := 60 }) (va_Pc [.ref h, .int x, .int y] (tP E h v)) (va_Qi (fun (r : Int32) (u : tw) => r = (T_prize v x y).1 ∧ u = (T_prize v x y).2) (fun u U => tW E h u U.heap) (eA E)) 0 0 (eA E) := by
  refine Met.ofW (cc := cX10_prize) (maxL := 3) (ret := (some .int)) (by decide) rfl ?_
  intro p e s m args below meth c s₁ B hml hv
  obtain ⟨rfl, hs, hm⟩ := hv
  have hx := B.exec
  have hb := B.bytes
  have hr := B.returns
  have hts := atoms_spec (ws := ws_ yX10_prize cX10_prize 3 (some .int)) B.pre
  have hts : ∀ w ∈ lw_all, w.before _ s = true := fun w h => hts w (List.mem_cons_of_mem _ h)
  have hown : s.vm.findClass RX10 = some m.cls := findClass_of_methodNamed B.named
  have hlocks := B.notSynchronized
  have hS : va_S (eA E) s.heap s.heap [] := va_S.rf
  have hl := lv_entry ([.ref h, .int x, .int y]) (n := 3) (Nat.le_of_ble_eq_true rfl)
  rw [lg_entry_eq]
  generalize (lg_sl ([.ref h, .int x, .int y]) ++ List.replicate (3 - (lg_sl ([.ref h, .int x, .int y])).length) Slot.unset).toArray = ls at hl ⊢
  have hl : lv_has ls 3 [(0, .ref (h)), (1, .int (x)), (2, .int (y))] := hl
  refine lv_iload_n hx hb dX10_prize_0 rfl (lv_at hl 1 rfl) ?_
  refine lv_iconst (v := (0 : Int32)) hx hb dX10_prize_1 (by decide) ?_
  refine lv_aload_n hx hb dX10_prize_2 rfl (lv_at hl 0 rfl) ?_
  refine tg_0 hx hb hts hown hs hm (hts _ q1674) dX10_prize_3 ?_
  refine lv_bipush (v := (96 : Int32)) hx hb dX10_prize_6 (by decide) ?_
  refine tl_0 hx hb hs hm (vi 96 (by decide) (by decide)) dX10_prize_8 ?_
  refine lv_iconst (v := (1 : Int32)) hx hb dX10_prize_9 (by decide) ?_
  refine lv_isub hx hb dX10_prize_10 ?_
  refine k_calli (va_runS (As := [.int (x), .int ((0 : Int32)), .int (((t0 v ((96 : Int32)).toNatClampNeg) - (1 : Int32)))]) (rest := []) ⟨hx, hb, hml, hown, hts⟩ (tm_in l E (x) ((0 : Int32)) (((t0 v ((96 : Int32)).toNatClampNeg) - (1 : Int32))) _) (va_cwS 3 hts (lw_S q1763 q1764 q80 q1765) rfl rfl rfl (by decide +kernel) ⟨Nat.le_of_ble_eq_true rfl, Nat.le_of_ble_eq_true rfl⟩) (k_pure hs hS) rfl rfl hl.1 rfl (lv_room (Nat.le_of_ble_eq_true rfl)) dX10_prize_11 ⟨Nat.le_of_ble_eq_true rfl, Nat.le_of_ble_eq_true rfl⟩) hS (fun r_1 u_1 H9 locs hw_1 hm_1 hS => ?_)
  replace hm_1 : _ = H9 := Eq.symm hm_1
  subst hm_1
  have hr_1 := hw_1
  refine lv_if_ne (tgt := 23) hx hb dX10_prize_14 (by decide) (fun c_2 => ?_) (fun c_2 => ?_)
  · have hx5 : ix 5 x := Tin_ix hr_1 c_2 (hw.prz.pred (by decide)) (by decide)
    refine lv_iload_n hx hb dX10_prize_23 rfl (lv_at hl 2 rfl) ?_
    by_cases c_3 : y = (0 : Int32)
    · refine lv_tableIn (off := 32) (tgt := 56) hx hb dX10_prize_24 (by rw [c_3]; decide) (by rw [c_3]; decide) (by rw [c_3]; rfl) (by decide) ?_
      refine lv_aload_n hx hb dX10_prize_56 rfl (lv_at hl 0 rfl) ?_
      refine lv_aload_n hx hb dX10_prize_57 rfl (lv_at hl 0 rfl) ?_
      refine tg_0 hx hb hts hown hs hm (hts _ q1674) dX10_prize_58 ?_
      refine lv_bipush (v := (97 : Int32)) hx hb dX10_prize_61 (by decide) ?_
      refine lv_iload_n hx hb dX10_prize_63 rfl (lv_at hl 1 rfl) ?_
      refine lv_iadd hx hb dX10_prize_64 ?_
      refine tl_0 hx hb hs hm (ix.add 97 112 (hx5) (by decide) (by decide)) dX10_prize_65 ?_
      refine k_calli (va_runV (As := [.int ((t0 v (((97 : Int32) + x)).toNatClampNeg))]) (rest := []) ⟨hx, hb, hml, hown, hts⟩ (tm_done l E h v ((t0 v (((97 : Int32) + x)).toNatClampNeg)) ) (cwV 1 hts (lw_V q1770 q1772 qs24 q80 q1773) rfl rfl rfl (by decide +kernel) ⟨Nat.le_of_ble_eq_true rfl, Nat.le_of_ble_eq_true rfl⟩) (k_preVt hs hm hS) rfl rfl hl.1 rfl (lv_room (Nat.le_of_ble_eq_true rfl)) dX10_prize_66 ⟨Nat.le_of_ble_eq_true rfl, Nat.le_of_ble_eq_true rfl⟩) hS (fun r_7 u_7 H9 locs hw_7 hm_7 hS => ?_)
      replace hw_7 : r_7 = (t0 v (((97 : Int32) + x)).toNatClampNeg) ∧ u_7 = (u18 v (0 : Int32)) := hw_7
      obtain ⟨hr_7, hw_7⟩ := hw_7
      replace hr_7 := hr_7.symm
      subst hr_7
      replace hw_7 := hw_7.symm
      subst hw_7
      have hm := hm_7
      subst hr_1
      exact W.iret (v := _) hx hb hr (fun t9 ht9 _ => ⟨⟨_, _, rfl, pp ((if_neg c_2).trans ((if_pos c_3).trans (rfl))), hb9 ht9 hm⟩, hS.F ht9⟩) hS.2.2 dX10_prize_69
    · by_cases c_4 : y = (1 : Int32)
      · refine lv_tableIn (off := 46) (tgt := 70) hx hb dX10_prize_24 (by rw [c_4]; decide) (by rw [c_4]; decide) (by rw [c_4]; rfl) (by decide) ?_
        refine lv_aload_n hx hb dX10_prize_70 rfl (lv_at hl 0 rfl) ?_
        refine lv_aload_n hx hb dX10_prize_71 rfl (lv_at hl 0 rfl) ?_
        refine tg_0 hx hb hts hown hs hm (hts _ q1674) dX10_prize_72 ?_
        refine lv_bipush (v := (102 : Int32)) hx hb dX10_prize_75 (by decide) ?_
        refine lv_iload_n hx hb dX10_prize_77 rfl (lv_at hl 1 rfl) ?_
        refine lv_iadd hx hb dX10_prize_78 ?_
        refine tl_0 hx hb hs hm (ix.add 102 112 (hx5) (by decide) (by decide)) dX10_prize_79 ?_
        refine k_calli (va_runV (As := [.int ((t0 v (((102 : Int32) + x)).toNatClampNeg))]) (rest := []) ⟨hx, hb, hml, hown, hts⟩ (tm_done l E h v ((t0 v (((102 : Int32) + x)).toNatClampNeg)) ) (cwV 1 hts (lw_V q1770 q1772 qs24 q80 q1773) rfl rfl rfl (by decide +kernel) ⟨Nat.le_of_ble_eq_true rfl, Nat.le_of_ble_eq_true rfl⟩) (k_preVt hs hm hS) rfl rfl hl.1 rfl (lv_room (Nat.le_of_ble_eq_true rfl)) dX10_prize_80 ⟨Nat.le_of_ble_eq_true rfl, Nat.le_of_ble_eq_true rfl⟩) hS (fun r_8 u_8 H9 locs hw_8 hm_8 hS => ?_)
        replace hw_8 : r_8 = (t0 v (((102 : Int32) + x)).toNatClampNeg) ∧ u_8 = (u18 v (0 : Int32)) := hw_8
        obtain ⟨hr_8, hw_8⟩ := hw_8
        replace hr_8 := hr_8.symm
        subst hr_8
        replace hw_8 := hw_8.symm
        subst hw_8
        have hm := hm_8
        subst hr_1
        exact W.iret (v := _) hx hb hr (fun t9 ht9 _ => ⟨⟨_, _, rfl, pp ((if_neg c_2).trans ((if_neg c_3).trans ((if_pos c_4).trans (rfl)))), hb9 ht9 hm⟩, hS.F ht9⟩) hS.2.2 dX10_prize_83
      · by_cases c_5 : y = (2 : Int32)
        · refine lv_tableIn (off := 60) (tgt := 84) hx hb dX10_prize_24 (by rw [c_5]; decide) (by rw [c_5]; decide) (by rw [c_5]; rfl) (by decide) ?_
          refine lv_aload_n hx hb dX10_prize_84 rfl (lv_at hl 0 rfl) ?_
          refine lv_aload_n hx hb dX10_prize_85 rfl (lv_at hl 0 rfl) ?_
          refine tg_1 hx hb hts hown hs hm (hts _ q1675) dX10_prize_86 ?_
          refine lv_bipush (v := (28 : Int32)) hx hb dX10_prize_89 (by decide) ?_
          refine lv_iload_n hx hb dX10_prize_91 rfl (lv_at hl 1 rfl) ?_
          refine lv_iadd hx hb dX10_prize_92 ?_
          refine tl_1 hx hb hs hm (ix.add 28 33 (hx5) (by decide) (by decide)) dX10_prize_93 ?_
          refine k_calli (va_runS (As := [.float ((t1 v (((28 : Int32) + x)).toNatClampNeg))]) (rest := [.ref (h)]) ⟨hx, hb, hml, hown, hts⟩ (jm_J16_floatToIntBits l E ((t1 v (((28 : Int32) + x)).toNatClampNeg)) _) (va_cwS 1 hts (lw_S q1855 q931 q87 q932) rfl rfl rfl (by decide +kernel) ⟨Nat.le_of_ble_eq_true rfl, Nat.le_of_ble_eq_true rfl⟩) (k_pure hs hS) rfl rfl hl.1 rfl (lv_room (Nat.le_of_ble_eq_true rfl)) dX10_prize_94 ⟨Nat.le_of_ble_eq_true rfl, Nat.le_of_ble_eq_true rfl⟩) hS (fun r_9 u_9 H9 locs hw_9 hm_9 hS => ?_)
          replace hm_9 : _ = H9 := Eq.symm hm_9
          subst hm_9
          have hr_9 := hw_9
          refine k_calli (va_runV (As := [.int (r_9)]) (rest := []) ⟨hx, hb, hml, hown, hts⟩ (tm_done l E h v (r_9) ) (cwV 1 hts (lw_V q1770 q1772 qs24 q80 q1773) rfl rfl rfl (by decide +kernel) ⟨Nat.le_of_ble_eq_true rfl, Nat.le_of_ble_eq_true rfl⟩) (k_preVt hs hm hS) rfl rfl hl.1 rfl (lv_room (Nat.le_of_ble_eq_true rfl)) dX10_prize_97 ⟨Nat.le_of_ble_eq_true rfl, Nat.le_of_ble_eq_true rfl⟩) hS (fun r_10 u_10 H9 locs hw_10 hm_10 hS => ?_)
          replace hw_10 : r_10 = r_9 ∧ u_10 = (u18 v (0 : Int32)) := hw_10
          obtain ⟨hr_10, hw_10⟩ := hw_10
          replace hr_10 := hr_10.symm
          subst hr_10
          replace hw_10 := hw_10.symm
          subst hw_10
          have hm := hm_10
          subst hr_9
          subst hr_1
          exact W.iret (v := _) hx hb hr (fun t9 ht9 _ => ⟨⟨_, _, rfl, pp ((if_neg c_2).trans ((if_neg c_3).trans ((if_neg c_4).trans ((if_pos c_5).trans (rfl))))), hb9 ht9 hm⟩, hS.F ht9⟩) hS.2.2 dX10_prize_100
        · by_cases c_6 : y = (3 : Int32)
          · refine lv_tableIn (off := 77) (tgt := 101) hx hb dX10_prize_24 (by rw [c_6]; decide) (by rw [c_6]; decide) (by rw [c_6]; rfl) (by decide) ?_
            refine lv_aload_n hx hb dX10_prize_101 rfl (lv_at hl 0 rfl) ?_
            refine lv_aload_n hx hb dX10_prize_102 rfl (lv_at hl 0 rfl) ?_
            refine tg_0 hx hb hts hown hs hm (hts _ q1674) dX10_prize_103 ?_
            refine lv_bipush (v := (107 : Int32)) hx hb dX10_prize_106 (by decide) ?_
            refine lv_iload_n hx hb dX10_prize_108 rfl (lv_at hl 1 rfl) ?_
            refine lv_iadd hx hb dX10_prize_109 ?_
            refine tl_0 hx hb hs hm (ix.add 107 112 (hx5) (by decide) (by decide)) dX10_prize_110 ?_
            refine k_calli (va_runV (As := [.int ((t0 v (((107 : Int32) + x)).toNatClampNeg))]) (rest := []) ⟨hx, hb, hml, hown, hts⟩ (tm_done l E h v ((t0 v (((107 : Int32) + x)).toNatClampNeg)) ) (cwV 1 hts (lw_V q1770 q1772 qs24 q80 q1773) rfl rfl rfl (by decide +kernel) ⟨Nat.le_of_ble_eq_true rfl, Nat.le_of_ble_eq_true rfl⟩) (k_preVt hs hm hS) rfl rfl hl.1 rfl (lv_room (Nat.le_of_ble_eq_true rfl)) dX10_prize_111 ⟨Nat.le_of_ble_eq_true rfl, Nat.le_of_ble_eq_true rfl⟩) hS (fun r_11 u_11 H9 locs hw_11 hm_11 hS => ?_)
            replace hw_11 : r_11 = (t0 v (((107 : Int32) + x)).toNatClampNeg) ∧ u_11 = (u18 v (0 : Int32)) := hw_11
            obtain ⟨hr_11, hw_11⟩ := hw_11
            replace hr_11 := hr_11.symm
            subst hr_11
            replace hw_11 := hw_11.symm
            subst hw_11
            have hm := hm_11
            subst hr_1
            exact W.iret (v := _) hx hb hr (fun t9 ht9 _ => ⟨⟨_, _, rfl, pp ((if_neg c_2).trans ((if_neg c_3).trans ((if_neg c_4).trans ((if_neg c_5).trans ((if_pos c_6).trans (rfl)))))), hb9 ht9 hm⟩, hS.F ht9⟩) hS.2.2 dX10_prize_114
          · refine lv_tableOut (tgt := 115) hx hb dX10_prize_24 (sw_out _ 4 (by decide) (k_sw4 c_3 c_4 c_5 c_6) rfl) (by decide) ?_
            refine lv_aload_n hx hb dX10_prize_115 rfl (lv_at hl 0 rfl) ?_
            refine lv_iconst (v := (2 : Int32)) hx hb dX10_prize_116 (by decide) ?_
            refine k_calli (va_runV (As := [.int ((2 : Int32))]) (rest := []) ⟨hx, hb, hml, hown, hts⟩ (tm_fails l E h v ((2 : Int32)) ) (cwV 1 hts (lw_V q1766 q1768 qs23 q80 q1769) rfl rfl rfl (by decide +kernel) ⟨Nat.le_of_ble_eq_true rfl, Nat.le_of_ble_eq_true rfl⟩) (k_preVt hs hm hS) rfl rfl hl.1 rfl (lv_room (Nat.le_of_ble_eq_true rfl)) dX10_prize_117 ⟨Nat.le_of_ble_eq_true rfl, Nat.le_of_ble_eq_true rfl⟩) hS (fun r_12 u_12 H9 locs hw_12 hm_12 hS => ?_)
            replace hw_12 : r_12 = (0 : Int32) ∧ u_12 = (T_fails v (2 : Int32)).2 := hw_12
            obtain ⟨hr_12, hw_12⟩ := hw_12
            replace hr_12 := hr_12.symm
            subst hr_12
            replace hw_12 := hw_12.symm
            subst hw_12
            have hm := hm_12
            subst hr_1
            exact W.iret (v := _) hx hb hr (fun t9 ht9 _ => ⟨⟨_, _, rfl, pp ((if_neg c_2).trans ((if_neg c_3).trans ((if_neg c_4).trans ((if_neg c_5).trans ((if_neg c_6).trans (rfl)))))), hb9 ht9 hm⟩, hS.F ht9⟩) hS.2.2 dX10_prize_120
  · refine lv_aload_n hx hb dX10_prize_17 rfl (lv_at hl 0 rfl) ?_
    refine lv_iconst (v := (1 : Int32)) hx hb dX10_prize_18 (by decide) ?_
    refine k_calli (va_runV (As := [.int ((1 : Int32))]) (rest := []) ⟨hx, hb, hml, hown, hts⟩ (tm_fails l E h v ((1 : Int32)) ) (cwV 1 hts (lw_V q1766 q1768 qs23 q80 q1769) rfl rfl rfl (by decide +kernel) ⟨Nat.le_of_ble_eq_true rfl, Nat.le_of_ble_eq_true rfl⟩) (k_preVt hs hm hS) rfl rfl hl.1 rfl (lv_room (Nat.le_of_ble_eq_true rfl)) dX10_prize_19 ⟨Nat.le_of_ble_eq_true rfl, Nat.le_of_ble_eq_true rfl⟩) hS (fun r_13 u_13 H9 locs hw_13 hm_13 hS => ?_)
    replace hw_13 : r_13 = (0 : Int32) ∧ u_13 = (T_fails v (1 : Int32)).2 := hw_13
    obtain ⟨hr_13, hw_13⟩ := hw_13
    replace hr_13 := hr_13.symm
    subst hr_13
    replace hw_13 := hw_13.symm
    subst hw_13
    have hm := hm_13
    subst hr_1
    exact W.iret (v := _) hx hb hr (fun t9 ht9 _ => ⟨⟨_, _, rfl, pp ((if_pos c_2).trans (rfl)), hb9 ht9 hm⟩, hS.F ht9⟩) hS.2.2 dX10_prize_22
def T_holds (v : tw) (x : Int32) (y : Int32) : Int32 :=
  if 0 < (Op.cmpValue (FP.fcmp (FP.i2f y) (FP.fadd FP.fconst2 (FP.fmul (1071644672 : UInt32) (FP.i2f (t0 v (((85 : Int32) + x)).toNatClampNeg))))) .g) then
    (0 : Int32)
  else
    (1 : Int32)
set_option maxHeartbeats 4000000 in
theorem tm_holds (l : Launch) (E : mE) (h : Nat) (v : tw) (x : Int32) (y : Int32) (hw : wf (t0 v) (t1 v)) (hx4 : ix 4 x) : Met l yX10_holds (ws_ yX10_holds cX10_holds 3 (some .boolean)) ({ frames := 0, cells := 0, slots := 0, locals := 0 }) (va_Pc [.ref h, .int x, .int y] (tP E h v)) (va_Qi (fun (r : Int32) (u : tw) => r = T_holds v x y ∧ u = v) (fun u U => tW E h u U.heap) (eA E)) 0 0 (eA E) := by
  refine Met.ofW (cc := cX10_holds) (maxL := 3) (ret := (some .boolean)) (by decide) rfl ?_
  intro p e s m args below meth c s₁ B hml hv
  obtain ⟨rfl, hs, hm⟩ := hv
  have hx := B.exec
  have hb := B.bytes
  have hr := B.returns
  have hts := atoms_spec (ws := ws_ yX10_holds cX10_holds 3 (some .boolean)) B.pre
  have hts : ∀ w ∈ lw_all, w.before _ s = true := fun w h => hts w (List.mem_cons_of_mem _ h)
  have hown : s.vm.findClass RX10 = some m.cls := findClass_of_methodNamed B.named
  have hlocks := B.notSynchronized
  have hS : va_S (eA E) s.heap s.heap [] := va_S.rf
  have hl := lv_entry ([.ref h, .int x, .int y]) (n := 3) (Nat.le_of_ble_eq_true rfl)
  rw [lg_entry_eq]
  generalize (lg_sl ([.ref h, .int x, .int y]) ++ List.replicate (3 - (lg_sl ([.ref h, .int x, .int y])).length) Slot.unset).toArray = ls at hl ⊢
  have hl : lv_has ls 3 [(0, .ref (h)), (1, .int (x)), (2, .int (y))] := hl
  refine lv_iload_n hx hb dX10_holds_0 rfl (lv_at hl 2 rfl) ?_
  refine lv_i2f hx hb dX10_holds_1 ?_
  refine lv_fconst2 hx hb dX10_holds_2 ?_
  refine lv_ldcf (v := 1071644672) hx hb hown (hts _ q1881) dX10_holds_3 ?_
  refine lv_aload_n hx hb dX10_holds_5 rfl (lv_at hl 0 rfl) ?_
  refine tg_0 hx hb hts hown hs hm (hts _ q1674) dX10_holds_6 ?_
  refine lv_bipush (v := (85 : Int32)) hx hb dX10_holds_9 (by decide) ?_
  refine lv_iload_n hx hb dX10_holds_11 rfl (lv_at hl 1 rfl) ?_
  refine lv_iadd hx hb dX10_holds_12 ?_
  refine tl_0 hx hb hs hm (ix.add 85 112 (hx4) (by decide) (by decide)) dX10_holds_13 ?_
  refine lv_i2f hx hb dX10_holds_14 ?_
  refine lv_fmul hx hb dX10_holds_15 ((kd.mul (kd_175) ((kd_i2f ((((hw).rop (hx4))).mono (by decide)))))).nan ?_
  refine lv_fadd hx hb dX10_holds_16 ((kd.add (n := 9) ((kd_2).up (by decide)) (((kd.mul (kd_175) ((kd_i2f ((((hw).rop (hx4))).mono (by decide)))))).up (by decide)))).nan ?_
  refine lv_fcmp hx hb dX10_holds_17 ?_
  refine lv_if_gt (tgt := 25) hx hb dX10_holds_18 (by decide) (fun c_1 => ?_) (fun c_1 => ?_)
  · refine lv_iconst (v := (0 : Int32)) hx hb dX10_holds_25 (by decide) ?_
    exact W.zret (v := _) hx hb hr rfl (fun t9 ht9 _ => ⟨⟨_, _, rfl, ⟨((if_pos c_1).trans (rfl)).symm, rfl⟩, hb9 ht9 hm⟩, hS.F ht9⟩) hS.2.2 dX10_holds_26
  · refine lv_iconst (v := (1 : Int32)) hx hb dX10_holds_21 (by decide) ?_
    refine lv_goto (tgt := 26) hx hb dX10_holds_22 (by decide) ?_
    exact W.zret (v := _) hx hb hr rfl (fun t9 ht9 _ => ⟨⟨_, _, rfl, ⟨((if_neg c_1).trans (rfl)).symm, rfl⟩, hb9 ht9 hm⟩, hS.F ht9⟩) hS.2.2 dX10_holds_26
theorem Tz_holds (v : tw) (x : Int32) (y : Int32) : narrow .boolean (.int (T_holds v x y)) = .int (T_holds v x y) := by
  unfold T_holds
  try dsimp only
  (repeat' split) <;> rfl
def leastF (v : tw) (x : Int32) : Nat → Nat → Int32
  | 0, _ => -1
  | n + 1, k => if T_holds v x (nI k) = 0 then nI k else leastF v x n (k + 1)
theorem least_e1 {Tr : Int32} {v : tw} {x : Int32} {k : Nat} (h : k ≤ 13 ∧ Tr = (if t0 v (((89 : Int32) + x)).toNatClampNeg = 1 then leastF v x (13 - k) k else -1)) (c : (12 : Int32) < nI k) : Tr = -1 := by
  have hk : k = 13 := by
    rcases Nat.lt_or_ge k 13 with h1 | h1
    · rw [i_lt, nI_toInt (by omega)] at c
      have : (12 : Int32).toInt = 12 := by decide
      omega
    · omega
  subst hk
  rw [h.2]
  split <;> rfl
theorem least_e2 {Tr : Int32} {v : tw} {x : Int32} {k : Nat} (h : k ≤ 13 ∧ Tr = (if t0 v (((89 : Int32) + x)).toNatClampNeg = 1 then leastF v x (13 - k) k else -1)) (c : ¬ t0 v (((89 : Int32) + x)).toNatClampNeg = 1) : Tr = -1 := by rw [h.2, if_neg c]
theorem least_lt {k : Nat} (hk : k ≤ 13) (c : ¬ (12 : Int32) < nI k) : k < 13 := by
  rw [i_lt, nI_toInt (by omega)] at c
  have : (12 : Int32).toInt = 12 := by decide
  omega
theorem least_t {Tr : Int32} {v : tw} {x r : Int32} {k : Nat} (h : k ≤ 13 ∧ Tr = (if t0 v (((89 : Int32) + x)).toNatClampNeg = 1 then leastF v x (13 - k) k else -1)) (c : ¬ (12 : Int32) < nI k) (c2 : t0 v (((89 : Int32) + x)).toNatClampNeg = 1) (hr : r = T_holds v x (nI k)) (c3 : r = 0) : Tr = nI k := by
  rw [h.2, if_pos c2, show 13 - k = (13 - (k + 1)) + 1 by have := least_lt h.1 c; omega]
  exact if_pos (hr ▸ c3)
theorem least_s {Tr : Int32} {v : tw} {x r : Int32} {k : Nat} (h : k ≤ 13 ∧ Tr = (if t0 v (((89 : Int32) + x)).toNatClampNeg = 1 then leastF v x (13 - k) k else -1)) (c : ¬ (12 : Int32) < nI k) (c2 : t0 v (((89 : Int32) + x)).toNatClampNeg = 1) (hr : r = T_holds v x (nI k)) (c3 : ¬ r = 0) : k + 1 ≤ 13 ∧ Tr = (if t0 v (((89 : Int32) + x)).toNatClampNeg = 1 then leastF v x (13 - (k + 1)) (k + 1) else -1) := by
  have hk := least_lt h.1 c
  refine ⟨hk, ?_⟩
  rw [h.2, if_pos c2, if_pos c2, show 13 - k = (13 - (k + 1)) + 1 by omega]
  exact if_neg (hr ▸ c3)
def T_leastWind (v : tw) (x : Int32) : Int32 := if t0 v (((89 : Int32) + x)).toNatClampNeg = 1 then leastF v x 13 0 else -1
set_option maxHeartbeats 4000000 in
theorem tm_leastWind (l : Launch) (E : mE) (h : Nat) (v : tw) (x : Int32) (hw : wf (t0 v) (t1 v)) (hx4 : ix 4 x) : Met l yX10_leastWind (ws_ yX10_leastWind cX10_leastWind 3 (some .int)) ({ frames := 1, cells := 0, slots := 0, locals := 22 }) (va_Pc [.ref h, .int x] (tP E h v)) (va_Qi (fun (r : Int32) (u : tw) => r = T_leastWind v x ∧ u = v) (fun u U => tW E h u U.heap) (eA E)) 0 0 (eA E) := by
  refine Met.ofW (cc := cX10_leastWind) (maxL := 3) (ret := (some .int)) (by decide) rfl ?_
  intro p e s m args below meth c s₁ B hml hv
  obtain ⟨rfl, hs, hm⟩ := hv
  have hx := B.exec
  have hb := B.bytes
  have hr := B.returns
  have hts := atoms_spec (ws := ws_ yX10_leastWind cX10_leastWind 3 (some .int)) B.pre
  have hts : ∀ w ∈ lw_all, w.before _ s = true := fun w h => hts w (List.mem_cons_of_mem _ h)
  have hown : s.vm.findClass RX10 = some m.cls := findClass_of_methodNamed B.named
  have hlocks := B.notSynchronized
  have hS : va_S (eA E) s.heap s.heap [] := va_S.rf
  have hl := lv_entry ([.ref h, .int x]) (n := 3) (Nat.le_of_ble_eq_true rfl)
  rw [lg_entry_eq]
  generalize (lg_sl ([.ref h, .int x]) ++ List.replicate (3 - (lg_sl ([.ref h, .int x])).length) Slot.unset).toArray = ls at hl ⊢
  have hl : lv_has ls 3 [(0, .ref (h)), (1, .int (x))] := hl
  refine lv_iconst (v := (0 : Int32)) hx hb dX10_leastWind_0 (by decide) ?_
  refine lv_istore_n (lv' := [(2, _), (0, _), (1, _)]) hx hb dX10_leastWind_1 rfl hl (by decide) rfl (fun ls hl => ?_)
  refine k_loop (fun k => 13 - k) (fun (k : Nat) H locs ls => (k ≤ 13 ∧ T_leastWind v x = (if t0 v (((89 : Int32) + x)).toNatClampNeg = 1 then leastF v x (13 - k) k else -1)) ∧ tW E h (v) H ∧ va_S (eA E) s.heap H locs ∧ lv_has ls 3 [(2, .int (nI k)), (0, .ref (h)), (1, .int (x))]) (fun (k : Nat) ls => F0 m 2 ls []) (fun k => (0, 0)) (fun k ih_1 H locs ls hP => ?_) (0) ⟨⟨by omega, rfl⟩, hm, hS, lv_sub hl [0, 1, 2] rfl⟩
  obtain ⟨hI_1, hm, hS, hl⟩ := hP
  refine lv_iload_n hx hb dX10_leastWind_2 rfl (lv_at hl 0 rfl) ?_
  refine lv_bipush (v := (12 : Int32)) hx hb dX10_leastWind_3 (by decide) ?_
  refine lv_icmp_gt (tgt := 38) hx hb dX10_leastWind_5 (by decide) (fun c_2 => ?_) (fun c_2 => ?_)
  · refine lv_iconst (v := (-1 : Int32)) hx hb dX10_leastWind_38 (by decide) ?_
    exact W.iret (v := _) hx hb hr (fun t9 ht9 _ => ⟨⟨_, _, rfl, ⟨((show T_leastWind v x = (-1 : Int32) by first | exact least_e1 hI_1 c_2 | exact least_e2 hI_1 c_2)).symm, rfl⟩, hb9 ht9 hm⟩, hS.F ht9⟩) hS.2.2 dX10_leastWind_39
  · refine lv_aload_n hx hb dX10_leastWind_8 rfl (lv_at hl 1 rfl) ?_
    refine tg_0 hx hb hts hown hs hm (hts _ q1674) dX10_leastWind_9 ?_
    refine lv_bipush (v := (89 : Int32)) hx hb dX10_leastWind_12 (by decide) ?_
    refine lv_iload_n hx hb dX10_leastWind_14 rfl (lv_at hl 2 rfl) ?_
    refine lv_iadd hx hb dX10_leastWind_15 ?_
    refine tl_0 hx hb hs hm (ix.add 89 112 (hx4) (by decide) (by decide)) dX10_leastWind_16 ?_
    refine lv_iconst (v := (1 : Int32)) hx hb dX10_leastWind_17 (by decide) ?_
    refine lv_icmp_ne (tgt := 38) hx hb dX10_leastWind_18 (by decide) (fun c_3 => ?_) (fun c_3 => ?_)
    · refine lv_iconst (v := (-1 : Int32)) hx hb dX10_leastWind_38 (by decide) ?_
      exact W.iret (v := _) hx hb hr (fun t9 ht9 _ => ⟨⟨_, _, rfl, ⟨((show T_leastWind v x = (-1 : Int32) by first | exact least_e1 hI_1 c_3 | exact least_e2 hI_1 c_3)).symm, rfl⟩, hb9 ht9 hm⟩, hS.F ht9⟩) hS.2.2 dX10_leastWind_39
    · refine lv_aload_n hx hb dX10_leastWind_21 rfl (lv_at hl 1 rfl) ?_
      refine lv_iload_n hx hb dX10_leastWind_22 rfl (lv_at hl 2 rfl) ?_
      refine lv_iload_n hx hb dX10_leastWind_23 rfl (lv_at hl 0 rfl) ?_
      refine k_calli (va_runV (As := [.int (x), .int (nI k)]) (rest := []) ⟨hx, hb, hml, hown, hts⟩ (tm_holds l E h v (x) (nI k) hw hx4) (cwV 2 hts (lw_V q1877 q1879 qs37 q80 q1880) rfl rfl rfl (by decide +kernel) ⟨Nat.le_of_ble_eq_true rfl, Nat.le_of_ble_eq_true rfl⟩) (k_preVt hs hm hS) rfl rfl hl.1 rfl (lv_room (Nat.le_of_ble_eq_true rfl)) dX10_leastWind_24 ⟨Nat.le_of_ble_eq_true rfl, Nat.le_of_ble_eq_true rfl⟩) hS (fun r_4 u_4 H9 locs hw_4 hm_4 hS => ?_)
      obtain ⟨hr_4, hu_4⟩ := hw_4
      replace hu_4 := hu_4.symm
      subst hu_4
      have hm := hm_4
      refine lv_if_ne (tgt := 32) hx hb dX10_leastWind_27 (by decide) (fun c_5 => ?_) (fun c_5 => ?_)
      · refine lv_iinc (v := nI (k + 1)) (lv' := [(2, _), (0, _), (1, _)]) hx hb dX10_leastWind_32 hl (k := 0) rfl (nI_succ k).symm (by decide) rfl (fun ls hl => ?_)
        refine lv_goto (tgt := 2) hx hb dX10_leastWind_35 (by decide) ?_
        exact ih_1 (k + 1) (by have := least_lt hI_1.1 c_2; omega) _ _ _ ⟨least_s hI_1 c_2 c_3 hr_4 c_5, hm, hS, lv_sub hl [0, 1, 2] rfl⟩
      · refine lv_iload_n hx hb dX10_leastWind_30 rfl (lv_at hl 0 rfl) ?_
        have hT := least_t hI_1 c_2 c_3 hr_4 c_5
        subst hr_4
        exact W.iret (v := _) hx hb hr (fun t9 ht9 _ => ⟨⟨_, _, rfl, ⟨(hT).symm, rfl⟩, hb9 ht9 hm⟩, hS.F ht9⟩) hS.2.2 dX10_leastWind_31
theorem shedOf_in {x y : Int32} (hx : ix 4 x) (hy : y = 0 ∨ y = 1 ∨ y = 2) : vp_in (((81 : Int32) + ((4 : Int32) * y)) + x) 112 := by
  have hy3 : ix 3 y := by rcases hy with rfl | rfl | rfl
                          · exact ⟨0, by decide, rfl⟩
                          · exact ⟨1, by decide, rfl⟩
                          · exact ⟨2, by decide, rfl⟩
  exact ix.two 81 4 112 hy3 hx (by decide) (by decide)
def T_shedOf (v : tw) (x : Int32) (y : Int32) : Int32 × tw :=
  let r_1 := T_isShed v (x);
  if r_1 = 0 then
    ((0 : Int32), (T_fails v (1 : Int32)).2)
  else
    if y = (0 : Int32) then
      ((t0 v ((((81 : Int32) + ((4 : Int32) * y)) + x)).toNatClampNeg), (u18 v (0 : Int32)))
    else
      if y = (1 : Int32) then
        ((t0 v ((((81 : Int32) + ((4 : Int32) * y)) + x)).toNatClampNeg), (u18 v (0 : Int32)))
      else
        if y = (2 : Int32) then
          ((t0 v ((((81 : Int32) + ((4 : Int32) * y)) + x)).toNatClampNeg), (u18 v (0 : Int32)))
        else
          if y = (3 : Int32) then
            let r_10 := T_leastWind v (x);
            (r_10, (u18 v (0 : Int32)))
          else
            ((0 : Int32), (T_fails v (2 : Int32)).2)
set_option maxHeartbeats 4000000 in
theorem tm_shedOf (l : Launch) (E : mE) (h : Nat) (v : tw) (x : Int32) (y : Int32) (hw : wf (t0 v) (t1 v)) : Met l yX10_shedOf (ws_ yX10_shedOf cX10_shedOf 3 (some .int)) ({ frames := 2, cells := 0, slots := 0, locals := 44 }) (va_Pc [.ref h, .int x, .int y] (tP E h v)) (va_Qi (fun (r : Int32) (u : tw) => r = (T_shedOf v x y).1 ∧ u = (T_shedOf v x y).2) (fun u U => tW E h u U.heap) (eA E)) 0 0 (eA E) := by
  refine Met.ofW (cc := cX10_shedOf) (maxL := 3) (ret := (some .int)) (by decide) rfl ?_
  intro p e s m args below meth c s₁ B hml hv
  obtain ⟨rfl, hs, hm⟩ := hv
  have hx := B.exec
  have hb := B.bytes
  have hr := B.returns
  have hts := atoms_spec (ws := ws_ yX10_shedOf cX10_shedOf 3 (some .int)) B.pre
  have hts : ∀ w ∈ lw_all, w.before _ s = true := fun w h => hts w (List.mem_cons_of_mem _ h)
  have hown : s.vm.findClass RX10 = some m.cls := findClass_of_methodNamed B.named
  have hlocks := B.notSynchronized
  have hS : va_S (eA E) s.heap s.heap [] := va_S.rf
  have hl := lv_entry ([.ref h, .int x, .int y]) (n := 3) (Nat.le_of_ble_eq_true rfl)
  rw [lg_entry_eq]
  generalize (lg_sl ([.ref h, .int x, .int y]) ++ List.replicate (3 - (lg_sl ([.ref h, .int x, .int y])).length) Slot.unset).toArray = ls at hl ⊢
  have hl : lv_has ls 3 [(0, .ref (h)), (1, .int (x)), (2, .int (y))] := hl
  refine lv_aload_n hx hb dX10_shedOf_0 rfl (lv_at hl 0 rfl) ?_
  refine lv_iload_n hx hb dX10_shedOf_1 rfl (lv_at hl 1 rfl) ?_
  refine k_calli (va_runV (As := [.int (x)]) (rest := []) ⟨hx, hb, hml, hown, hts⟩ (tm_isShed l E h v (x) ) (cwV 1 hts (lw_V q1946 q1948 qs42 q80 q1949) rfl rfl rfl (by decide +kernel) ⟨Nat.le_of_ble_eq_true rfl, Nat.le_of_ble_eq_true rfl⟩) (k_preVt hs hm hS) rfl rfl hl.1 rfl (lv_room (Nat.le_of_ble_eq_true rfl)) dX10_shedOf_2 ⟨Nat.le_of_ble_eq_true rfl, Nat.le_of_ble_eq_true rfl⟩) hS (fun r_1 u_1 H9 locs hw_1 hm_1 hS => ?_)
  obtain ⟨hr_1, hu_1⟩ := hw_1
  replace hu_1 := hu_1.symm
  subst hu_1
  have hm := hm_1
  refine lv_if_ne (tgt := 14) hx hb dX10_shedOf_5 (by decide) (fun c_2 => ?_) (fun c_2 => ?_)
  · have hx4 := shed_ix hr_1 c_2 hw
    refine lv_iload_n hx hb dX10_shedOf_14 rfl (lv_at hl 2 rfl) ?_
    by_cases c_3 : y = (0 : Int32)
    · refine lv_tableIn (off := 29) (tgt := 44) hx hb dX10_shedOf_15 (by rw [c_3]; decide) (by rw [c_3]; decide) (by rw [c_3]; rfl) (by decide) ?_
      refine lv_aload_n hx hb dX10_shedOf_44 rfl (lv_at hl 0 rfl) ?_
      refine lv_aload_n hx hb dX10_shedOf_45 rfl (lv_at hl 0 rfl) ?_
      refine tg_0 hx hb hts hown hs hm (hts _ q1674) dX10_shedOf_46 ?_
      refine lv_bipush (v := (81 : Int32)) hx hb dX10_shedOf_49 (by decide) ?_
      refine lv_iconst (v := (4 : Int32)) hx hb dX10_shedOf_51 (by decide) ?_
      refine lv_iload_n hx hb dX10_shedOf_52 rfl (lv_at hl 2 rfl) ?_
      refine lv_imul hx hb dX10_shedOf_53 ?_
      refine lv_iadd hx hb dX10_shedOf_54 ?_
      refine lv_iload_n hx hb dX10_shedOf_55 rfl (lv_at hl 1 rfl) ?_
      refine lv_iadd hx hb dX10_shedOf_56 ?_
      refine tl_0 hx hb hs hm (shedOf_in hx4 (by first | exact Or.inl c_3 | exact Or.inr (Or.inl c_3) | exact Or.inr (Or.inr c_3))) dX10_shedOf_57 ?_
      refine k_calli (va_runV (As := [.int ((t0 v ((((81 : Int32) + ((4 : Int32) * y)) + x)).toNatClampNeg))]) (rest := []) ⟨hx, hb, hml, hown, hts⟩ (tm_done l E h v ((t0 v ((((81 : Int32) + ((4 : Int32) * y)) + x)).toNatClampNeg)) ) (cwV 1 hts (lw_V q1770 q1772 qs24 q80 q1773) rfl rfl rfl (by decide +kernel) ⟨Nat.le_of_ble_eq_true rfl, Nat.le_of_ble_eq_true rfl⟩) (k_preVt hs hm hS) rfl rfl hl.1 rfl (lv_room (Nat.le_of_ble_eq_true rfl)) dX10_shedOf_58 ⟨Nat.le_of_ble_eq_true rfl, Nat.le_of_ble_eq_true rfl⟩) hS (fun r_7 u_7 H9 locs hw_7 hm_7 hS => ?_)
      replace hw_7 : r_7 = (t0 v ((((81 : Int32) + ((4 : Int32) * y)) + x)).toNatClampNeg) ∧ u_7 = (u18 v (0 : Int32)) := hw_7
      obtain ⟨hr_7, hw_7⟩ := hw_7
      replace hr_7 := hr_7.symm
      subst hr_7
      replace hw_7 := hw_7.symm
      subst hw_7
      have hm := hm_7
      subst hr_1
      exact W.iret (v := _) hx hb hr (fun t9 ht9 _ => ⟨⟨_, _, rfl, pp ((if_neg c_2).trans ((if_pos c_3).trans (rfl))), hb9 ht9 hm⟩, hS.F ht9⟩) hS.2.2 dX10_shedOf_61
    · by_cases c_4 : y = (1 : Int32)
      · refine lv_tableIn (off := 29) (tgt := 44) hx hb dX10_shedOf_15 (by rw [c_4]; decide) (by rw [c_4]; decide) (by rw [c_4]; rfl) (by decide) ?_
        refine lv_aload_n hx hb dX10_shedOf_44 rfl (lv_at hl 0 rfl) ?_
        refine lv_aload_n hx hb dX10_shedOf_45 rfl (lv_at hl 0 rfl) ?_
        refine tg_0 hx hb hts hown hs hm (hts _ q1674) dX10_shedOf_46 ?_
        refine lv_bipush (v := (81 : Int32)) hx hb dX10_shedOf_49 (by decide) ?_
        refine lv_iconst (v := (4 : Int32)) hx hb dX10_shedOf_51 (by decide) ?_
        refine lv_iload_n hx hb dX10_shedOf_52 rfl (lv_at hl 2 rfl) ?_
        refine lv_imul hx hb dX10_shedOf_53 ?_
        refine lv_iadd hx hb dX10_shedOf_54 ?_
        refine lv_iload_n hx hb dX10_shedOf_55 rfl (lv_at hl 1 rfl) ?_
        refine lv_iadd hx hb dX10_shedOf_56 ?_
        refine tl_0 hx hb hs hm (shedOf_in hx4 (by first | exact Or.inl c_4 | exact Or.inr (Or.inl c_4) | exact Or.inr (Or.inr c_4))) dX10_shedOf_57 ?_
        refine k_calli (va_runV (As := [.int ((t0 v ((((81 : Int32) + ((4 : Int32) * y)) + x)).toNatClampNeg))]) (rest := []) ⟨hx, hb, hml, hown, hts⟩ (tm_done l E h v ((t0 v ((((81 : Int32) + ((4 : Int32) * y)) + x)).toNatClampNeg)) ) (cwV 1 hts (lw_V q1770 q1772 qs24 q80 q1773) rfl rfl rfl (by decide +kernel) ⟨Nat.le_of_ble_eq_true rfl, Nat.le_of_ble_eq_true rfl⟩) (k_preVt hs hm hS) rfl rfl hl.1 rfl (lv_room (Nat.le_of_ble_eq_true rfl)) dX10_shedOf_58 ⟨Nat.le_of_ble_eq_true rfl, Nat.le_of_ble_eq_true rfl⟩) hS (fun r_8 u_8 H9 locs hw_8 hm_8 hS => ?_)
        replace hw_8 : r_8 = (t0 v ((((81 : Int32) + ((4 : Int32) * y)) + x)).toNatClampNeg) ∧ u_8 = (u18 v (0 : Int32)) := hw_8
        obtain ⟨hr_8, hw_8⟩ := hw_8
        replace hr_8 := hr_8.symm
        subst hr_8
        replace hw_8 := hw_8.symm
        subst hw_8
        have hm := hm_8
        subst hr_1
        exact W.iret (v := _) hx hb hr (fun t9 ht9 _ => ⟨⟨_, _, rfl, pp ((if_neg c_2).trans ((if_neg c_3).trans ((if_pos c_4).trans (rfl)))), hb9 ht9 hm⟩, hS.F ht9⟩) hS.2.2 dX10_shedOf_61
      · by_cases c_5 : y = (2 : Int32)
        · refine lv_tableIn (off := 29) (tgt := 44) hx hb dX10_shedOf_15 (by rw [c_5]; decide) (by rw [c_5]; decide) (by rw [c_5]; rfl) (by decide) ?_
          refine lv_aload_n hx hb dX10_shedOf_44 rfl (lv_at hl 0 rfl) ?_
          refine lv_aload_n hx hb dX10_shedOf_45 rfl (lv_at hl 0 rfl) ?_
          refine tg_0 hx hb hts hown hs hm (hts _ q1674) dX10_shedOf_46 ?_
          refine lv_bipush (v := (81 : Int32)) hx hb dX10_shedOf_49 (by decide) ?_
          refine lv_iconst (v := (4 : Int32)) hx hb dX10_shedOf_51 (by decide) ?_
          refine lv_iload_n hx hb dX10_shedOf_52 rfl (lv_at hl 2 rfl) ?_
          refine lv_imul hx hb dX10_shedOf_53 ?_
          refine lv_iadd hx hb dX10_shedOf_54 ?_
          refine lv_iload_n hx hb dX10_shedOf_55 rfl (lv_at hl 1 rfl) ?_
          refine lv_iadd hx hb dX10_shedOf_56 ?_
          refine tl_0 hx hb hs hm (shedOf_in hx4 (by first | exact Or.inl c_5 | exact Or.inr (Or.inl c_5) | exact Or.inr (Or.inr c_5))) dX10_shedOf_57 ?_
          refine k_calli (va_runV (As := [.int ((t0 v ((((81 : Int32) + ((4 : Int32) * y)) + x)).toNatClampNeg))]) (rest := []) ⟨hx, hb, hml, hown, hts⟩ (tm_done l E h v ((t0 v ((((81 : Int32) + ((4 : Int32) * y)) + x)).toNatClampNeg)) ) (cwV 1 hts (lw_V q1770 q1772 qs24 q80 q1773) rfl rfl rfl (by decide +kernel) ⟨Nat.le_of_ble_eq_true rfl, Nat.le_of_ble_eq_true rfl⟩) (k_preVt hs hm hS) rfl rfl hl.1 rfl (lv_room (Nat.le_of_ble_eq_true rfl)) dX10_shedOf_58 ⟨Nat.le_of_ble_eq_true rfl, Nat.le_of_ble_eq_true rfl⟩) hS (fun r_9 u_9 H9 locs hw_9 hm_9 hS => ?_)
          replace hw_9 : r_9 = (t0 v ((((81 : Int32) + ((4 : Int32) * y)) + x)).toNatClampNeg) ∧ u_9 = (u18 v (0 : Int32)) := hw_9
          obtain ⟨hr_9, hw_9⟩ := hw_9
          replace hr_9 := hr_9.symm
          subst hr_9
          replace hw_9 := hw_9.symm
          subst hw_9
          have hm := hm_9
          subst hr_1
          exact W.iret (v := _) hx hb hr (fun t9 ht9 _ => ⟨⟨_, _, rfl, pp ((if_neg c_2).trans ((if_neg c_3).trans ((if_neg c_4).trans ((if_pos c_5).trans (rfl))))), hb9 ht9 hm⟩, hS.F ht9⟩) hS.2.2 dX10_shedOf_61
        · by_cases c_6 : y = (3 : Int32)
          · refine lv_tableIn (off := 47) (tgt := 62) hx hb dX10_shedOf_15 (by rw [c_6]; decide) (by rw [c_6]; decide) (by rw [c_6]; rfl) (by decide) ?_
            refine lv_aload_n hx hb dX10_shedOf_62 rfl (lv_at hl 0 rfl) ?_
            refine lv_aload_n hx hb dX10_shedOf_63 rfl (lv_at hl 0 rfl) ?_
            refine lv_iload_n hx hb dX10_shedOf_64 rfl (lv_at hl 1 rfl) ?_
            refine k_calli (va_runV (As := [.int (x)]) (rest := [.ref (h)]) ⟨hx, hb, hml, hown, hts⟩ (tm_leastWind l E h v (x) hw hx4) (cwV 1 hts (lw_V q1954 q1956 qs43 q80 q1957) rfl rfl rfl (by decide +kernel) ⟨Nat.le_of_ble_eq_true rfl, Nat.le_of_ble_eq_true rfl⟩) (k_preVt hs hm hS) rfl rfl hl.1 rfl (lv_room (Nat.le_of_ble_eq_true rfl)) dX10_shedOf_65 ⟨Nat.le_of_ble_eq_true rfl, Nat.le_of_ble_eq_true rfl⟩) hS (fun r_10 u_10 H9 locs hw_10 hm_10 hS => ?_)
            obtain ⟨hr_10, hu_10⟩ := hw_10
            replace hu_10 := hu_10.symm
            subst hu_10
            have hm := hm_10
            refine k_calli (va_runV (As := [.int (r_10)]) (rest := []) ⟨hx, hb, hml, hown, hts⟩ (tm_done l E h v (r_10) ) (cwV 1 hts (lw_V q1770 q1772 qs24 q80 q1773) rfl rfl rfl (by decide +kernel) ⟨Nat.le_of_ble_eq_true rfl, Nat.le_of_ble_eq_true rfl⟩) (k_preVt hs hm hS) rfl rfl hl.1 rfl (lv_room (Nat.le_of_ble_eq_true rfl)) dX10_shedOf_68 ⟨Nat.le_of_ble_eq_true rfl, Nat.le_of_ble_eq_true rfl⟩) hS (fun r_11 u_11 H9 locs hw_11 hm_11 hS => ?_)
            replace hw_11 : r_11 = r_10 ∧ u_11 = (u18 v (0 : Int32)) := hw_11
            obtain ⟨hr_11, hw_11⟩ := hw_11
            replace hr_11 := hr_11.symm
            subst hr_11
            replace hw_11 := hw_11.symm
            subst hw_11
            have hm := hm_11
            subst hr_10
            subst hr_1
            exact W.iret (v := _) hx hb hr (fun t9 ht9 _ => ⟨⟨_, _, rfl, pp ((if_neg c_2).trans ((if_neg c_3).trans ((if_neg c_4).trans ((if_neg c_5).trans ((if_pos c_6).trans (rfl)))))), hb9 ht9 hm⟩, hS.F ht9⟩) hS.2.2 dX10_shedOf_71
          · refine lv_tableOut (tgt := 72) hx hb dX10_shedOf_15 (sw_out _ 4 (by decide) (k_sw4 c_3 c_4 c_5 c_6) rfl) (by decide) ?_
            refine lv_aload_n hx hb dX10_shedOf_72 rfl (lv_at hl 0 rfl) ?_
            refine lv_iconst (v := (2 : Int32)) hx hb dX10_shedOf_73 (by decide) ?_
            refine k_calli (va_runV (As := [.int ((2 : Int32))]) (rest := []) ⟨hx, hb, hml, hown, hts⟩ (tm_fails l E h v ((2 : Int32)) ) (cwV 1 hts (lw_V q1766 q1768 qs23 q80 q1769) rfl rfl rfl (by decide +kernel) ⟨Nat.le_of_ble_eq_true rfl, Nat.le_of_ble_eq_true rfl⟩) (k_preVt hs hm hS) rfl rfl hl.1 rfl (lv_room (Nat.le_of_ble_eq_true rfl)) dX10_shedOf_74 ⟨Nat.le_of_ble_eq_true rfl, Nat.le_of_ble_eq_true rfl⟩) hS (fun r_12 u_12 H9 locs hw_12 hm_12 hS => ?_)
            replace hw_12 : r_12 = (0 : Int32) ∧ u_12 = (T_fails v (2 : Int32)).2 := hw_12
            obtain ⟨hr_12, hw_12⟩ := hw_12
            replace hr_12 := hr_12.symm
            subst hr_12
            replace hw_12 := hw_12.symm
            subst hw_12
            have hm := hm_12
            subst hr_1
            exact W.iret (v := _) hx hb hr (fun t9 ht9 _ => ⟨⟨_, _, rfl, pp ((if_neg c_2).trans ((if_neg c_3).trans ((if_neg c_4).trans ((if_neg c_5).trans ((if_neg c_6).trans (rfl)))))), hb9 ht9 hm⟩, hS.F ht9⟩) hS.2.2 dX10_shedOf_77
  · refine lv_aload_n hx hb dX10_shedOf_8 rfl (lv_at hl 0 rfl) ?_
    refine lv_iconst (v := (1 : Int32)) hx hb dX10_shedOf_9 (by decide) ?_
    refine k_calli (va_runV (As := [.int ((1 : Int32))]) (rest := []) ⟨hx, hb, hml, hown, hts⟩ (tm_fails l E h v ((1 : Int32)) ) (cwV 1 hts (lw_V q1766 q1768 qs23 q80 q1769) rfl rfl rfl (by decide +kernel) ⟨Nat.le_of_ble_eq_true rfl, Nat.le_of_ble_eq_true rfl⟩) (k_preVt hs hm hS) rfl rfl hl.1 rfl (lv_room (Nat.le_of_ble_eq_true rfl)) dX10_shedOf_10 ⟨Nat.le_of_ble_eq_true rfl, Nat.le_of_ble_eq_true rfl⟩) hS (fun r_13 u_13 H9 locs hw_13 hm_13 hS => ?_)
    replace hw_13 : r_13 = (0 : Int32) ∧ u_13 = (T_fails v (1 : Int32)).2 := hw_13
    obtain ⟨hr_13, hw_13⟩ := hw_13
    replace hr_13 := hr_13.symm
    subst hr_13
    replace hw_13 := hw_13.symm
    subst hw_13
    have hm := hm_13
    subst hr_1
    exact W.iret (v := _) hx hb hr (fun t9 ht9 _ => ⟨⟨_, _, rfl, pp ((if_pos c_2).trans (rfl)), hb9 ht9 hm⟩, hS.F ht9⟩) hS.2.2 dX10_shedOf_13
def T_butt (v : tw) (x : Int32) : UInt32 × tw :=
  let r_1 := T_isShed v (x);
  let x3 := if r_1 = 0 then (1 : Int32) else (0 : Int32);
  if x3 = 0 then
    ((t1 v (((24 : Int32) + x)).toNatClampNeg), (u18 v x3))
  else
    (FP.fconst0, (u18 v x3))
set_option maxHeartbeats 4000000 in
theorem tm_butt (l : Launch) (E : mE) (h : Nat) (v : tw) (x : Int32) (hw : wf (t0 v) (t1 v)) : Met l yX10_butt (ws_ yX10_butt cX10_butt 2 (some .float)) ({ frames := 2, cells := 0, slots := 0, locals := 43 }) (va_Pc [.ref h, .int x] (tP E h v)) (va_Qf (fun (r : UInt32) (u : tw) => r = (T_butt v x).1 ∧ u = (T_butt v x).2) (fun u U => tW E h u U.heap) (eA E)) 0 0 (eA E) := by
  refine Met.ofW (cc := cX10_butt) (maxL := 2) (ret := (some .float)) (by decide) rfl ?_
  intro p e s m args below meth c s₁ B hml hv
  obtain ⟨rfl, hs, hm⟩ := hv
  have hx := B.exec
  have hb := B.bytes
  have hr := B.returns
  have hts := atoms_spec (ws := ws_ yX10_butt cX10_butt 2 (some .float)) B.pre
  have hts : ∀ w ∈ lw_all, w.before _ s = true := fun w h => hts w (List.mem_cons_of_mem _ h)
  have hown : s.vm.findClass RX10 = some m.cls := findClass_of_methodNamed B.named
  have hlocks := B.notSynchronized
  have hS : va_S (eA E) s.heap s.heap [] := va_S.rf
  have hl := lv_entry ([.ref h, .int x]) (n := 2) (Nat.le_of_ble_eq_true rfl)
  rw [lg_entry_eq]
  generalize (lg_sl ([.ref h, .int x]) ++ List.replicate (2 - (lg_sl ([.ref h, .int x])).length) Slot.unset).toArray = ls at hl ⊢
  have hl : lv_has ls 2 [(0, .ref (h)), (1, .int (x))] := hl
  refine lv_aload_n hx hb dX10_butt_0 rfl (lv_at hl 0 rfl) ?_
  refine lv_aload_n hx hb dX10_butt_1 rfl (lv_at hl 0 rfl) ?_
  refine lv_iload_n hx hb dX10_butt_2 rfl (lv_at hl 1 rfl) ?_
  refine k_calli (va_runV (As := [.int (x)]) (rest := [.ref (h)]) ⟨hx, hb, hml, hown, hts⟩ (tm_isShed l E h v (x) ) (cwV 1 hts (lw_V q1946 q1948 qs42 q80 q1949) rfl rfl rfl (by decide +kernel) ⟨Nat.le_of_ble_eq_true rfl, Nat.le_of_ble_eq_true rfl⟩) (k_preVt hs hm hS) rfl rfl hl.1 rfl (lv_room (Nat.le_of_ble_eq_true rfl)) dX10_butt_3 ⟨Nat.le_of_ble_eq_true rfl, Nat.le_of_ble_eq_true rfl⟩) hS (fun r_1 u_1 H9 locs hw_1 hm_1 hS => ?_)
  obtain ⟨hr_1, hu_1⟩ := hw_1
  replace hu_1 := hu_1.symm
  subst hu_1
  have hm := hm_1
  refine k_join (fun (x3 : Int32) H locs ls => x3 = (if r_1 = 0 then (1 : Int32) else (0 : Int32)) ∧ tW E h (v) H ∧ va_S (eA E) s.heap H locs ∧ lv_has ls 2 [(0, .ref (h)), (1, .int (x))]) (fun (x3 : Int32) ls => F0 m 14 ls [.int (x3), .ref (h)]) (fun x3 H locs ls hJ => ?_) (fun J3 => ?_)
  · obtain ⟨hX3, hm, hS, hl⟩ := hJ
    refine tp_18 hx hb hts hown hs hm hS (hts _ q1692) dX10_butt_14 (fun H locs hm hS => ?_)
    have hm : tW E h (u18 v x3) H := hm
    refine lv_aload_n hx hb dX10_butt_17 rfl (lv_at hl 0 rfl) ?_
    refine tg_18 hx hb hts hown hs hm (hts _ q1692) dX10_butt_18 ?_
    refine lv_if_ne (tgt := 36) hx hb dX10_butt_21 (by decide) (fun c_4 => ?_) (fun c_4 => ?_)
    · refine lv_fconst0 hx hb dX10_butt_36 ?_
      subst hX3
      subst hr_1
      exact W.fret (v := _) hx hb hr (fun t9 ht9 _ => ⟨⟨_, _, rfl, pp ((if_neg c_4).trans (rfl)), hb9 ht9 hm⟩, hS.F ht9⟩) hS.2.2 dX10_butt_37
    · have hx4 : ix 4 x := shed_ix hr_1 (fun z => by rw [if_pos z] at hX3; exact absurd (hX3.symm.trans c_4) (by decide)) hw
      refine lv_aload_n hx hb dX10_butt_24 rfl (lv_at hl 0 rfl) ?_
      refine tg_1 hx hb hts hown hs hm (hts _ q1675) dX10_butt_25 ?_
      refine lv_bipush (v := (24 : Int32)) hx hb dX10_butt_28 (by decide) ?_
      refine lv_iload_n hx hb dX10_butt_30 rfl (lv_at hl 1 rfl) ?_
      refine lv_iadd hx hb dX10_butt_31 ?_
      refine tl_1 hx hb hs hm (ix.add 24 33 (hx4) (by decide) (by decide)) dX10_butt_32 ?_
      refine lv_goto (tgt := 37) hx hb dX10_butt_33 (by decide) ?_
      subst hX3
      subst hr_1
      exact W.fret (v := _) hx hb hr (fun t9 ht9 _ => ⟨⟨_, _, rfl, pp ((if_pos c_4).trans (rfl)), hb9 ht9 hm⟩, hS.F ht9⟩) hS.2.2 dX10_butt_37
  · refine lv_if_eq (tgt := 13) hx hb dX10_butt_6 (by decide) (fun c_2 => ?_) (fun c_2 => ?_)
    · refine lv_iconst (v := (1 : Int32)) hx hb dX10_butt_13 (by decide) ?_
      exact J3 ((1 : Int32)) _ _ _ ⟨((if_pos c_2).trans (rfl)).symm, hm, hS, lv_sub hl [0, 1] rfl⟩
    · refine lv_iconst (v := (0 : Int32)) hx hb dX10_butt_9 (by decide) ?_
      refine lv_goto (tgt := 14) hx hb dX10_butt_10 (by decide) ?_
      exact J3 ((0 : Int32)) _ _ _ ⟨((if_neg c_2).trans (rfl)).symm, hm, hS, lv_sub hl [0, 1] rfl⟩

