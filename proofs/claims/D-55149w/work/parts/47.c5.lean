set_option maxRecDepth 100000
/-! the class: votes, the heaviest crop -/
def C2_vote (t : mt) (M : mm) (c : Nat) (x : Int32) (y : Int32) : Int32 × mm :=
  let x2 := if y = 0 then (-1 : Int32) else (1 : Int32);
  let r_3 := C2_votes t (sI M 501 (c + 48 + (x).toNatClampNeg) x2) (c) ;
  (r_3, (sI M 501 (c + 48 + (x).toNatClampNeg) x2))
set_option maxHeartbeats 4000000 in
theorem cm2_vote (l : Launch) (E : mE) (t : mt) (M : mm) (c : Nat) (x : Int32) (y : Int32) (hL : lay t c) (hn : ix 7 (gI M 211 c)) (hx1 : ix 6 x) : Met l yX2_vote (ws_ yX2_vote cX2_vote 3 (some .int)) ({ frames := 1, cells := 0, slots := 0, locals := 22 }) (va_Pc [.ref c, .int x, .int y] (wP E t M)) (va_Qi (fun (r : Int32) (u : mm) => r = ((C2_vote t M c x y).1) ∧ u = (C2_vote t M c x y).2) (fun u U => mw E t u U.heap) (eA E)) 0 0 (eA E) := by
  refine Met.ofW (cc := cX2_vote) (maxL := 3) (ret := (some .int)) (by decide) rfl ?_
  intro p e s m args below meth c0 s₁ B hml hv
  obtain ⟨rfl, hs, hm⟩ := hv
  have hx := B.exec
  have hb := B.bytes
  have hr := B.returns
  have hts := atoms_spec (ws := ws_ yX2_vote cX2_vote 3 (some .int)) B.pre
  have hts : ∀ w ∈ lw_all, w.before _ s = true := fun w h => hts w (List.mem_cons_of_mem _ h)
  have hown : s.vm.findClass RX2 = some m.cls := findClass_of_methodNamed B.named
  have hlocks := B.notSynchronized
  have hS : va_S (eA E) s.heap s.heap [] := va_S.rf
  have hl := lv_entry ([.ref c, .int x, .int y]) (n := 3) (Nat.le_of_ble_eq_true rfl)
  rw [lg_entry_eq]
  generalize (lg_sl ([.ref c, .int x, .int y]) ++ List.replicate (3 - (lg_sl ([.ref c, .int x, .int y])).length) Slot.unset).toArray = ls at hl ⊢
  have hl : lv_has ls 3 [(0, .ref (c)), (1, .int (x)), (2, .int (y))] := hl
  refine lv_aload_n hx hb dX2_vote_0 rfl (lv_at hl 0 rfl) ?_
  refine gf_208 hx hb hts hown hs hm (lay.z hL) (hts _ q239) dX2_vote_1 ?_
  refine lv_iload_n hx hb dX2_vote_4 rfl (lv_at hl 1 rfl) ?_
  refine k_mem hx hb hs hm (lay.a9 hL) (k := (x).toNatClampNeg) rfl (ix.at (B := 6) ((hx1).mono (by decide)) (by decide)) dX2_vote_5 ?_
  refine lv_iload_n hx hb dX2_vote_6 rfl (lv_at hl 2 rfl) ?_
  refine k_join (fun (x2 : Int32) H locs ls => x2 = (if y = 0 then (-1 : Int32) else (1 : Int32)) ∧ mw E t (M) H ∧ va_S (eA E) s.heap H locs ∧ lv_has ls 3 [(0, .ref (c)), (1, .int (x)), (2, .int (y))]) (fun (x2 : Int32) ls => F0 m 15 ls [.int (x2), .ref ((c + 48 + (x).toNatClampNeg))]) (fun x2 H locs ls hJ => ?_) (fun J2 => ?_)
  · obtain ⟨hX2, hm, hS, hl⟩ := hJ
    refine pfN_501 hx hb hts hown hs hm hS (lay.mem hL (ix.nlt ((hx1).mono (by decide)))) q167 dX2_vote_15 (fun H locs hm hS => ?_)
    have hm : mw E t ((sI M 501 (c + 48 + (x).toNatClampNeg) x2)) H := hm
    refine lv_aload_n hx hb dX2_vote_18 rfl (lv_at hl 0 rfl) ?_
    refine k_calli (va_runV (As := []) (rest := []) ⟨hx, hb, hml, hown, hts⟩ (cm2_votes l E t (sI M 501 (c + 48 + (x).toNatClampNeg) x2)  (c)  hL hn) (cwV 0 hts (lw_V q634 q635 q636 q59 q637) rfl rfl rfl (by decide +kernel) ⟨Nat.le_of_ble_eq_true rfl, Nat.le_of_ble_eq_true rfl⟩) (k_preV hs hm hS (mw.recv hs hm (mt_ne (lay.z hL) (by decide)) (ct2 (lay.z hL)) rfl)) rfl rfl hl.1 rfl (lv_room (Nat.le_of_ble_eq_true rfl)) dX2_vote_19 ⟨Nat.le_of_ble_eq_true rfl, Nat.le_of_ble_eq_true rfl⟩) hS (fun r_3 u_3 H locs hw_3 hm_3 hS => ?_)
    obtain ⟨hr_3, hu_3⟩ := hw_3
    replace hu_3 := hu_3.symm
    subst hu_3
    have hm := hm_3
    subst hr_3
    subst hX2
    exact W.iret (v := _) hx hb hr (fun t9 ht9 _ => ⟨⟨_, _, rfl, pp (rfl), hb9 ht9 hm⟩, hS.F ht9⟩) hS.2.2 dX2_vote_22
  · refine lv_if_eq (tgt := 14) hx hb dX2_vote_7 (by decide) (fun c_1 => ?_) (fun c_1 => ?_)
    · refine lv_iconst (v := (-1 : Int32)) hx hb dX2_vote_14 (by decide) ?_
      exact J2 ((-1 : Int32)) _ _ _ ⟨((if_pos c_1).trans (rfl)).symm, hm, hS, lv_sub hl [0, 1, 2] rfl⟩
    · refine lv_iconst (v := (1 : Int32)) hx hb dX2_vote_10 (by decide) ?_
      refine lv_goto (tgt := 15) hx hb dX2_vote_11 (by decide) ?_
      exact J2 ((1 : Int32)) _ _ _ ⟨((if_neg c_1).trans (rfl)).symm, hm, hS, lv_sub hl [0, 1, 2] rfl⟩
def S_count (t : mt) (M : mm) (c : Nat) (z : Int32 × mm) (k : Nat) : Int32 × mm :=
  let x9 := if (aI z.2 (c + 3) k) = (-1 : Int32) then (0 : Int32) else (if (aI z.2 (c + 2) k) < (2 : Int32) then (aI z.2 (c + 2) k) else (2 : Int32));
  ((z.1 + x9), (wI z.2 (c + 2) (upd (aI z.2 (c + 2)) k ((aI z.2 (c + 2) k) - x9))))
def L_count (t : mt) (M : mm) (c : Nat) : Nat → Int32 × mm
  | 0 => ((0 : Int32), M)
  | k + 1 => S_count t M c (L_count t M c k) k
  termination_by k => k
theorem L_count_0 (t : mt) (M : mm) (c : Nat) : L_count t M c 0 = ((0 : Int32), M) := by rw [L_count]
theorem L_count_s (t : mt) (M : mm) (c : Nat) (k : Nat) : L_count t M c (k + 1) = S_count t M c (L_count t M c k) k := by rw [L_count]
theorem L_count_g (t : mt) (M : mm) (c f b : Nat) : ∀ k, gI (L_count t M c k).2 f b = gI M f b
  | 0 => by rw [L_count_0]
  | k + 1 => by rw [L_count_s]; exact L_count_g t M c f b k
theorem cnt_n {t : mt} {M : mm} {c : Nat} {r : Int32} {x : Int32 × mm} (hn : ix 7 (gI M 211 c)) (h : x = if r ≤ 0 then ((0 : Int32), M) else ((L_count t M c 12).1, (L_count t M c 12).2)) : ix 7 (gI x.2 211 c) := by
  rw [h]
  split
  · exact hn
  · rw [show gI ((L_count t M c 12).1, (L_count t M c 12).2).2 211 c = _ from L_count_g t M c 211 c 12]; exact hn
def S_cz (t : mt) (M : mm) (c : Nat) (z : mm) (k : Nat) : mm :=
  (sI z 501 (c + 48 + k) (0 : Int32))
def L_cz (t : mt) (M : mm) (c : Nat) : Nat → mm
  | 0 => M
  | k + 1 => S_cz t M c (L_cz t M c k) k
  termination_by k => k
theorem L_cz_0 (t : mt) (M : mm) (c : Nat) : L_cz t M c 0 = M := by rw [L_cz]
theorem L_cz_s (t : mt) (M : mm) (c : Nat) (k : Nat) : L_cz t M c (k + 1) = S_cz t M c (L_cz t M c k) k := by rw [L_cz]
theorem L_cz_211 (t : mt) (M : mm) (c : Nat) : ∀ k, gI (L_cz t M c k) 211 c = gI M 211 c
  | 0 => by rw [L_cz_0]
  | k + 1 => by rw [L_cz_s]; exact L_cz_211 t M c k
def C2_count (t : mt) (M : mm) (c : Nat)  : Int32 × mm :=
  let r_1 := C2_votes t M (c) ;
  let x3 := if r_1 ≤ 0 then ((0 : Int32), M) else ((L_count t M c 12).1, (L_count t M c 12).2);
  (x3.1, (sI (L_cz t x3.2 c ((gI x3.2 211 c).toNatClampNeg)) 219 c ((gI (L_cz t x3.2 c ((gI x3.2 211 c).toNatClampNeg)) 219 c) + x3.1)))
set_option maxHeartbeats 4000000 in
theorem cm2_count (l : Launch) (E : mE) (t : mt) (M : mm) (c : Nat)  (hL : lay t c) (hn : ix 7 (gI M 211 c)) : Met l yX2_count (ws_ yX2_count cX2_count 4 (some .int)) ({ frames := 1, cells := 0, slots := 0, locals := 22 }) (va_Pc [.ref c] (wP E t M)) (va_Qi (fun (r : Int32) (u : mm) => r = ((C2_count t M c ).1) ∧ u = (C2_count t M c ).2) (fun u U => mw E t u U.heap) (eA E)) 0 0 (eA E) := by
  refine Met.ofW (cc := cX2_count) (maxL := 4) (ret := (some .int)) (by decide) rfl ?_
  intro p e s m args below meth c0 s₁ B hml hv
  obtain ⟨rfl, hs, hm⟩ := hv
  have hx := B.exec
  have hb := B.bytes
  have hr := B.returns
  have hts := atoms_spec (ws := ws_ yX2_count cX2_count 4 (some .int)) B.pre
  have hts : ∀ w ∈ lw_all, w.before _ s = true := fun w h => hts w (List.mem_cons_of_mem _ h)
  have hown : s.vm.findClass RX2 = some m.cls := findClass_of_methodNamed B.named
  have hlocks := B.notSynchronized
  have hS : va_S (eA E) s.heap s.heap [] := va_S.rf
  have hl := lv_entry ([.ref c]) (n := 4) (Nat.le_of_ble_eq_true rfl)
  rw [lg_entry_eq]
  generalize (lg_sl ([.ref c]) ++ List.replicate (4 - (lg_sl ([.ref c])).length) Slot.unset).toArray = ls at hl ⊢
  have hl : lv_has ls 4 [(0, .ref (c))] := hl
  refine lv_iconst (v := (0 : Int32)) hx hb dX2_count_0 (by decide) ?_
  refine lv_istore_n (lv' := [(1, _), (0, _)]) hx hb dX2_count_1 rfl hl (by decide) rfl (fun ls hl => ?_)
  refine lv_aload_n hx hb dX2_count_2 rfl (lv_at hl 1 rfl) ?_
  refine k_calli (va_runV (As := []) (rest := []) ⟨hx, hb, hml, hown, hts⟩ (cm2_votes l E t M  (c)  hL hn) (cwV 0 hts (lw_V q634 q635 q636 q59 q637) rfl rfl rfl (by decide +kernel) ⟨Nat.le_of_ble_eq_true rfl, Nat.le_of_ble_eq_true rfl⟩) (k_preV hs hm hS (mw.recv hs hm (mt_ne (lay.z hL) (by decide)) (ct2 (lay.z hL)) rfl)) rfl rfl hl.1 rfl (lv_room (Nat.le_of_ble_eq_true rfl)) dX2_count_3 ⟨Nat.le_of_ble_eq_true rfl, Nat.le_of_ble_eq_true rfl⟩) hS (fun r_1 u_1 H locs hw_1 hm_1 hS => ?_)
  obtain ⟨hr_1, hu_1⟩ := hw_1
  replace hu_1 := hu_1.symm
  subst hu_1
  have hm := hm_1
  refine k_join (fun (x3 : Int32 × mm) H locs ls => x3 = (if r_1 ≤ 0 then ((0 : Int32), M) else ((L_count t M c 12).1, (L_count t M c 12).2)) ∧ mw E t (x3.2) H ∧ va_S (eA E) s.heap H locs ∧ lv_has ls 4 [(1, .int (x3.1)), (0, .ref (c))]) (fun (x3 : Int32 × mm) ls => F0 m 62 ls []) (fun x3 H locs ls hJ => ?_) (fun J3 => ?_)
  · obtain ⟨hX3, hm, hS, hl⟩ := hJ
    refine lv_iconst (v := (0 : Int32)) hx hb dX2_count_62 (by decide) ?_
    refine lv_istore_n (lv' := [(2, _), (1, _), (0, _)]) hx hb dX2_count_63 rfl hl (by decide) rfl (fun ls hl => ?_)
    refine k_loop (fun k => (gI x3.2 211 c).toNatClampNeg - k) (fun (k : Nat) H locs ls => (k ≤ (gI x3.2 211 c).toNatClampNeg) ∧ mw E t ((L_cz t x3.2 c k)) H ∧ va_S (eA E) s.heap H locs ∧ lv_has ls 4 [(2, .int (nI k)), (1, .int (x3.1)), (0, .ref (c))]) (fun (k : Nat) ls => F0 m 64 ls []) (fun k => (0, 0)) (fun k ih_4 H locs ls hP => ?_) (0) ⟨(Nat.zero_le _), (by rw [L_cz_0]; exact hm), hS, lv_sub hl [0, 1, 2] rfl⟩
    obtain ⟨hI_4, hm, hS, hl⟩ := hP
    refine lv_iload_n hx hb dX2_count_64 rfl (lv_at hl 0 rfl) ?_
    refine lv_aload_n hx hb dX2_count_65 rfl (lv_at hl 2 rfl) ?_
    refine gf_211 hx hb hts hown hs hm (lay.z hL) (hts _ q245) dX2_count_66 ?_
    refine lv_icmp_ge (tgt := 88) hx hb dX2_count_69 (by decide) (fun c_5 => ?_) (fun c_5 => ?_)
    · have hkN : k = (gI x3.2 211 c).toNatClampNeg := lp_geI (cnt_n hn hX3) (by decide) hI_4 ((L_cz_211 t x3.2 c k) ▸ c_5)
      replace hkN := hkN.symm
      subst hkN
      refine lv_aload_n hx hb dX2_count_88 rfl (lv_at hl 2 rfl) ?_
      refine lv_dup hx hb dX2_count_89 rfl ?_
      refine gf_219 hx hb hts hown hs hm (lay.z hL) (hts _ q263) dX2_count_90 ?_
      refine lv_iload_n hx hb dX2_count_93 rfl (lv_at hl 1 rfl) ?_
      refine lv_iadd hx hb dX2_count_94 ?_
      refine pf_219 hx hb hts hown hs hm hS (lay.z hL) (hts _ q263) dX2_count_95 (fun H locs hm hS => ?_)
      have hm : mw E t ((sI (L_cz t x3.2 c ((gI x3.2 211 c).toNatClampNeg)) 219 c ((gI (L_cz t x3.2 c ((gI x3.2 211 c).toNatClampNeg)) 219 c) + x3.1))) H := hm
      refine lv_iload_n hx hb dX2_count_98 rfl (lv_at hl 1 rfl) ?_
      subst hX3
      subst hr_1
      exact W.iret (v := _) hx hb hr (fun t9 ht9 _ => ⟨⟨_, _, rfl, pp (rfl), hb9 ht9 hm⟩, hS.F ht9⟩) hS.2.2 dX2_count_99
    · have hk : k < (gI x3.2 211 c).toNatClampNeg := lp_ltI (cnt_n hn hX3) (by decide) hI_4 ((L_cz_211 t x3.2 c k) ▸ c_5)
      have hk6 : k < 6 := Nat.lt_of_lt_of_le hk (Nat.le_of_lt_succ ((cnt_n hn hX3).nat (by decide)).1)
      refine lv_aload_n hx hb dX2_count_72 rfl (lv_at hl 2 rfl) ?_
      refine gf_208 hx hb hts hown hs hm (lay.z hL) (hts _ q239) dX2_count_73 ?_
      refine lv_iload_n hx hb dX2_count_76 rfl (lv_at hl 0 rfl) ?_
      refine k_mem hx hb hs hm (lay.a9 hL) (k := k) (cl_nI (by omega)).symm (ix.at (B := 6) (⟨k, hk6, rfl⟩) (by decide)) dX2_count_77 ?_
      refine lv_iconst (v := (0 : Int32)) hx hb dX2_count_78 (by decide) ?_
      refine pfN_501 hx hb hts hown hs hm hS (lay.mem hL (by omega)) q167 dX2_count_79 (fun H locs hm hS => ?_)
      have hm : mw E t ((sI (L_cz t x3.2 c k) 501 (c + 48 + k) (0 : Int32))) H := hm
      refine lv_iinc (v := nI (k + 1)) (lv' := [(2, _), (1, _), (0, _)]) hx hb dX2_count_82 hl (k := 0) rfl (nI_succ k).symm (by decide) rfl (fun ls hl => ?_)
      refine lv_goto (tgt := 64) hx hb dX2_count_85 (by decide) ?_
      have hE : L_cz t x3.2 c (k + 1) = _ := (L_cz_s t _ c k).trans (rfl)
      exact ih_4 (k + 1) (by omega) _ _ _ ⟨(by omega), (by rw [hE]; exact hm), hS, lv_sub hl [0, 1, 2] rfl⟩
  · refine lv_if_le (tgt := 62) hx hb dX2_count_6 (by decide) (fun c_2 => ?_) (fun c_2 => ?_)
    · exact J3 (((0 : Int32), M)) _ _ _ ⟨((if_pos c_2).trans (rfl)).symm, hm, hS, lv_sub hl [0, 1] rfl⟩
    · refine lv_iconst (v := (0 : Int32)) hx hb dX2_count_9 (by decide) ?_
      refine lv_istore_n (lv' := [(2, _), (1, _), (0, _)]) hx hb dX2_count_10 rfl hl (by decide) rfl (fun ls hl => ?_)
      refine k_loop (fun k => 12 - k) (fun (k : Nat) H locs ls => (k ≤ 12) ∧ mw E t ((L_count t M c k).2) H ∧ va_S (eA E) s.heap H locs ∧ lv_has ls 4 [(2, .int (nI k)), (1, .int ((L_count t M c k).1)), (0, .ref (c))]) (fun (k : Nat) ls => F0 m 11 ls []) (fun k => (0, 0)) (fun k ih_6 H locs ls hP => ?_) (0) ⟨(Nat.zero_le _), (by rw [L_count_0]; exact hm), hS, (by rw [L_count_0]; exact lv_sub hl [0, 1, 2] rfl)⟩
      obtain ⟨hI_6, hm, hS, hl⟩ := hP
      refine lv_iload_n hx hb dX2_count_11 rfl (lv_at hl 0 rfl) ?_
      refine lv_bipush (v := (12 : Int32)) hx hb dX2_count_12 (by decide) ?_
      refine lv_icmp_ge (tgt := 62) hx hb dX2_count_14 (by decide) (fun c_7 => ?_) (fun c_7 => ?_)
      · have hkN : k = 12 := lp_ge (by decide) hI_6 c_7
        replace hkN := hkN.symm
        subst hkN
        exact J3 (((L_count t M c 12).1, (L_count t M c 12).2)) _ _ _ ⟨((if_neg c_2).trans (rfl)).symm, hm, hS, lv_sub hl [1, 2] rfl⟩
      · have hk : k < 12 := lp_lt (by decide) hI_6 c_7
        refine lv_aload_n hx hb dX2_count_17 rfl (lv_at hl 2 rfl) ?_
        refine gf_202 hx hb hts hown hs hm (lay.z hL) (hts _ q231) dX2_count_18 ?_
        refine lv_iload_n hx hb dX2_count_21 rfl (lv_at hl 0 rfl) ?_
        refine k_iald hx hb hs hm (lay.a3 hL) (ix.at (B := 12) (⟨k, hk, rfl⟩) (by decide)) dX2_count_22 ?_
        rw [show (nI k).toNatClampNeg = k from (cl_nI (by omega))]
        refine lv_iconst (v := (-1 : Int32)) hx hb dX2_count_23 (by decide) ?_
        refine k_join (fun (x9 : Int32) H locs ls => x9 = (if (aI (L_count t M c k).2 (c + 3) k) = (-1 : Int32) then (0 : Int32) else (if (aI (L_count t M c k).2 (c + 2) k) < (2 : Int32) then (aI (L_count t M c k).2 (c + 2) k) else (2 : Int32))) ∧ mw E t ((L_count t M c k).2) H ∧ va_S (eA E) s.heap H locs ∧ lv_has ls 4 [(2, .int (nI k)), (1, .int ((L_count t M c k).1)), (0, .ref (c))]) (fun (x9 : Int32) ls => F0 m 41 ls [.int (x9)]) (fun x9 H locs ls hJ => ?_) (fun J9 => ?_)
        · obtain ⟨hX9, hm, hS, hl⟩ := hJ
          refine lv_istore_n (lv' := [(3, _), (2, _), (1, _), (0, _)]) hx hb dX2_count_41 rfl hl (by decide) rfl (fun ls hl => ?_)
          refine lv_aload_n hx hb dX2_count_42 rfl (lv_at hl 3 rfl) ?_
          refine gf_201 hx hb hts hown hs hm (lay.z hL) (hts _ q229) dX2_count_43 ?_
          refine lv_iload_n hx hb dX2_count_46 rfl (lv_at hl 1 rfl) ?_
          refine lv_dup2_11 hx hb dX2_count_47 rfl rfl ?_
          refine k_iald hx hb hs hm (lay.a2 hL) (ix.at (B := 12) (⟨k, hk, rfl⟩) (by decide)) dX2_count_48 ?_
          rw [show (nI k).toNatClampNeg = k from (cl_nI (by omega))]
          refine lv_iload_n hx hb dX2_count_49 rfl (lv_at hl 0 rfl) ?_
          refine lv_isub hx hb dX2_count_50 ?_
          refine k_iast hx hb hs hm hS (lay.a2 hL) (ix.at (B := 12) (⟨k, hk, rfl⟩) (by decide)) dX2_count_51 (fun H locs hm hS => ?_)
          rw [show (nI k).toNatClampNeg = k from cl_nI (by omega)] at hm
          have hm : mw E t ((wI (L_count t M c k).2 (c + 2) (upd (aI (L_count t M c k).2 (c + 2)) k ((aI (L_count t M c k).2 (c + 2) k) - x9)))) H := hm
          refine lv_iload_n hx hb dX2_count_52 rfl (lv_at hl 2 rfl) ?_
          refine lv_iload_n hx hb dX2_count_53 rfl (lv_at hl 0 rfl) ?_
          refine lv_iadd hx hb dX2_count_54 ?_
          refine lv_istore_n (lv' := [(1, _), (3, _), (2, _), (0, _)]) hx hb dX2_count_55 rfl hl (by decide) rfl (fun ls hl => ?_)
          refine lv_iinc (v := nI (k + 1)) (lv' := [(2, _), (1, _), (3, _), (0, _)]) hx hb dX2_count_56 hl (k := 2) rfl (nI_succ k).symm (by decide) rfl (fun ls hl => ?_)
          refine lv_goto (tgt := 11) hx hb dX2_count_59 (by decide) ?_
          subst hX9
          have hE : L_count t M c (k + 1) = _ := (L_count_s t M c k).trans (rfl)
          exact ih_6 (k + 1) (by omega) _ _ _ ⟨(by omega), (by rw [hE]; exact hm), hS, (by rw [hE]; exact lv_sub hl [0, 1, 3] rfl)⟩
        · refine lv_icmp_ne (tgt := 31) hx hb dX2_count_24 (by decide) (fun c_8 => ?_) (fun c_8 => ?_)
          · refine lv_iconst (v := (2 : Int32)) hx hb dX2_count_31 (by decide) ?_
            refine lv_aload_n hx hb dX2_count_32 rfl (lv_at hl 2 rfl) ?_
            refine gf_201 hx hb hts hown hs hm (lay.z hL) (hts _ q229) dX2_count_33 ?_
            refine lv_iload_n hx hb dX2_count_36 rfl (lv_at hl 0 rfl) ?_
            refine k_iald hx hb hs hm (lay.a2 hL) (ix.at (B := 12) (⟨k, hk, rfl⟩) (by decide)) dX2_count_37 ?_
            rw [show (nI k).toNatClampNeg = k from (cl_nI (by omega))]
            refine va_mmin hx hb (hml.trans hl.1.symm) hown (hts _ q638) (hts _ q513) (hts _ q78) (hts _ q514) (Nat.le_of_ble_eq_true rfl) (Nat.le_of_ble_eq_true rfl) (Nat.le_of_ble_eq_true rfl) (Nat.le_of_ble_eq_true rfl) dX2_count_38 ?_
            exact J9 ((if (aI (L_count t M c k).2 (c + 2) k) < (2 : Int32) then (aI (L_count t M c k).2 (c + 2) k) else (2 : Int32))) _ _ _ ⟨((if_neg c_8).trans (rfl)).symm, hm, hS, lv_sub hl [0, 1, 2] rfl⟩
          · refine lv_iconst (v := (0 : Int32)) hx hb dX2_count_27 (by decide) ?_
            refine lv_goto (tgt := 41) hx hb dX2_count_28 (by decide) ?_
            exact J9 ((0 : Int32)) _ _ _ ⟨((if_pos c_8).trans (rfl)).symm, hm, hS, lv_sub hl [0, 1, 2] rfl⟩
/-- the best so far: none, or a plot with a crop -/
def hvO (M : mm) (c : Nat) (r : Int32) : Prop := r = -1 ∨ ∃ j, j < 12 ∧ r = nI j ∧ ¬ aR M (c + 4) j = none
theorem mx0 {r : Int32} {j : Nat} (hj : j < 12) (h : r = nI j) : (if (0 : Int32) < r then r else (0 : Int32)) = nI j := by
  subst h
  split
  · rfl
  · rename_i h9
    cases j with
    | zero => rfl
    | succ j => exact absurd (nI_lt (a := 0) (b := j + 1) (by omega) (by omega)) h9
theorem mx0_ix {r : Int32} {j : Nat} (hj : j < 12) (h : r = nI j) : ix 12 (if (0 : Int32) < r then r else (0 : Int32)) := ⟨j, hj, mx0 hj h⟩
theorem mx0_nat {r : Int32} {j : Nat} (hj : j < 12) (h : r = nI j) : (if (0 : Int32) < r then r else (0 : Int32)).toNatClampNeg = j := by rw [mx0 hj h]; exact cl_nI (by omega)
theorem nI_ne1 {j : Nat} (hj : j < 2 ^ 20) : ¬ nI j = -1 := fun h => by
  have := congrArg Int32.toInt h
  rw [nI_toInt (by omega)] at this
  have h9 : (-1 : Int32).toInt = -1 := by decide
  omega
def S_heaviest (t : mt) (M : mm) (c : Nat) (x : Int32) (z : Int32) (k : Nat) : Int32 :=
  let x4 := if (aR M (c + 4) k) = none then (0 : Int32) else if (kd4 t ((aR M (c + 4) k).getD 0)) = x then (1 : Int32) else (0 : Int32);
  let x6 := if x4 = 0 then z else if z = (-1 : Int32) then nI k else if (Op.cmpValue (FP.fcmp (gF M 301 ((aR M (c + 4) k).getD 0)) (gF M 301 ((aR M (c + 4) ((if (0 : Int32) < z then z else (0 : Int32))).toNatClampNeg).getD 0))) .l) ≤ 0 then z else nI k;
  x6
def L_heaviest (t : mt) (M : mm) (c : Nat) (x : Int32) : Nat → Int32
  | 0 => (-1 : Int32)
  | k + 1 => S_heaviest t M c x (L_heaviest t M c x k) k
  termination_by k => k
theorem L_heaviest_0 (t : mt) (M : mm) (c : Nat) (x : Int32) : L_heaviest t M c x 0 = (-1 : Int32) := by rw [L_heaviest]
theorem L_heaviest_s (t : mt) (M : mm) (c : Nat) (x : Int32) (k : Nat) : L_heaviest t M c x (k + 1) = S_heaviest t M c x (L_heaviest t M c x k) k := by rw [L_heaviest]
theorem hv_ok (t : mt) (M : mm) (c : Nat) (x : Int32) : ∀ k, k ≤ 12 → hvO M c (L_heaviest t M c x k)
  | 0, _ => by rw [L_heaviest_0]; exact Or.inl rfl
  | k + 1, hk => by
    rw [L_heaviest_s]
    have ih := hv_ok t M c x k (by omega)
    unfold S_heaviest
    dsimp only
    by_cases hq : aR M (c + 4) k = none
    · rw [if_pos hq, if_pos rfl]; exact ih
    · rw [if_neg hq]
      have hok : hvO M c (nI k) := Or.inr ⟨k, by omega, rfl, hq⟩
      (repeat' split) <;> first | exact ih | exact hok
def C2_heaviest (t : mt) (M : mm) (c : Nat) (x : Int32) : Int32 := L_heaviest t M c x 12
set_option maxHeartbeats 4000000 in
theorem cm2_heaviest (l : Launch) (E : mE) (t : mt) (M : mm) (c : Nat) (x : Int32) (hL : lay t c) (hcr : ∀ k, k < 12 → plO t (aR M (c + 4) k)) : Met l yX2_heaviest (ws_ yX2_heaviest cX2_heaviest 5 (some .int)) ({ frames := 1, cells := 0, slots := 0, locals := 20 }) (va_Pc [.ref c, .int x] (wP E t M)) (va_Qi (fun (r : Int32) (u : mm) => r = (C2_heaviest t M c x) ∧ u = M) (fun u U => mw E t u U.heap) (eA E)) 0 0 (eA E) := by
  refine Met.ofW (cc := cX2_heaviest) (maxL := 5) (ret := (some .int)) (by decide) rfl ?_
  intro p e s m args below meth c0 s₁ B hml hv
  obtain ⟨rfl, hs, hm⟩ := hv
  have hx := B.exec
  have hb := B.bytes
  have hr := B.returns
  have hts := atoms_spec (ws := ws_ yX2_heaviest cX2_heaviest 5 (some .int)) B.pre
  have hts : ∀ w ∈ lw_all, w.before _ s = true := fun w h => hts w (List.mem_cons_of_mem _ h)
  have hown : s.vm.findClass RX2 = some m.cls := findClass_of_methodNamed B.named
  have hlocks := B.notSynchronized
  have hS : va_S (eA E) s.heap s.heap [] := va_S.rf
  have hl := lv_entry ([.ref c, .int x]) (n := 5) (Nat.le_of_ble_eq_true rfl)
  rw [lg_entry_eq]
  generalize (lg_sl ([.ref c, .int x]) ++ List.replicate (5 - (lg_sl ([.ref c, .int x])).length) Slot.unset).toArray = ls at hl ⊢
  have hl : lv_has ls 5 [(0, .ref (c)), (1, .int (x))] := hl
  refine lv_iconst (v := (-1 : Int32)) hx hb dX2_heaviest_0 (by decide) ?_
  refine lv_istore_n (lv' := [(2, _), (0, _), (1, _)]) hx hb dX2_heaviest_1 rfl hl (by decide) rfl (fun ls hl => ?_)
  refine lv_iconst (v := (0 : Int32)) hx hb dX2_heaviest_2 (by decide) ?_
  refine lv_istore_n (lv' := [(3, _), (2, _), (0, _), (1, _)]) hx hb dX2_heaviest_3 rfl hl (by decide) rfl (fun ls hl => ?_)
  refine k_loop (fun k => 12 - k) (fun (k : Nat) H locs ls => (k ≤ 12) ∧ mw E t (M) H ∧ va_S (eA E) s.heap H locs ∧ lv_has ls 5 [(3, .int (nI k)), (2, .int ((L_heaviest t M c x k))), (0, .ref (c)), (1, .int (x))]) (fun (k : Nat) ls => F0 m 4 ls []) (fun k => (0, 0)) (fun k ih_1 H locs ls hP => ?_) (0) ⟨(Nat.zero_le _), hm, hS, (by rw [L_heaviest_0]; exact lv_sub hl [0, 1, 2, 3] rfl)⟩
  obtain ⟨hI_1, hm, hS, hl⟩ := hP
  refine lv_iload_n hx hb dX2_heaviest_4 rfl (lv_at hl 0 rfl) ?_
  refine lv_bipush (v := (12 : Int32)) hx hb dX2_heaviest_5 (by decide) ?_
  refine lv_icmp_ge (tgt := 87) hx hb dX2_heaviest_7 (by decide) (fun c_2 => ?_) (fun c_2 => ?_)
  · have hkN : k = 12 := lp_ge (by decide) hI_1 c_2
    replace hkN := hkN.symm
    subst hkN
    refine lv_iload_n hx hb dX2_heaviest_87 rfl (lv_at hl 1 rfl) ?_
    exact W.iret (v := _) hx hb hr (fun t9 ht9 _ => ⟨⟨_, _, rfl, ⟨(rfl).symm, rfl⟩, hb9 ht9 hm⟩, hS.F ht9⟩) hS.2.2 dX2_heaviest_88
  · have hk : k < 12 := lp_lt (by decide) hI_1 c_2
    have hB := hv_ok t M c x k (by omega)
    refine lv_aload_n hx hb dX2_heaviest_10 rfl (lv_at hl 2 rfl) ?_
    refine gf_203 hx hb hts hown hs hm (lay.z hL) (hts _ q233) dX2_heaviest_11 ?_
    refine lv_iload_n hx hb dX2_heaviest_14 rfl (lv_at hl 0 rfl) ?_
    refine k_aald24 hx hb hs hm (lay.a4 hL) (ix.at (B := 12) (⟨k, hk, rfl⟩) (by decide)) dX2_heaviest_15 ?_
    rw [show (nI k).toNatClampNeg = k from cl_nI (by omega)]
    refine k_join (fun (x4 : Int32) H locs ls => x4 = (if (aR M (c + 4) k) = none then (0 : Int32) else if (kd4 t ((aR M (c + 4) k).getD 0)) = x then (1 : Int32) else (0 : Int32)) ∧ mw E t (M) H ∧ va_S (eA E) s.heap H locs ∧ lv_has ls 5 [(3, .int (nI k)), (2, .int ((L_heaviest t M c x k))), (0, .ref (c)), (1, .int (x))]) (fun (x4 : Int32) ls => F0 m 37 ls [.int (x4)]) (fun x4 H locs ls hJ => ?_) (fun J4 => ?_)
    · obtain ⟨hX4, hm, hS, hl⟩ := hJ
      refine lv_istore (lv' := [(4, _), (3, _), (2, _), (0, _), (1, _)]) hx hb dX2_heaviest_37 hl (by decide) rfl (fun ls hl => ?_)
      refine lv_iload hx hb dX2_heaviest_39 (lv_at hl 0 rfl) ?_
      refine k_join (fun (x6 : Int32) H locs ls => x6 = (if x4 = 0 then (L_heaviest t M c x k) else if (L_heaviest t M c x k) = (-1 : Int32) then nI k else if (Op.cmpValue (FP.fcmp (gF M 301 ((aR M (c + 4) k).getD 0)) (gF M 301 ((aR M (c + 4) ((if (0 : Int32) < (L_heaviest t M c x k) then (L_heaviest t M c x k) else (0 : Int32))).toNatClampNeg).getD 0))) .l) ≤ 0 then (L_heaviest t M c x k) else nI k) ∧ mw E t (M) H ∧ va_S (eA E) s.heap H locs ∧ lv_has ls 5 [(4, .int (x4)), (3, .int (nI k)), (2, .int ((L_heaviest t M c x k))), (0, .ref (c)), (1, .int (x))]) (fun (x6 : Int32) ls => F0 m 80 ls [.int (x6)]) (fun x6 H locs ls hJ => ?_) (fun J6 => ?_)
      · obtain ⟨hX6, hm, hS, hl⟩ := hJ
        refine lv_istore_n (lv' := [(2, _), (4, _), (3, _), (0, _), (1, _)]) hx hb dX2_heaviest_80 rfl hl (by decide) rfl (fun ls hl => ?_)
        refine lv_iinc (v := nI (k + 1)) (lv' := [(3, _), (2, _), (4, _), (0, _), (1, _)]) hx hb dX2_heaviest_81 hl (k := 2) rfl (nI_succ k).symm (by decide) rfl (fun ls hl => ?_)
        refine lv_goto (tgt := 4) hx hb dX2_heaviest_84 (by decide) ?_
        subst hX6
        subst hX4
        have hE : L_heaviest t M c x (k + 1) = _ := (L_heaviest_s t M c x k).trans (rfl)
        exact ih_1 (k + 1) (by omega) _ _ _ ⟨(by omega), hm, hS, (by rw [hE]; exact lv_sub hl [0, 1, 3, 4] rfl)⟩
      · refine lv_if_eq (tgt := 79) hx hb dX2_heaviest_41 (by decide) (fun c_5 => ?_) (fun c_5 => ?_)
        · refine lv_iload_n hx hb dX2_heaviest_79 rfl (lv_at hl 2 rfl) ?_
          exact J6 ((L_heaviest t M c x k)) _ _ _ ⟨((if_pos c_5).trans (rfl)).symm, hm, hS, lv_sub hl [0, 1, 2, 3, 4] rfl⟩
        · refine lv_iload_n hx hb dX2_heaviest_44 rfl (lv_at hl 2 rfl) ?_
          refine lv_iconst (v := (-1 : Int32)) hx hb dX2_heaviest_45 (by decide) ?_
          refine lv_icmp_eq (tgt := 75) hx hb dX2_heaviest_46 (by decide) (fun c_7 => ?_) (fun c_7 => ?_)
          · refine lv_iload_n hx hb dX2_heaviest_75 rfl (lv_at hl 1 rfl) ?_
            refine lv_goto (tgt := 80) hx hb dX2_heaviest_76 (by decide) ?_
            exact J6 (nI k) _ _ _ ⟨((if_neg c_5).trans ((if_pos c_7).trans (rfl))).symm, hm, hS, lv_sub hl [0, 1, 2, 3, 4] rfl⟩
          · have hne : ¬ aR M (c + 4) k = none := fun h9 => by rw [if_pos h9] at hX4; exact c_5 hX4
            obtain ⟨j, hj, hjB, hjn⟩ := hB.resolve_left c_7
            refine lv_aload_n hx hb dX2_heaviest_49 rfl (lv_at hl 3 rfl) ?_
            refine gf_203 hx hb hts hown hs hm (lay.z hL) (hts _ q233) dX2_heaviest_50 ?_
            refine lv_iload_n hx hb dX2_heaviest_53 rfl (lv_at hl 1 rfl) ?_
            refine k_aald24 hx hb hs hm (lay.a4 hL) (ix.at (B := 12) (⟨k, hk, rfl⟩) (by decide)) dX2_heaviest_54 ?_
            rw [show (nI k).toNatClampNeg = k from cl_nI (by omega)]
            refine k_nn hne ?_
            refine gfN_301 hx hb hts hown hs hm ((hcr k hk).get hne) q135 dX2_heaviest_55 ?_
            refine lv_aload_n hx hb dX2_heaviest_58 rfl (lv_at hl 3 rfl) ?_
            refine gf_203 hx hb hts hown hs hm (lay.z hL) (hts _ q233) dX2_heaviest_59 ?_
            refine lv_iconst (v := (0 : Int32)) hx hb dX2_heaviest_62 (by decide) ?_
            refine lv_iload_n hx hb dX2_heaviest_63 rfl (lv_at hl 2 rfl) ?_
            refine va_mmax hx hb (hml.trans hl.1.symm) hown (hts _ q659) (hts _ q660) (hts _ q78) (hts _ q661) (Nat.le_of_ble_eq_true rfl) (Nat.le_of_ble_eq_true rfl) (Nat.le_of_ble_eq_true rfl) (Nat.le_of_ble_eq_true rfl) dX2_heaviest_64 ?_
            refine k_aald24 hx hb hs hm (lay.a4 hL) (ix.at (B := 12) (((mx0_ix hj hjB)).mono (by decide)) (by decide)) dX2_heaviest_67 ?_
            refine k_nn (by rw [mx0_nat hj hjB]; exact hjn) ?_
            refine gfN_301 hx hb hts hown hs hm ((hcr _ (by rw [mx0_nat hj hjB]; exact hj)).get (by rw [mx0_nat hj hjB]; exact hjn)) q135 dX2_heaviest_68 ?_
            refine lv_fcmp hx hb dX2_heaviest_71 ?_
            refine lv_if_le (tgt := 79) hx hb dX2_heaviest_72 (by decide) (fun c_8 => ?_) (fun c_8 => ?_)
            · refine lv_iload_n hx hb dX2_heaviest_79 rfl (lv_at hl 2 rfl) ?_
              exact J6 ((L_heaviest t M c x k)) _ _ _ ⟨((if_neg c_5).trans ((if_neg c_7).trans ((if_pos c_8).trans (rfl)))).symm, hm, hS, lv_sub hl [0, 1, 2, 3, 4] rfl⟩
            · refine lv_iload_n hx hb dX2_heaviest_75 rfl (lv_at hl 1 rfl) ?_
              refine lv_goto (tgt := 80) hx hb dX2_heaviest_76 (by decide) ?_
              exact J6 (nI k) _ _ _ ⟨((if_neg c_5).trans ((if_neg c_7).trans ((if_neg c_8).trans (rfl)))).symm, hm, hS, lv_sub hl [0, 1, 2, 3, 4] rfl⟩
    · refine lv_ifnullQ (tgt := 36) hx hb dX2_heaviest_16 (by decide) (fun c_3 => ?_) (fun c_3 => ?_)
      · refine lv_iconst (v := (0 : Int32)) hx hb dX2_heaviest_36 (by decide) ?_
        exact J4 ((0 : Int32)) _ _ _ ⟨((if_pos c_3).trans (rfl)).symm, hm, hS, lv_sub hl [0, 1, 2, 3] rfl⟩
      · refine lv_aload_n hx hb dX2_heaviest_19 rfl (lv_at hl 2 rfl) ?_
        refine gf_203 hx hb hts hown hs hm (lay.z hL) (hts _ q233) dX2_heaviest_20 ?_
        refine lv_iload_n hx hb dX2_heaviest_23 rfl (lv_at hl 0 rfl) ?_
        refine k_aald24 hx hb hs hm (lay.a4 hL) (ix.at (B := 12) (⟨k, hk, rfl⟩) (by decide)) dX2_heaviest_24 ?_
        rw [show (nI k).toNatClampNeg = k from cl_nI (by omega)]
        refine k_nn c_3 ?_
        refine k_calli (((hcr k hk).get c_3).elim (fun h9 => va_runU (As := []) (rest := []) ⟨hx, hb, hml, hown, hts⟩ (cm4_kind l E t M (((aR M (c + 4) k).getD 0)) h9) (va_cwA 0 hts (lw_U q589 q591 q595 q596 q61 q597) rfl rfl rfl (hs.2.2.1 _ q590 rfl) (by decide +kernel) ⟨Nat.le_of_ble_eq_true rfl, Nat.le_of_ble_eq_true rfl⟩) (k_preV hs hm hS (mw.recv hs hm (mt_ne h9 (by decide)) (ct3 h9) rfl)) rfl rfl hl.1 rfl (lv_room (Nat.le_of_ble_eq_true rfl)) dX2_heaviest_25 ⟨Nat.le_of_ble_eq_true rfl, Nat.le_of_ble_eq_true rfl⟩) (fun h9 => va_runU (As := []) (rest := []) ⟨hx, hb, hml, hown, hts⟩ (cm5_kind l E t M (((aR M (c + 4) k).getD 0)) h9) (va_cwA 0 hts (lw_U q589 q591 q592 q593 q62 q594) rfl rfl rfl (hs.2.2.1 _ q590 rfl) (by decide +kernel) ⟨Nat.le_of_ble_eq_true rfl, Nat.le_of_ble_eq_true rfl⟩) (k_preV hs hm hS (mw.recv hs hm (mt_ne h9 (by decide)) (ct4 h9) rfl)) rfl rfl hl.1 rfl (lv_room (Nat.le_of_ble_eq_true rfl)) dX2_heaviest_25 ⟨Nat.le_of_ble_eq_true rfl, Nat.le_of_ble_eq_true rfl⟩)) hS (fun r_9 u_9 H locs hw_9 hm_9 hS => ?_)
        obtain ⟨hr_9, hu_9⟩ := hw_9
        subst hr_9
        replace hu_9 := hu_9.symm
        subst hu_9
        have hm : mw E t (M) H := hm_9
        refine lv_iload_n hx hb dX2_heaviest_28 rfl (lv_at hl 3 rfl) ?_
        refine lv_icmp_ne (tgt := 36) hx hb dX2_heaviest_29 (by decide) (fun c_10 => ?_) (fun c_10 => ?_)
        · refine lv_iconst (v := (0 : Int32)) hx hb dX2_heaviest_36 (by decide) ?_
          exact J4 ((0 : Int32)) _ _ _ ⟨((if_neg c_3).trans ((if_neg c_10).trans (rfl))).symm, hm, hS, lv_sub hl [0, 1, 2, 3] rfl⟩
        · refine lv_iconst (v := (1 : Int32)) hx hb dX2_heaviest_32 (by decide) ?_
          refine lv_goto (tgt := 37) hx hb dX2_heaviest_33 (by decide) ?_
          exact J4 ((1 : Int32)) _ _ _ ⟨((if_neg c_3).trans ((if_pos c_10).trans (rfl))).symm, hm, hS, lv_sub hl [0, 1, 2, 3] rfl⟩
