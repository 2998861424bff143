set_option maxRecDepth 100000
/-! the class: what a cliff tells, over loops -/
def S_votes (t : mt) (M : mm) (c : Nat) (z : Int32) (k : Nat) : Int32 :=
  (z + (gI M 501 (c + 48 + k)))
def L_votes (t : mt) (M : mm) (c : Nat) : Nat → Int32
  | 0 => (0 : Int32)
  | k + 1 => S_votes t M c (L_votes t M c k) k
  termination_by k => k
theorem L_votes_0 (t : mt) (M : mm) (c : Nat) : L_votes t M c 0 = (0 : Int32) := by rw [L_votes]
theorem L_votes_s (t : mt) (M : mm) (c : Nat) (k : Nat) : L_votes t M c (k + 1) = S_votes t M c (L_votes t M c k) k := by rw [L_votes]
def C2_votes (t : mt) (M : mm) (c : Nat) : Int32 := L_votes t M c (gI M 211 c).toNatClampNeg
set_option maxHeartbeats 4000000 in
theorem cm2_votes (l : Launch) (E : mE) (t : mt) (M : mm) (c : Nat)  (hL : lay t c) (hn : ix 7 (gI M 211 c)) : Met l yX2_votes (ws_ yX2_votes cX2_votes 3 (some .int)) ({ frames := 0, cells := 0, slots := 0, locals := 0 }) (va_Pc [.ref c] (wP E t M)) (va_Qi (fun (r : Int32) (u : mm) => r = (C2_votes t M c ) ∧ u = M) (fun u U => mw E t u U.heap) (eA E)) 0 0 (eA E) := by
  refine Met.ofW (cc := cX2_votes) (maxL := 3) (ret := (some .int)) (by decide) rfl ?_
  intro p e s m args below meth c0 s₁ B hml hv
  obtain ⟨rfl, hs, hm⟩ := hv
  have hx := B.exec
  have hb := B.bytes
  have hr := B.returns
  have hts := atoms_spec (ws := ws_ yX2_votes cX2_votes 3 (some .int)) B.pre
  have hts : ∀ w ∈ lw_all, w.before _ s = true := fun w h => hts w (List.mem_cons_of_mem _ h)
  have hown : s.vm.findClass RX2 = some m.cls := findClass_of_methodNamed B.named
  have hlocks := B.notSynchronized
  have hS : va_S (eA E) s.heap s.heap [] := va_S.rf
  have hl := lv_entry ([.ref c]) (n := 3) (Nat.le_of_ble_eq_true rfl)
  rw [lg_entry_eq]
  generalize (lg_sl ([.ref c]) ++ List.replicate (3 - (lg_sl ([.ref c])).length) Slot.unset).toArray = ls at hl ⊢
  have hl : lv_has ls 3 [(0, .ref (c))] := hl
  refine lv_iconst (v := (0 : Int32)) hx hb dX2_votes_0 (by decide) ?_
  refine lv_istore_n (lv' := [(1, _), (0, _)]) hx hb dX2_votes_1 rfl hl (by decide) rfl (fun ls hl => ?_)
  refine lv_iconst (v := (0 : Int32)) hx hb dX2_votes_2 (by decide) ?_
  refine lv_istore_n (lv' := [(2, _), (1, _), (0, _)]) hx hb dX2_votes_3 rfl hl (by decide) rfl (fun ls hl => ?_)
  refine k_loop (fun k => (gI M 211 c).toNatClampNeg - k) (fun (k : Nat) H locs ls => (k ≤ (gI M 211 c).toNatClampNeg) ∧ mw E t (M) H ∧ va_S (eA E) s.heap H locs ∧ lv_has ls 3 [(2, .int (nI k)), (1, .int ((L_votes t M c k))), (0, .ref (c))]) (fun (k : Nat) ls => F0 m 4 ls []) (fun k => (0, 0)) (fun k ih_1 H locs ls hP => ?_) (0) ⟨(Nat.zero_le _), hm, hS, (by rw [L_votes_0]; exact lv_sub hl [0, 1, 2] rfl)⟩
  obtain ⟨hI_1, hm, hS, hl⟩ := hP
  refine lv_iload_n hx hb dX2_votes_4 rfl (lv_at hl 0 rfl) ?_
  refine lv_aload_n hx hb dX2_votes_5 rfl (lv_at hl 2 rfl) ?_
  refine gf_211 hx hb hts hown hs hm (lay.z hL) (hts _ q245) dX2_votes_6 ?_
  refine lv_icmp_ge (tgt := 30) hx hb dX2_votes_9 (by decide) (fun c_2 => ?_) (fun c_2 => ?_)
  · have hkN : k = (gI M 211 c).toNatClampNeg := lp_geI hn (by decide) hI_1 c_2
    replace hkN := hkN.symm
    subst hkN
    refine lv_iload_n hx hb dX2_votes_30 rfl (lv_at hl 1 rfl) ?_
    exact W.iret (v := _) hx hb hr (fun t9 ht9 _ => ⟨⟨_, _, rfl, ⟨(rfl).symm, rfl⟩, hb9 ht9 hm⟩, hS.F ht9⟩) hS.2.2 dX2_votes_31
  · have hk : k < (gI M 211 c).toNatClampNeg := lp_ltI hn (by decide) hI_1 c_2
    have hk6 : k < 6 := Nat.lt_of_lt_of_le hk (Nat.le_of_lt_succ (hn.nat (by decide)).1)
    refine lv_iload_n hx hb dX2_votes_12 rfl (lv_at hl 1 rfl) ?_
    refine lv_aload_n hx hb dX2_votes_13 rfl (lv_at hl 2 rfl) ?_
    refine gf_208 hx hb hts hown hs hm (lay.z hL) (hts _ q239) dX2_votes_14 ?_
    refine lv_iload_n hx hb dX2_votes_17 rfl (lv_at hl 0 rfl) ?_
    refine k_mem hx hb hs hm (lay.a9 hL) (k := k) (cl_nI (by omega)).symm (ix.at (B := 6) (⟨k, hk6, rfl⟩) (by decide)) dX2_votes_18 ?_
    refine gfN_501 hx hb hts hown hs hm (lay.mem hL (by omega)) q167 dX2_votes_19 ?_
    refine lv_iadd hx hb dX2_votes_22 ?_
    refine lv_istore_n (lv' := [(1, _), (2, _), (0, _)]) hx hb dX2_votes_23 rfl hl (by decide) rfl (fun ls hl => ?_)
    refine lv_iinc (v := nI (k + 1)) (lv' := [(2, _), (1, _), (0, _)]) hx hb dX2_votes_24 hl (k := 1) rfl (nI_succ k).symm (by decide) rfl (fun ls hl => ?_)
    refine lv_goto (tgt := 4) hx hb dX2_votes_27 (by decide) ?_
    have hE : L_votes t M c (k + 1) = _ := (L_votes_s t M c k).trans (rfl)
    exact ih_1 (k + 1) (by omega) _ _ _ ⟨(by omega), hm, hS, (by rw [hE]; exact lv_sub hl [0, 1, 2] rfl)⟩
def S_onBenches (t : mt) (M : mm) (c : Nat) (z : Int32) (k : Nat) : Int32 :=
  let x4 := if (aR M (c + 7) k) = none then (0 : Int32) else (1 : Int32);
  let x6 := if (aR M (c + 8) k) = none then (0 : Int32) else (1 : Int32);
  (z + (x4 + x6))
def L_onBenches (t : mt) (M : mm) (c : Nat) : Nat → Int32
  | 0 => (0 : Int32)
  | k + 1 => S_onBenches t M c (L_onBenches t M c k) k
  termination_by k => k
theorem L_onBenches_0 (t : mt) (M : mm) (c : Nat) : L_onBenches t M c 0 = (0 : Int32) := by rw [L_onBenches]
theorem L_onBenches_s (t : mt) (M : mm) (c : Nat) (k : Nat) : L_onBenches t M c (k + 1) = S_onBenches t M c (L_onBenches t M c k) k := by rw [L_onBenches]
def C2_onBenches (t : mt) (M : mm) (c : Nat) : Int32 := L_onBenches t M c 5
set_option maxHeartbeats 4000000 in
theorem cm2_onBenches (l : Launch) (E : mE) (t : mt) (M : mm) (c : Nat)  (hL : lay t c)  : Met l yX2_onBenches (ws_ yX2_onBenches cX2_onBenches 3 (some .int)) ({ frames := 0, cells := 0, slots := 0, locals := 0 }) (va_Pc [.ref c] (wP E t M)) (va_Qi (fun (r : Int32) (u : mm) => r = (C2_onBenches t M c ) ∧ u = M) (fun u U => mw E t u U.heap) (eA E)) 0 0 (eA E) := by
  refine Met.ofW (cc := cX2_onBenches) (maxL := 3) (ret := (some .int)) (by decide) rfl ?_
  intro p e s m args below meth c0 s₁ B hml hv
  obtain ⟨rfl, hs, hm⟩ := hv
  have hx := B.exec
  have hb := B.bytes
  have hr := B.returns
  have hts := atoms_spec (ws := ws_ yX2_onBenches cX2_onBenches 3 (some .int)) B.pre
  have hts : ∀ w ∈ lw_all, w.before _ s = true := fun w h => hts w (List.mem_cons_of_mem _ h)
  have hown : s.vm.findClass RX2 = some m.cls := findClass_of_methodNamed B.named
  have hlocks := B.notSynchronized
  have hS : va_S (eA E) s.heap s.heap [] := va_S.rf
  have hl := lv_entry ([.ref c]) (n := 3) (Nat.le_of_ble_eq_true rfl)
  rw [lg_entry_eq]
  generalize (lg_sl ([.ref c]) ++ List.replicate (3 - (lg_sl ([.ref c])).length) Slot.unset).toArray = ls at hl ⊢
  have hl : lv_has ls 3 [(0, .ref (c))] := hl
  refine lv_iconst (v := (0 : Int32)) hx hb dX2_onBenches_0 (by decide) ?_
  refine lv_istore_n (lv' := [(1, _), (0, _)]) hx hb dX2_onBenches_1 rfl hl (by decide) rfl (fun ls hl => ?_)
  refine lv_iconst (v := (0 : Int32)) hx hb dX2_onBenches_2 (by decide) ?_
  refine lv_istore_n (lv' := [(2, _), (1, _), (0, _)]) hx hb dX2_onBenches_3 rfl hl (by decide) rfl (fun ls hl => ?_)
  refine k_loop (fun k => 5 - k) (fun (k : Nat) H locs ls => (k ≤ 5) ∧ mw E t (M) H ∧ va_S (eA E) s.heap H locs ∧ lv_has ls 3 [(2, .int (nI k)), (1, .int ((L_onBenches t M c k))), (0, .ref (c))]) (fun (k : Nat) ls => F0 m 4 ls []) (fun k => (0, 0)) (fun k ih_1 H locs ls hP => ?_) (0) ⟨(Nat.zero_le _), hm, hS, (by rw [L_onBenches_0]; exact lv_sub hl [0, 1, 2] rfl)⟩
  obtain ⟨hI_1, hm, hS, hl⟩ := hP
  refine lv_iload_n hx hb dX2_onBenches_4 rfl (lv_at hl 0 rfl) ?_
  refine lv_iconst (v := (5 : Int32)) hx hb dX2_onBenches_5 (by decide) ?_
  refine lv_icmp_ge (tgt := 47) hx hb dX2_onBenches_6 (by decide) (fun c_2 => ?_) (fun c_2 => ?_)
  · have hkN : k = 5 := lp_ge (by decide) hI_1 c_2
    replace hkN := hkN.symm
    subst hkN
    refine lv_iload_n hx hb dX2_onBenches_47 rfl (lv_at hl 1 rfl) ?_
    exact W.iret (v := _) hx hb hr (fun t9 ht9 _ => ⟨⟨_, _, rfl, ⟨(rfl).symm, rfl⟩, hb9 ht9 hm⟩, hS.F ht9⟩) hS.2.2 dX2_onBenches_48
  · have hk : k < 5 := lp_lt (by decide) hI_1 c_2
    refine lv_iload_n hx hb dX2_onBenches_9 rfl (lv_at hl 1 rfl) ?_
    refine lv_aload_n hx hb dX2_onBenches_10 rfl (lv_at hl 2 rfl) ?_
    refine gf_206 hx hb hts hown hs hm (lay.z hL) (hts _ q237) dX2_onBenches_11 ?_
    refine lv_iload_n hx hb dX2_onBenches_14 rfl (lv_at hl 0 rfl) ?_
    refine k_aald2 hx hb hs hm (Or.inl (lay.a7 hL)) (ix.at (B := 5) (⟨k, hk, rfl⟩) (by decide)) dX2_onBenches_15 ?_
    rw [show (nI k).toNatClampNeg = k from cl_nI (by omega)]
    refine k_join (fun (x4 : Int32) H locs ls => x4 = (if (aR M (c + 7) k) = none then (0 : Int32) else (1 : Int32)) ∧ mw E t (M) H ∧ va_S (eA E) s.heap H locs ∧ lv_has ls 3 [(2, .int (nI k)), (1, .int ((L_onBenches t M c k))), (0, .ref (c))]) (fun (x4 : Int32) ls => F0 m 24 ls [.int (x4), .int ((L_onBenches t M c k))]) (fun x4 H locs ls hJ => ?_) (fun J4 => ?_)
    · obtain ⟨hX4, hm, hS, hl⟩ := hJ
      refine lv_aload_n hx hb dX2_onBenches_24 rfl (lv_at hl 2 rfl) ?_
      refine gf_207 hx hb hts hown hs hm (lay.z hL) (hts _ q238) dX2_onBenches_25 ?_
      refine lv_iload_n hx hb dX2_onBenches_28 rfl (lv_at hl 0 rfl) ?_
      refine k_aald2 hx hb hs hm (Or.inr (lay.a8 hL)) (ix.at (B := 5) (⟨k, hk, rfl⟩) (by decide)) dX2_onBenches_29 ?_
      rw [show (nI k).toNatClampNeg = k from cl_nI (by omega)]
      refine k_join (fun (x6 : Int32) H locs ls => x6 = (if (aR M (c + 8) k) = none then (0 : Int32) else (1 : Int32)) ∧ mw E t (M) H ∧ va_S (eA E) s.heap H locs ∧ lv_has ls 3 [(2, .int (nI k)), (1, .int ((L_onBenches t M c k))), (0, .ref (c))]) (fun (x6 : Int32) ls => F0 m 38 ls [.int (x6), .int (x4), .int ((L_onBenches t M c k))]) (fun x6 H locs ls hJ => ?_) (fun J6 => ?_)
      · obtain ⟨hX6, hm, hS, hl⟩ := hJ
        refine lv_iadd hx hb dX2_onBenches_38 ?_
        refine lv_iadd hx hb dX2_onBenches_39 ?_
        refine lv_istore_n (lv' := [(1, _), (2, _), (0, _)]) hx hb dX2_onBenches_40 rfl hl (by decide) rfl (fun ls hl => ?_)
        refine lv_iinc (v := nI (k + 1)) (lv' := [(2, _), (1, _), (0, _)]) hx hb dX2_onBenches_41 hl (k := 1) rfl (nI_succ k).symm (by decide) rfl (fun ls hl => ?_)
        refine lv_goto (tgt := 4) hx hb dX2_onBenches_44 (by decide) ?_
        subst hX6
        subst hX4
        have hE : L_onBenches t M c (k + 1) = _ := (L_onBenches_s t M c k).trans (rfl)
        exact ih_1 (k + 1) (by omega) _ _ _ ⟨(by omega), hm, hS, (by rw [hE]; exact lv_sub hl [0, 1, 2] rfl)⟩
      · refine lv_ifnonnullQ (tgt := 37) hx hb dX2_onBenches_30 (by decide) (fun c_5 => ?_) (fun c_5 => ?_)
        · refine lv_iconst (v := (1 : Int32)) hx hb dX2_onBenches_37 (by decide) ?_
          exact J6 ((1 : Int32)) _ _ _ ⟨((if_neg c_5).trans (rfl)).symm, hm, hS, lv_sub hl [0, 1, 2] rfl⟩
        · refine lv_iconst (v := (0 : Int32)) hx hb dX2_onBenches_33 (by decide) ?_
          refine lv_goto (tgt := 38) hx hb dX2_onBenches_34 (by decide) ?_
          exact J6 ((0 : Int32)) _ _ _ ⟨((if_pos c_5).trans (rfl)).symm, hm, hS, lv_sub hl [0, 1, 2] rfl⟩
    · refine lv_ifnonnullQ (tgt := 23) hx hb dX2_onBenches_16 (by decide) (fun c_3 => ?_) (fun c_3 => ?_)
      · refine lv_iconst (v := (1 : Int32)) hx hb dX2_onBenches_23 (by decide) ?_
        exact J4 ((1 : Int32)) _ _ _ ⟨((if_neg c_3).trans (rfl)).symm, hm, hS, lv_sub hl [0, 1, 2] rfl⟩
      · refine lv_iconst (v := (0 : Int32)) hx hb dX2_onBenches_19 (by decide) ?_
        refine lv_goto (tgt := 24) hx hb dX2_onBenches_20 (by decide) ?_
        exact J4 ((0 : Int32)) _ _ _ ⟨((if_pos c_3).trans (rfl)).symm, hm, hS, lv_sub hl [0, 1, 2] rfl⟩
def S_crops (t : mt) (M : mm) (c : Nat) (z : Int32) (k : Nat) : Int32 :=
  let x4 := if (aR M (c + 4) k) = none then (0 : Int32) else (1 : Int32);
  (z + x4)
def L_crops (t : mt) (M : mm) (c : Nat) : Nat → Int32
  | 0 => (0 : Int32)
  | k + 1 => S_crops t M c (L_crops t M c k) k
  termination_by k => k
theorem L_crops_0 (t : mt) (M : mm) (c : Nat) : L_crops t M c 0 = (0 : Int32) := by rw [L_crops]
theorem L_crops_s (t : mt) (M : mm) (c : Nat) (k : Nat) : L_crops t M c (k + 1) = S_crops t M c (L_crops t M c k) k := by rw [L_crops]
def C2_crops (t : mt) (M : mm) (c : Nat) : Int32 := L_crops t M c 12
set_option maxHeartbeats 4000000 in
theorem cm2_crops (l : Launch) (E : mE) (t : mt) (M : mm) (c : Nat)  (hL : lay t c)  : Met l yX2_crops (ws_ yX2_crops cX2_crops 3 (some .int)) ({ frames := 0, cells := 0, slots := 0, locals := 0 }) (va_Pc [.ref c] (wP E t M)) (va_Qi (fun (r : Int32) (u : mm) => r = (C2_crops t M c ) ∧ u = M) (fun u U => mw E t u U.heap) (eA E)) 0 0 (eA E) := by
  refine Met.ofW (cc := cX2_crops) (maxL := 3) (ret := (some .int)) (by decide) rfl ?_
  intro p e s m args below meth c0 s₁ B hml hv
  obtain ⟨rfl, hs, hm⟩ := hv
  have hx := B.exec
  have hb := B.bytes
  have hr := B.returns
  have hts := atoms_spec (ws := ws_ yX2_crops cX2_crops 3 (some .int)) B.pre
  have hts : ∀ w ∈ lw_all, w.before _ s = true := fun w h => hts w (List.mem_cons_of_mem _ h)
  have hown : s.vm.findClass RX2 = some m.cls := findClass_of_methodNamed B.named
  have hlocks := B.notSynchronized
  have hS : va_S (eA E) s.heap s.heap [] := va_S.rf
  have hl := lv_entry ([.ref c]) (n := 3) (Nat.le_of_ble_eq_true rfl)
  rw [lg_entry_eq]
  generalize (lg_sl ([.ref c]) ++ List.replicate (3 - (lg_sl ([.ref c])).length) Slot.unset).toArray = ls at hl ⊢
  have hl : lv_has ls 3 [(0, .ref (c))] := hl
  refine lv_iconst (v := (0 : Int32)) hx hb dX2_crops_0 (by decide) ?_
  refine lv_istore_n (lv' := [(1, _), (0, _)]) hx hb dX2_crops_1 rfl hl (by decide) rfl (fun ls hl => ?_)
  refine lv_iconst (v := (0 : Int32)) hx hb dX2_crops_2 (by decide) ?_
  refine lv_istore_n (lv' := [(2, _), (1, _), (0, _)]) hx hb dX2_crops_3 rfl hl (by decide) rfl (fun ls hl => ?_)
  refine k_loop (fun k => 12 - k) (fun (k : Nat) H locs ls => (k ≤ 12) ∧ mw E t (M) H ∧ va_S (eA E) s.heap H locs ∧ lv_has ls 3 [(2, .int (nI k)), (1, .int ((L_crops t M c k))), (0, .ref (c))]) (fun (k : Nat) ls => F0 m 4 ls []) (fun k => (0, 0)) (fun k ih_1 H locs ls hP => ?_) (0) ⟨(Nat.zero_le _), hm, hS, (by rw [L_crops_0]; exact lv_sub hl [0, 1, 2] rfl)⟩
  obtain ⟨hI_1, hm, hS, hl⟩ := hP
  refine lv_iload_n hx hb dX2_crops_4 rfl (lv_at hl 0 rfl) ?_
  refine lv_bipush (v := (12 : Int32)) hx hb dX2_crops_5 (by decide) ?_
  refine lv_icmp_ge (tgt := 33) hx hb dX2_crops_7 (by decide) (fun c_2 => ?_) (fun c_2 => ?_)
  · have hkN : k = 12 := lp_ge (by decide) hI_1 c_2
    replace hkN := hkN.symm
    subst hkN
    refine lv_iload_n hx hb dX2_crops_33 rfl (lv_at hl 1 rfl) ?_
    exact W.iret (v := _) hx hb hr (fun t9 ht9 _ => ⟨⟨_, _, rfl, ⟨(rfl).symm, rfl⟩, hb9 ht9 hm⟩, hS.F ht9⟩) hS.2.2 dX2_crops_34
  · have hk : k < 12 := lp_lt (by decide) hI_1 c_2
    refine lv_iload_n hx hb dX2_crops_10 rfl (lv_at hl 1 rfl) ?_
    refine lv_aload_n hx hb dX2_crops_11 rfl (lv_at hl 2 rfl) ?_
    refine gf_203 hx hb hts hown hs hm (lay.z hL) (hts _ q233) dX2_crops_12 ?_
    refine lv_iload_n hx hb dX2_crops_15 rfl (lv_at hl 0 rfl) ?_
    refine k_aald24 hx hb hs hm (lay.a4 hL) (ix.at (B := 12) (⟨k, hk, rfl⟩) (by decide)) dX2_crops_16 ?_
    rw [show (nI k).toNatClampNeg = k from cl_nI (by omega)]
    refine k_join (fun (x4 : Int32) H locs ls => x4 = (if (aR M (c + 4) k) = none then (0 : Int32) else (1 : Int32)) ∧ mw E t (M) H ∧ va_S (eA E) s.heap H locs ∧ lv_has ls 3 [(2, .int (nI k)), (1, .int ((L_crops t M c k))), (0, .ref (c))]) (fun (x4 : Int32) ls => F0 m 25 ls [.int (x4), .int ((L_crops t M c k))]) (fun x4 H locs ls hJ => ?_) (fun J4 => ?_)
    · obtain ⟨hX4, hm, hS, hl⟩ := hJ
      refine lv_iadd hx hb dX2_crops_25 ?_
      refine lv_istore_n (lv' := [(1, _), (2, _), (0, _)]) hx hb dX2_crops_26 rfl hl (by decide) rfl (fun ls hl => ?_)
      refine lv_iinc (v := nI (k + 1)) (lv' := [(2, _), (1, _), (0, _)]) hx hb dX2_crops_27 hl (k := 1) rfl (nI_succ k).symm (by decide) rfl (fun ls hl => ?_)
      refine lv_goto (tgt := 4) hx hb dX2_crops_30 (by decide) ?_
      subst hX4
      have hE : L_crops t M c (k + 1) = _ := (L_crops_s t M c k).trans (rfl)
      exact ih_1 (k + 1) (by omega) _ _ _ ⟨(by omega), hm, hS, (by rw [hE]; exact lv_sub hl [0, 1, 2] rfl)⟩
    · refine lv_ifnonnullQ (tgt := 24) hx hb dX2_crops_17 (by decide) (fun c_3 => ?_) (fun c_3 => ?_)
      · refine lv_iconst (v := (1 : Int32)) hx hb dX2_crops_24 (by decide) ?_
        exact J4 ((1 : Int32)) _ _ _ ⟨((if_neg c_3).trans (rfl)).symm, hm, hS, lv_sub hl [0, 1, 2] rfl⟩
      · refine lv_iconst (v := (0 : Int32)) hx hb dX2_crops_20 (by decide) ?_
        refine lv_goto (tgt := 25) hx hb dX2_crops_21 (by decide) ?_
        exact J4 ((0 : Int32)) _ _ _ ⟨((if_pos c_3).trans (rfl)).symm, hm, hS, lv_sub hl [0, 1, 2] rfl⟩
def S_dug (t : mt) (M : mm) (c : Nat) (z : Int32) (k : Nat) : Int32 :=
  let x4 := if (aI M (c + 3) k) = (-1 : Int32) then (0 : Int32) else (1 : Int32);
  (z + x4)
def L_dug (t : mt) (M : mm) (c : Nat) : Nat → Int32
  | 0 => (0 : Int32)
  | k + 1 => S_dug t M c (L_dug t M c k) k
  termination_by k => k
theorem L_dug_0 (t : mt) (M : mm) (c : Nat) : L_dug t M c 0 = (0 : Int32) := by rw [L_dug]
theorem L_dug_s (t : mt) (M : mm) (c : Nat) (k : Nat) : L_dug t M c (k + 1) = S_dug t M c (L_dug t M c k) k := by rw [L_dug]
def C2_dug (t : mt) (M : mm) (c : Nat) : Int32 := L_dug t M c 12
set_option maxHeartbeats 4000000 in
theorem cm2_dug (l : Launch) (E : mE) (t : mt) (M : mm) (c : Nat)  (hL : lay t c)  : Met l yX2_dug (ws_ yX2_dug cX2_dug 3 (some .int)) ({ frames := 0, cells := 0, slots := 0, locals := 0 }) (va_Pc [.ref c] (wP E t M)) (va_Qi (fun (r : Int32) (u : mm) => r = (C2_dug t M c ) ∧ u = M) (fun u U => mw E t u U.heap) (eA E)) 0 0 (eA E) := by
  refine Met.ofW (cc := cX2_dug) (maxL := 3) (ret := (some .int)) (by decide) rfl ?_
  intro p e s m args below meth c0 s₁ B hml hv
  obtain ⟨rfl, hs, hm⟩ := hv
  have hx := B.exec
  have hb := B.bytes
  have hr := B.returns
  have hts := atoms_spec (ws := ws_ yX2_dug cX2_dug 3 (some .int)) B.pre
  have hts : ∀ w ∈ lw_all, w.before _ s = true := fun w h => hts w (List.mem_cons_of_mem _ h)
  have hown : s.vm.findClass RX2 = some m.cls := findClass_of_methodNamed B.named
  have hlocks := B.notSynchronized
  have hS : va_S (eA E) s.heap s.heap [] := va_S.rf
  have hl := lv_entry ([.ref c]) (n := 3) (Nat.le_of_ble_eq_true rfl)
  rw [lg_entry_eq]
  generalize (lg_sl ([.ref c]) ++ List.replicate (3 - (lg_sl ([.ref c])).length) Slot.unset).toArray = ls at hl ⊢
  have hl : lv_has ls 3 [(0, .ref (c))] := hl
  refine lv_iconst (v := (0 : Int32)) hx hb dX2_dug_0 (by decide) ?_
  refine lv_istore_n (lv' := [(1, _), (0, _)]) hx hb dX2_dug_1 rfl hl (by decide) rfl (fun ls hl => ?_)
  refine lv_iconst (v := (0 : Int32)) hx hb dX2_dug_2 (by decide) ?_
  refine lv_istore_n (lv' := [(2, _), (1, _), (0, _)]) hx hb dX2_dug_3 rfl hl (by decide) rfl (fun ls hl => ?_)
  refine k_loop (fun k => 12 - k) (fun (k : Nat) H locs ls => (k ≤ 12) ∧ mw E t (M) H ∧ va_S (eA E) s.heap H locs ∧ lv_has ls 3 [(2, .int (nI k)), (1, .int ((L_dug t M c k))), (0, .ref (c))]) (fun (k : Nat) ls => F0 m 4 ls []) (fun k => (0, 0)) (fun k ih_1 H locs ls hP => ?_) (0) ⟨(Nat.zero_le _), hm, hS, (by rw [L_dug_0]; exact lv_sub hl [0, 1, 2] rfl)⟩
  obtain ⟨hI_1, hm, hS, hl⟩ := hP
  refine lv_iload_n hx hb dX2_dug_4 rfl (lv_at hl 0 rfl) ?_
  refine lv_bipush (v := (12 : Int32)) hx hb dX2_dug_5 (by decide) ?_
  refine lv_icmp_ge (tgt := 34) hx hb dX2_dug_7 (by decide) (fun c_2 => ?_) (fun c_2 => ?_)
  · have hkN : k = 12 := lp_ge (by decide) hI_1 c_2
    replace hkN := hkN.symm
    subst hkN
    refine lv_iload_n hx hb dX2_dug_34 rfl (lv_at hl 1 rfl) ?_
    exact W.iret (v := _) hx hb hr (fun t9 ht9 _ => ⟨⟨_, _, rfl, ⟨(rfl).symm, rfl⟩, hb9 ht9 hm⟩, hS.F ht9⟩) hS.2.2 dX2_dug_35
  · have hk : k < 12 := lp_lt (by decide) hI_1 c_2
    refine lv_iload_n hx hb dX2_dug_10 rfl (lv_at hl 1 rfl) ?_
    refine lv_aload_n hx hb dX2_dug_11 rfl (lv_at hl 2 rfl) ?_
    refine gf_202 hx hb hts hown hs hm (lay.z hL) (hts _ q231) dX2_dug_12 ?_
    refine lv_iload_n hx hb dX2_dug_15 rfl (lv_at hl 0 rfl) ?_
    refine k_iald hx hb hs hm (lay.a3 hL) (ix.at (B := 12) (⟨k, hk, rfl⟩) (by decide)) dX2_dug_16 ?_
    rw [show (nI k).toNatClampNeg = k from (cl_nI (by omega))]
    refine lv_iconst (v := (-1 : Int32)) hx hb dX2_dug_17 (by decide) ?_
    refine k_join (fun (x4 : Int32) H locs ls => x4 = (if (aI M (c + 3) k) = (-1 : Int32) then (0 : Int32) else (1 : Int32)) ∧ mw E t (M) H ∧ va_S (eA E) s.heap H locs ∧ lv_has ls 3 [(2, .int (nI k)), (1, .int ((L_dug t M c k))), (0, .ref (c))]) (fun (x4 : Int32) ls => F0 m 26 ls [.int (x4), .int ((L_dug t M c k))]) (fun x4 H locs ls hJ => ?_) (fun J4 => ?_)
    · obtain ⟨hX4, hm, hS, hl⟩ := hJ
      refine lv_iadd hx hb dX2_dug_26 ?_
      refine lv_istore_n (lv' := [(1, _), (2, _), (0, _)]) hx hb dX2_dug_27 rfl hl (by decide) rfl (fun ls hl => ?_)
      refine lv_iinc (v := nI (k + 1)) (lv' := [(2, _), (1, _), (0, _)]) hx hb dX2_dug_28 hl (k := 1) rfl (nI_succ k).symm (by decide) rfl (fun ls hl => ?_)
      refine lv_goto (tgt := 4) hx hb dX2_dug_31 (by decide) ?_
      subst hX4
      have hE : L_dug t M c (k + 1) = _ := (L_dug_s t M c k).trans (rfl)
      exact ih_1 (k + 1) (by omega) _ _ _ ⟨(by omega), hm, hS, (by rw [hE]; exact lv_sub hl [0, 1, 2] rfl)⟩
    · refine lv_icmp_ne (tgt := 25) hx hb dX2_dug_18 (by decide) (fun c_3 => ?_) (fun c_3 => ?_)
      · refine lv_iconst (v := (1 : Int32)) hx hb dX2_dug_25 (by decide) ?_
        exact J4 ((1 : Int32)) _ _ _ ⟨((if_neg c_3).trans (rfl)).symm, hm, hS, lv_sub hl [0, 1, 2] rfl⟩
      · refine lv_iconst (v := (0 : Int32)) hx hb dX2_dug_21 (by decide) ?_
        refine lv_goto (tgt := 26) hx hb dX2_dug_22 (by decide) ?_
        exact J4 ((0 : Int32)) _ _ _ ⟨((if_pos c_3).trans (rfl)).symm, hm, hS, lv_sub hl [0, 1, 2] rfl⟩
def S_standing (t : mt) (M : mm) (c : Nat) (z : Int32) (k : Nat) : Int32 :=
  let x4 := if (gI M 602 (c + 54 + k)) = 0 then (0 : Int32) else (1 : Int32);
  (z + x4)
def L_standing (t : mt) (M : mm) (c : Nat) : Nat → Int32
  | 0 => (0 : Int32)
  | k + 1 => S_standing t M c (L_standing t M c k) k
  termination_by k => k
theorem L_standing_0 (t : mt) (M : mm) (c : Nat) : L_standing t M c 0 = (0 : Int32) := by rw [L_standing]
theorem L_standing_s (t : mt) (M : mm) (c : Nat) (k : Nat) : L_standing t M c (k + 1) = S_standing t M c (L_standing t M c k) k := by rw [L_standing]
def C2_standing (t : mt) (M : mm) (c : Nat) : Int32 := L_standing t M c (gI M 212 c).toNatClampNeg
set_option maxHeartbeats 4000000 in
theorem cm2_standing (l : Launch) (E : mE) (t : mt) (M : mm) (c : Nat)  (hL : lay t c) (hn : ix 5 (gI M 212 c)) : Met l yX2_standing (ws_ yX2_standing cX2_standing 3 (some .int)) ({ frames := 0, cells := 0, slots := 0, locals := 0 }) (va_Pc [.ref c] (wP E t M)) (va_Qi (fun (r : Int32) (u : mm) => r = (C2_standing t M c ) ∧ u = M) (fun u U => mw E t u U.heap) (eA E)) 0 0 (eA E) := by
  refine Met.ofW (cc := cX2_standing) (maxL := 3) (ret := (some .int)) (by decide) rfl ?_
  intro p e s m args below meth c0 s₁ B hml hv
  obtain ⟨rfl, hs, hm⟩ := hv
  have hx := B.exec
  have hb := B.bytes
  have hr := B.returns
  have hts := atoms_spec (ws := ws_ yX2_standing cX2_standing 3 (some .int)) B.pre
  have hts : ∀ w ∈ lw_all, w.before _ s = true := fun w h => hts w (List.mem_cons_of_mem _ h)
  have hown : s.vm.findClass RX2 = some m.cls := findClass_of_methodNamed B.named
  have hlocks := B.notSynchronized
  have hS : va_S (eA E) s.heap s.heap [] := va_S.rf
  have hl := lv_entry ([.ref c]) (n := 3) (Nat.le_of_ble_eq_true rfl)
  rw [lg_entry_eq]
  generalize (lg_sl ([.ref c]) ++ List.replicate (3 - (lg_sl ([.ref c])).length) Slot.unset).toArray = ls at hl ⊢
  have hl : lv_has ls 3 [(0, .ref (c))] := hl
  refine lv_iconst (v := (0 : Int32)) hx hb dX2_standing_0 (by decide) ?_
  refine lv_istore_n (lv' := [(1, _), (0, _)]) hx hb dX2_standing_1 rfl hl (by decide) rfl (fun ls hl => ?_)
  refine lv_iconst (v := (0 : Int32)) hx hb dX2_standing_2 (by decide) ?_
  refine lv_istore_n (lv' := [(2, _), (1, _), (0, _)]) hx hb dX2_standing_3 rfl hl (by decide) rfl (fun ls hl => ?_)
  refine k_loop (fun k => (gI M 212 c).toNatClampNeg - k) (fun (k : Nat) H locs ls => (k ≤ (gI M 212 c).toNatClampNeg) ∧ mw E t (M) H ∧ va_S (eA E) s.heap H locs ∧ lv_has ls 3 [(2, .int (nI k)), (1, .int ((L_standing t M c k))), (0, .ref (c))]) (fun (k : Nat) ls => F0 m 4 ls []) (fun k => (0, 0)) (fun k ih_1 H locs ls hP => ?_) (0) ⟨(Nat.zero_le _), hm, hS, (by rw [L_standing_0]; exact lv_sub hl [0, 1, 2] rfl)⟩
  obtain ⟨hI_1, hm, hS, hl⟩ := hP
  refine lv_iload_n hx hb dX2_standing_4 rfl (lv_at hl 0 rfl) ?_
  refine lv_aload_n hx hb dX2_standing_5 rfl (lv_at hl 2 rfl) ?_
  refine gf_212 hx hb hts hown hs hm (lay.z hL) (hts _ q247) dX2_standing_6 ?_
  refine lv_icmp_ge (tgt := 38) hx hb dX2_standing_9 (by decide) (fun c_2 => ?_) (fun c_2 => ?_)
  · have hkN : k = (gI M 212 c).toNatClampNeg := lp_geI hn (by decide) hI_1 c_2
    replace hkN := hkN.symm
    subst hkN
    refine lv_iload_n hx hb dX2_standing_38 rfl (lv_at hl 1 rfl) ?_
    exact W.iret (v := _) hx hb hr (fun t9 ht9 _ => ⟨⟨_, _, rfl, ⟨(rfl).symm, rfl⟩, hb9 ht9 hm⟩, hS.F ht9⟩) hS.2.2 dX2_standing_39
  · have hk : k < (gI M 212 c).toNatClampNeg := lp_ltI hn (by decide) hI_1 c_2
    have hk6 : k < 4 := Nat.lt_of_lt_of_le hk (Nat.le_of_lt_succ (hn.nat (by decide)).1)
    refine lv_iload_n hx hb dX2_standing_12 rfl (lv_at hl 1 rfl) ?_
    refine lv_aload_n hx hb dX2_standing_13 rfl (lv_at hl 2 rfl) ?_
    refine gf_209 hx hb hts hown hs hm (lay.z hL) (hts _ q241) dX2_standing_14 ?_
    refine lv_iload_n hx hb dX2_standing_17 rfl (lv_at hl 0 rfl) ?_
    refine k_shd hx hb hs hm (lay.a10 hL) (k := k) (cl_nI (by omega)).symm (ix.at (B := 4) (⟨k, hk6, rfl⟩) (by decide)) dX2_standing_18 ?_
    refine gfN_602 hx hb hts hown hs hm (lay.shd hL (by omega)) q190 dX2_standing_19 ?_
    refine k_join (fun (x4 : Int32) H locs ls => x4 = (if (gI M 602 (c + 54 + k)) = 0 then (0 : Int32) else (1 : Int32)) ∧ mw E t (M) H ∧ va_S (eA E) s.heap H locs ∧ lv_has ls 3 [(2, .int (nI k)), (1, .int ((L_standing t M c k))), (0, .ref (c))]) (fun (x4 : Int32) ls => F0 m 30 ls [.int (x4), .int ((L_standing t M c k))]) (fun x4 H locs ls hJ => ?_) (fun J4 => ?_)
    · obtain ⟨hX4, hm, hS, hl⟩ := hJ
      refine lv_iadd hx hb dX2_standing_30 ?_
      refine lv_istore_n (lv' := [(1, _), (2, _), (0, _)]) hx hb dX2_standing_31 rfl hl (by decide) rfl (fun ls hl => ?_)
      refine lv_iinc (v := nI (k + 1)) (lv' := [(2, _), (1, _), (0, _)]) hx hb dX2_standing_32 hl (k := 1) rfl (nI_succ k).symm (by decide) rfl (fun ls hl => ?_)
      refine lv_goto (tgt := 4) hx hb dX2_standing_35 (by decide) ?_
      subst hX4
      have hE : L_standing t M c (k + 1) = _ := (L_standing_s t M c k).trans (rfl)
      exact ih_1 (k + 1) (by omega) _ _ _ ⟨(by omega), hm, hS, (by rw [hE]; exact lv_sub hl [0, 1, 2] rfl)⟩
    · refine lv_if_eq (tgt := 29) hx hb dX2_standing_22 (by decide) (fun c_3 => ?_) (fun c_3 => ?_)
      · refine lv_iconst (v := (0 : Int32)) hx hb dX2_standing_29 (by decide) ?_
        exact J4 ((0 : Int32)) _ _ _ ⟨((if_pos c_3).trans (rfl)).symm, hm, hS, lv_sub hl [0, 1, 2] rfl⟩
      · refine lv_iconst (v := (1 : Int32)) hx hb dX2_standing_25 (by decide) ?_
        refine lv_goto (tgt := 30) hx hb dX2_standing_26 (by decide) ?_
        exact J4 ((1 : Int32)) _ _ _ ⟨((if_neg c_3).trans (rfl)).symm, hm, hS, lv_sub hl [0, 1, 2] rfl⟩
def S_moles (t : mt) (M : mm) (c : Nat) (z : Int32) (k : Nat) : Int32 :=
  (z + (aI M (c + 2) k))
def L_moles (t : mt) (M : mm) (c : Nat) : Nat → Int32
  | 0 => (0 : Int32)
  | k + 1 => S_moles t M c (L_moles t M c k) k
  termination_by k => k
theorem L_moles_0 (t : mt) (M : mm) (c : Nat) : L_moles t M c 0 = (0 : Int32) := by rw [L_moles]
theorem L_moles_s (t : mt) (M : mm) (c : Nat) (k : Nat) : L_moles t M c (k + 1) = S_moles t M c (L_moles t M c k) k := by rw [L_moles]
def C2_moles (t : mt) (M : mm) (c : Nat) : Int32 := L_moles t M c 12
set_option maxHeartbeats 4000000 in
theorem cm2_moles (l : Launch) (E : mE) (t : mt) (M : mm) (c : Nat)  (hL : lay t c)  : Met l yX2_moles (ws_ yX2_moles cX2_moles 3 (some .int)) ({ frames := 0, cells := 0, slots := 0, locals := 0 }) (va_Pc [.ref c] (wP E t M)) (va_Qi (fun (r : Int32) (u : mm) => r = (C2_moles t M c ) ∧ u = M) (fun u U => mw E t u U.heap) (eA E)) 0 0 (eA E) := by
  refine Met.ofW (cc := cX2_moles) (maxL := 3) (ret := (some .int)) (by decide) rfl ?_
  intro p e s m args below meth c0 s₁ B hml hv
  obtain ⟨rfl, hs, hm⟩ := hv
  have hx := B.exec
  have hb := B.bytes
  have hr := B.returns
  have hts := atoms_spec (ws := ws_ yX2_moles cX2_moles 3 (some .int)) B.pre
  have hts : ∀ w ∈ lw_all, w.before _ s = true := fun w h => hts w (List.mem_cons_of_mem _ h)
  have hown : s.vm.findClass RX2 = some m.cls := findClass_of_methodNamed B.named
  have hlocks := B.notSynchronized
  have hS : va_S (eA E) s.heap s.heap [] := va_S.rf
  have hl := lv_entry ([.ref c]) (n := 3) (Nat.le_of_ble_eq_true rfl)
  rw [lg_entry_eq]
  generalize (lg_sl ([.ref c]) ++ List.replicate (3 - (lg_sl ([.ref c])).length) Slot.unset).toArray = ls at hl ⊢
  have hl : lv_has ls 3 [(0, .ref (c))] := hl
  refine lv_iconst (v := (0 : Int32)) hx hb dX2_moles_0 (by decide) ?_
  refine lv_istore_n (lv' := [(1, _), (0, _)]) hx hb dX2_moles_1 rfl hl (by decide) rfl (fun ls hl => ?_)
  refine lv_iconst (v := (0 : Int32)) hx hb dX2_moles_2 (by decide) ?_
  refine lv_istore_n (lv' := [(2, _), (1, _), (0, _)]) hx hb dX2_moles_3 rfl hl (by decide) rfl (fun ls hl => ?_)
  refine k_loop (fun k => 12 - k) (fun (k : Nat) H locs ls => (k ≤ 12) ∧ mw E t (M) H ∧ va_S (eA E) s.heap H locs ∧ lv_has ls 3 [(2, .int (nI k)), (1, .int ((L_moles t M c k))), (0, .ref (c))]) (fun (k : Nat) ls => F0 m 4 ls []) (fun k => (0, 0)) (fun k ih_1 H locs ls hP => ?_) (0) ⟨(Nat.zero_le _), hm, hS, (by rw [L_moles_0]; exact lv_sub hl [0, 1, 2] rfl)⟩
  obtain ⟨hI_1, hm, hS, hl⟩ := hP
  refine lv_iload_n hx hb dX2_moles_4 rfl (lv_at hl 0 rfl) ?_
  refine lv_bipush (v := (12 : Int32)) hx hb dX2_moles_5 (by decide) ?_
  refine lv_icmp_ge (tgt := 25) hx hb dX2_moles_7 (by decide) (fun c_2 => ?_) (fun c_2 => ?_)
  · have hkN : k = 12 := lp_ge (by decide) hI_1 c_2
    replace hkN := hkN.symm
    subst hkN
    refine lv_iload_n hx hb dX2_moles_25 rfl (lv_at hl 1 rfl) ?_
    exact W.iret (v := _) hx hb hr (fun t9 ht9 _ => ⟨⟨_, _, rfl, ⟨(rfl).symm, rfl⟩, hb9 ht9 hm⟩, hS.F ht9⟩) hS.2.2 dX2_moles_26
  · have hk : k < 12 := lp_lt (by decide) hI_1 c_2
    refine lv_iload_n hx hb dX2_moles_10 rfl (lv_at hl 1 rfl) ?_
    refine lv_aload_n hx hb dX2_moles_11 rfl (lv_at hl 2 rfl) ?_
    refine gf_201 hx hb hts hown hs hm (lay.z hL) (hts _ q229) dX2_moles_12 ?_
    refine lv_iload_n hx hb dX2_moles_15 rfl (lv_at hl 0 rfl) ?_
    refine k_iald hx hb hs hm (lay.a2 hL) (ix.at (B := 12) (⟨k, hk, rfl⟩) (by decide)) dX2_moles_16 ?_
    rw [show (nI k).toNatClampNeg = k from (cl_nI (by omega))]
    refine lv_iadd hx hb dX2_moles_17 ?_
    refine lv_istore_n (lv' := [(1, _), (2, _), (0, _)]) hx hb dX2_moles_18 rfl hl (by decide) rfl (fun ls hl => ?_)
    refine lv_iinc (v := nI (k + 1)) (lv' := [(2, _), (1, _), (0, _)]) hx hb dX2_moles_19 hl (k := 1) rfl (nI_succ k).symm (by decide) rfl (fun ls hl => ?_)
    refine lv_goto (tgt := 4) hx hb dX2_moles_22 (by decide) ?_
    have hE : L_moles t M c (k + 1) = _ := (L_moles_s t M c k).trans (rfl)
    exact ih_1 (k + 1) (by omega) _ _ _ ⟨(by omega), hm, hS, (by rw [hE]; exact lv_sub hl [0, 1, 2] rfl)⟩
