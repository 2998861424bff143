set_option maxRecDepth 100000
/-! the class: days, whether all is well, the list of prizes -/
theorem wfC_goes {t : mt} {M : mm} {c : Nat} (h : wfC t M c) : wfC t (C2_goesBy t M c).2 c := by
  have h1 := wfC_day h 12 (Nat.le_refl _)
  have h2 := wfC_shd h1 (gI (L_day t M c 12) 212 c).toNatClampNeg (by have := (h1.sh.nat (by decide)).1; omega) (Nat.le_refl _)
  unfold C2_goesBy
  dsimp only
  split
  · exact (wfC.setM h2).setD
  · exact h2.setD
def S_pass (t : mt) (M : mm) (c : Nat) (z : Int32 × mm) (k : Nat) : Int32 × mm :=
  let r_3 := (C2_goesBy t z.2 (c) ).1;
  let u_3 := (C2_goesBy t z.2 (c) ).2;
  ((z.1 + r_3), u_3)
def L_pass (t : mt) (M : mm) (c : Nat) : Nat → Int32 × mm
  | 0 => ((0 : Int32), M)
  | k + 1 => S_pass t M c (L_pass t M c k) k
  termination_by k => k
theorem L_pass_0 (t : mt) (M : mm) (c : Nat) : L_pass t M c 0 = ((0 : Int32), M) := by rw [L_pass]
theorem L_pass_s (t : mt) (M : mm) (c : Nat) (k : Nat) : L_pass t M c (k + 1) = S_pass t M c (L_pass t M c k) k := by rw [L_pass]
theorem wfC_pass {t : mt} {M : mm} {c : Nat} (h : wfC t M c) : ∀ k, wfC t (L_pass t M c k).2 c
  | 0 => by rw [L_pass_0]; exact h
  | k + 1 => by rw [L_pass_s]; exact wfC_goes (wfC_pass h k)
def C2_pass (t : mt) (M : mm) (c : Nat) (y : Int32) : Int32 × mm := L_pass t M c (y).toNatClampNeg
set_option maxHeartbeats 4000000 in
theorem cm2_pass (l : Launch) (E : mE) (t : mt) (M : mm) (c : Nat) (y : Int32) (hL : lay t c) (hy1 : ix 61 y) (hW0 : wfC t M c) : Met l yX2_pass (ws_ yX2_pass cX2_pass 4 (some .int)) ({ frames := 3, cells := 60, slots := 720, locals := 85 }) (va_Pc [.ref c, .int y] (wP E t M)) (va_Qi (fun (r : Int32) (u : mm) => r = ((C2_pass t M c y).1) ∧ u = (C2_pass t M c y).2) (fun u U => mw E t u U.heap) (eA E)) 60 720 (eA E) := by
  refine Met.ofW (cc := cX2_pass) (maxL := 4) (ret := (some .int)) (by decide) rfl ?_
  intro p e s m args below meth c0 s₁ B hml hv
  obtain ⟨rfl, hs, hm⟩ := hv
  have hx := B.exec
  have hb := B.bytes
  have hr := B.returns
  have hts := atoms_spec (ws := ws_ yX2_pass cX2_pass 4 (some .int)) B.pre
  have hts : ∀ w ∈ lw_all, w.before _ s = true := fun w h => hts w (List.mem_cons_of_mem _ h)
  have hown : s.vm.findClass RX2 = some m.cls := findClass_of_methodNamed B.named
  have hlocks := B.notSynchronized
  have hS : va_S (eA E) s.heap s.heap [] := va_S.rf
  have hl := lv_entry ([.ref c, .int y]) (n := 4) (Nat.le_of_ble_eq_true rfl)
  rw [lg_entry_eq]
  generalize (lg_sl ([.ref c, .int y]) ++ List.replicate (4 - (lg_sl ([.ref c, .int y])).length) Slot.unset).toArray = ls at hl ⊢
  have hl : lv_has ls 4 [(0, .ref (c)), (1, .int (y))] := hl
  refine lv_iconst (v := (0 : Int32)) hx hb dX2_pass_0 (by decide) ?_
  refine lv_istore_n (lv' := [(2, _), (0, _), (1, _)]) hx hb dX2_pass_1 rfl hl (by decide) rfl (fun ls hl => ?_)
  refine lv_iconst (v := (0 : Int32)) hx hb dX2_pass_2 (by decide) ?_
  refine lv_istore_n (lv' := [(3, _), (2, _), (0, _), (1, _)]) hx hb dX2_pass_3 rfl hl (by decide) rfl (fun ls hl => ?_)
  refine k_loop (fun k => (y).toNatClampNeg - k) (fun (k : Nat) H locs ls => (k ≤ (y).toNatClampNeg) ∧ mw E t ((L_pass t M c k).2) H ∧ va_S (eA E) s.heap H locs ∧ lv_has ls 4 [(3, .int (nI k)), (2, .int ((L_pass t M c k).1)), (0, .ref (c)), (1, .int (y))]) (fun (k : Nat) ls => F0 m 4 ls []) (fun k => (k, 12 * k)) (fun k ih_1 H locs ls hP => ?_) (0) ⟨(Nat.zero_le _), (by rw [L_pass_0]; exact hm), hS, (by rw [L_pass_0]; exact lv_sub hl [0, 1, 2, 3] rfl)⟩
  obtain ⟨hI_1, hm, hS, hl⟩ := hP
  refine lv_iload_n hx hb dX2_pass_4 rfl (lv_at hl 0 rfl) ?_
  refine lv_iload_n hx hb dX2_pass_5 rfl (lv_at hl 3 rfl) ?_
  refine lv_icmp_ge (tgt := 22) hx hb dX2_pass_6 (by decide) (fun c_2 => ?_) (fun c_2 => ?_)
  · have hkN : k = (y).toNatClampNeg := lp_geI hy1 (by decide) hI_1 c_2
    replace hkN := hkN.symm
    subst hkN
    refine lv_iload_n hx hb dX2_pass_22 rfl (lv_at hl 1 rfl) ?_
    refine W.widen (k := 60) (n := 720) ((show (y).toNatClampNeg ≤ 60 from Nat.le_of_lt_succ (hy1.nat (by decide)).1)) ((show 12 * (y).toNatClampNeg ≤ 720 from by have := (hy1.nat (by decide)).1; omega)) ?_
    exact W.iret (v := _) hx hb hr (fun t9 ht9 _ => ⟨⟨_, _, rfl, pp (rfl), hb9 ht9 hm⟩, hS.F ht9⟩) hS.2.2 dX2_pass_23
  · have hk : k < (y).toNatClampNeg := lp_ltI hy1 (by decide) hI_1 c_2
    have hk60 : k < 60 := Nat.lt_of_lt_of_le hk (Nat.le_of_lt_succ (hy1.nat (by decide)).1)
    refine lv_iload_n hx hb dX2_pass_9 rfl (lv_at hl 1 rfl) ?_
    refine lv_aload_n hx hb dX2_pass_10 rfl (lv_at hl 2 rfl) ?_
    refine k_calli (va_runV (As := []) (rest := [.int ((L_pass t M c k).1)]) ⟨hx, hb, hml, hown, hts⟩ (cm2_goesBy l E t (L_pass t M c k).2  (c)  hL (wfC_pass hW0 k)) (cwV 0 hts (lw_V q949 q950 q951 q59 q952) rfl rfl rfl (by decide +kernel) ⟨Nat.le_of_ble_eq_true rfl, Nat.le_of_ble_eq_true rfl⟩) (k_preV hs hm hS (mw.recv hs hm (mt_ne (lay.z hL) (by decide)) (ct2 (lay.z hL)) rfl)) rfl rfl hl.1 rfl (lv_room (Nat.le_of_ble_eq_true rfl)) dX2_pass_11 ⟨(show k + 1 ≤ 60 from by omega), (show 12 * k + 12 ≤ 720 from by omega)⟩) hS (fun r_3 u_3 H locs hw_3 hm_3 hS => ?_)
    obtain ⟨hr_3, hu_3⟩ := hw_3
    have hm := hm_3
    refine lv_iadd hx hb dX2_pass_14 ?_
    refine lv_istore_n (lv' := [(2, _), (3, _), (0, _), (1, _)]) hx hb dX2_pass_15 rfl hl (by decide) rfl (fun ls hl => ?_)
    refine lv_iinc (v := nI (k + 1)) (lv' := [(3, _), (2, _), (0, _), (1, _)]) hx hb dX2_pass_16 hl (k := 1) rfl (nI_succ k).symm (by decide) rfl (fun ls hl => ?_)
    refine lv_goto (tgt := 4) hx hb dX2_pass_19 (by decide) ?_
    subst hu_3
    subst hr_3
    have hE : L_pass t M c (k + 1) = _ := (L_pass_s t M c k).trans (rfl)
    exact ih_1 (k + 1) (by omega) _ _ _ ⟨(by omega), (by rw [hE]; exact hm), hS, (by rw [hE]; exact lv_sub hl [0, 1, 2, 3] rfl)⟩
def S_iw1 (t : mt) (M : mm) (c : Nat) (b : Int32) (z : Int32) (k : Nat) : Int32 :=
  let x16 := if (gI M 500 (c + 48 + k)) = (-1 : Int32) then (1 : Int32) else if (aI M (c + 3) ((if (0 : Int32) < (gI M 500 (c + 48 + k)) then (gI M 500 (c + 48 + k)) else (0 : Int32))).toNatClampNeg) = nI k then (1 : Int32) else (0 : Int32);
  (z &&& x16)
def L_iw1 (t : mt) (M : mm) (c : Nat) (b : Int32) : Nat → Int32
  | 0 => b
  | k + 1 => S_iw1 t M c b (L_iw1 t M c b k) k
  termination_by k => k
theorem L_iw1_0 (t : mt) (M : mm) (c : Nat) (b : Int32) : L_iw1 t M c b 0 = b := by rw [L_iw1]
theorem L_iw1_s (t : mt) (M : mm) (c : Nat) (b : Int32) (k : Nat) : L_iw1 t M c b (k + 1) = S_iw1 t M c b (L_iw1 t M c b k) k := by rw [L_iw1]
theorem z_iw1 (t : mt) (M : mm) (c : Nat) (b : Int32) (hb : b = 0 ∨ b = 1) : ∀ k, L_iw1 t M c b k = 0 ∨ L_iw1 t M c b k = 1
  | 0 => by rw [L_iw1_0]; exact hb
  | k + 1 => by
    rw [L_iw1_s]
    have ih := z_iw1 t M c b hb k
    unfold S_iw1
    dsimp only
    (repeat' split) <;> (rcases ih with h | h <;> rw [h] <;> decide)
def S_iw2 (t : mt) (M : mm) (c : Nat) (b : Int32) (z : Int32) (k : Nat) : Int32 :=
  let x10 := if (aI M (c + 3) k) = (-1 : Int32) then (1 : Int32) else if (gI M 500 (c + 48 + ((if (0 : Int32) < (aI M (c + 3) k) then (aI M (c + 3) k) else (0 : Int32))).toNatClampNeg)) = nI k then (1 : Int32) else (0 : Int32);
  let x12 := if (Op.cmpValue (FP.fcmp (aF M (c + 1) k) FP.fconst0) .l) < 0 then (0 : Int32) else if 0 < (Op.cmpValue (FP.fcmp (aF M (c + 1) k) (1120403456 : UInt32)) .g) then (0 : Int32) else (1 : Int32);
  ((z &&& x10) &&& x12)
def L_iw2 (t : mt) (M : mm) (c : Nat) (b : Int32) : Nat → Int32
  | 0 => b
  | k + 1 => S_iw2 t M c b (L_iw2 t M c b k) k
  termination_by k => k
theorem L_iw2_0 (t : mt) (M : mm) (c : Nat) (b : Int32) : L_iw2 t M c b 0 = b := by rw [L_iw2]
theorem L_iw2_s (t : mt) (M : mm) (c : Nat) (b : Int32) (k : Nat) : L_iw2 t M c b (k + 1) = S_iw2 t M c b (L_iw2 t M c b k) k := by rw [L_iw2]
theorem z_iw2 (t : mt) (M : mm) (c : Nat) (b : Int32) (hb : b = 0 ∨ b = 1) : ∀ k, L_iw2 t M c b k = 0 ∨ L_iw2 t M c b k = 1
  | 0 => by rw [L_iw2_0]; exact hb
  | k + 1 => by
    rw [L_iw2_s]
    have ih := z_iw2 t M c b hb k
    unfold S_iw2
    dsimp only
    (repeat' split) <;> (rcases ih with h | h <;> rw [h] <;> decide)
def C2_isWell (t : mt) (M : mm) (c : Nat)  : Int32 :=
  let r_1 := C2_onBenches t M (c) ;
  let r_2 := C2_crops t M (c) ;
  let x4 := if (gI M 217 c) = ((r_1 + r_2) + (gI M 218 c)) then (1 : Int32) else (0 : Int32);
  (L_iw2 t M c (L_iw1 t M c x4 (gI M 211 c).toNatClampNeg) 12)
set_option maxHeartbeats 4000000 in
theorem cm2_isWell (l : Launch) (E : mE) (t : mt) (M : mm) (c : Nat)  (hL : lay t c) (hn : ix 7 (gI M 211 c)) (hmp : ∀ k, k < 6 → k < (gI M 211 c).toNatClampNeg → gI M 500 (c + 48 + k) = -1 ∨ ix 12 (gI M 500 (c + 48 + k))) (hdg : ∀ k, k < 12 → aI M (c + 3) k = -1 ∨ ix 6 (aI M (c + 3) k)) : Met l yX2_isWell (ws_ yX2_isWell cX2_isWell 3 (some .boolean)) ({ frames := 1, cells := 0, slots := 0, locals := 22 }) (va_Pc [.ref c] (wP E t M)) (va_Qi (fun (r : Int32) (u : mm) => r = (C2_isWell t M c ) ∧ u = M) (fun u U => mw E t u U.heap) (eA E)) 0 0 (eA E) := by
  refine Met.ofW (cc := cX2_isWell) (maxL := 3) (ret := (some .boolean)) (by decide) rfl ?_
  intro p e s m args below meth c0 s₁ B hml hv
  obtain ⟨rfl, hs, hm⟩ := hv
  have hx := B.exec
  have hb := B.bytes
  have hr := B.returns
  have hts := atoms_spec (ws := ws_ yX2_isWell cX2_isWell 3 (some .boolean)) B.pre
  have hts : ∀ w ∈ lw_all, w.before _ s = true := fun w h => hts w (List.mem_cons_of_mem _ h)
  have hown : s.vm.findClass RX2 = some m.cls := findClass_of_methodNamed B.named
  have hlocks := B.notSynchronized
  have hS : va_S (eA E) s.heap s.heap [] := va_S.rf
  have hl := lv_entry ([.ref c]) (n := 3) (Nat.le_of_ble_eq_true rfl)
  rw [lg_entry_eq]
  generalize (lg_sl ([.ref c]) ++ List.replicate (3 - (lg_sl ([.ref c])).length) Slot.unset).toArray = ls at hl ⊢
  have hl : lv_has ls 3 [(0, .ref (c))] := hl
  refine lv_aload_n hx hb dX2_isWell_0 rfl (lv_at hl 0 rfl) ?_
  refine gf_217 hx hb hts hown hs hm (lay.z hL) (hts _ q259) dX2_isWell_1 ?_
  refine lv_aload_n hx hb dX2_isWell_4 rfl (lv_at hl 0 rfl) ?_
  refine k_calli (va_runV (As := []) (rest := [.int ((gI M 217 c))]) ⟨hx, hb, hml, hown, hts⟩ (cm2_onBenches l E t M  (c)  hL ) (cwV 0 hts (lw_V q651 q652 q653 q59 q654) rfl rfl rfl (by decide +kernel) ⟨Nat.le_of_ble_eq_true rfl, Nat.le_of_ble_eq_true rfl⟩) (k_preV hs hm hS (mw.recv hs hm (mt_ne (lay.z hL) (by decide)) (ct2 (lay.z hL)) rfl)) rfl rfl hl.1 rfl (lv_room (Nat.le_of_ble_eq_true rfl)) dX2_isWell_5 ⟨Nat.le_of_ble_eq_true rfl, Nat.le_of_ble_eq_true rfl⟩) hS (fun r_1 u_1 H locs hw_1 hm_1 hS => ?_)
  obtain ⟨hr_1, hu_1⟩ := hw_1
  replace hu_1 := hu_1.symm
  subst hu_1
  have hm := hm_1
  refine lv_aload_n hx hb dX2_isWell_8 rfl (lv_at hl 0 rfl) ?_
  refine k_calli (va_runV (As := []) (rest := [.int (r_1), .int ((gI M 217 c))]) ⟨hx, hb, hml, hown, hts⟩ (cm2_crops l E t M  (c)  hL ) (cwV 0 hts (lw_V q655 q656 q657 q59 q658) rfl rfl rfl (by decide +kernel) ⟨Nat.le_of_ble_eq_true rfl, Nat.le_of_ble_eq_true rfl⟩) (k_preV hs hm hS (mw.recv hs hm (mt_ne (lay.z hL) (by decide)) (ct2 (lay.z hL)) rfl)) rfl rfl hl.1 rfl (lv_room (Nat.le_of_ble_eq_true rfl)) dX2_isWell_9 ⟨Nat.le_of_ble_eq_true rfl, Nat.le_of_ble_eq_true rfl⟩) hS (fun r_2 u_2 H locs hw_2 hm_2 hS => ?_)
  obtain ⟨hr_2, hu_2⟩ := hw_2
  replace hu_2 := hu_2.symm
  subst hu_2
  have hm := hm_2
  refine lv_iadd hx hb dX2_isWell_12 ?_
  refine lv_aload_n hx hb dX2_isWell_13 rfl (lv_at hl 0 rfl) ?_
  refine gf_218 hx hb hts hown hs hm (lay.z hL) (hts _ q261) dX2_isWell_14 ?_
  refine lv_iadd hx hb dX2_isWell_17 ?_
  refine k_join (fun (x4 : Int32) H locs ls => x4 = (if (gI M 217 c) = ((r_1 + r_2) + (gI M 218 c)) then (1 : Int32) else (0 : Int32)) ∧ mw E t (M) H ∧ va_S (eA E) s.heap H locs ∧ lv_has ls 3 [(0, .ref (c))]) (fun (x4 : Int32) ls => F0 m 26 ls [.int (x4)]) (fun x4 H locs ls hJ => ?_) (fun J4 => ?_)
  · obtain ⟨hX4, hm, hS, hl⟩ := hJ
    refine lv_istore_n (lv' := [(1, _), (0, _)]) hx hb dX2_isWell_26 rfl hl (by decide) rfl (fun ls hl => ?_)
    refine lv_iconst (v := (0 : Int32)) hx hb dX2_isWell_27 (by decide) ?_
    refine lv_istore_n (lv' := [(2, _), (1, _), (0, _)]) hx hb dX2_isWell_28 rfl hl (by decide) rfl (fun ls hl => ?_)
    refine k_loop (fun k => (gI M 211 c).toNatClampNeg - k) (fun (k : Nat) H locs ls => (k ≤ (gI M 211 c).toNatClampNeg) ∧ mw E t (M) H ∧ va_S (eA E) s.heap H locs ∧ lv_has ls 3 [(2, .int (nI k)), (1, .int ((L_iw1 t M c x4 k))), (0, .ref (c))]) (fun (k : Nat) ls => F0 m 29 ls []) (fun k => (0, 0)) (fun k ih_5 H locs ls hP => ?_) (0) ⟨(Nat.zero_le _), hm, hS, (by rw [L_iw1_0]; exact lv_sub hl [0, 1, 2] rfl)⟩
    obtain ⟨hI_5, hm, hS, hl⟩ := hP
    refine lv_iload_n hx hb dX2_isWell_29 rfl (lv_at hl 0 rfl) ?_
    refine lv_aload_n hx hb dX2_isWell_30 rfl (lv_at hl 2 rfl) ?_
    refine gf_211 hx hb hts hown hs hm (lay.z hL) (hts _ q245) dX2_isWell_31 ?_
    refine lv_icmp_ge (tgt := 86) hx hb dX2_isWell_34 (by decide) (fun c_6 => ?_) (fun c_6 => ?_)
    · have hkN : k = (gI M 211 c).toNatClampNeg := lp_geI hn (by decide) hI_5 c_6
      replace hkN := hkN.symm
      subst hkN
      refine lv_iconst (v := (0 : Int32)) hx hb dX2_isWell_86 (by decide) ?_
      refine lv_istore_n (lv' := [(2, _), (1, _), (0, _)]) hx hb dX2_isWell_87 rfl hl (by decide) rfl (fun ls hl => ?_)
      refine k_loop (fun k => 12 - k) (fun (k : Nat) H locs ls => (k ≤ 12) ∧ mw E t (M) H ∧ va_S (eA E) s.heap H locs ∧ lv_has ls 3 [(2, .int (nI k)), (1, .int ((L_iw2 t M c (L_iw1 t M c x4 (gI M 211 c).toNatClampNeg) k))), (0, .ref (c))]) (fun (k : Nat) ls => F0 m 88 ls []) (fun k => (0, 0)) (fun k ih_7 H locs ls hP => ?_) (0) ⟨(Nat.zero_le _), hm, hS, (by rw [L_iw2_0]; exact lv_sub hl [0, 1, 2] rfl)⟩
      obtain ⟨hI_7, hm, hS, hl⟩ := hP
      refine lv_iload_n hx hb dX2_isWell_88 rfl (lv_at hl 0 rfl) ?_
      refine lv_bipush (v := (12 : Int32)) hx hb dX2_isWell_89 (by decide) ?_
      refine lv_icmp_ge (tgt := 171) hx hb dX2_isWell_91 (by decide) (fun c_8 => ?_) (fun c_8 => ?_)
      · have hkN : k = 12 := lp_ge (by decide) hI_7 c_8
        replace hkN := hkN.symm
        subst hkN
        refine lv_iload_n hx hb dX2_isWell_171 rfl (lv_at hl 1 rfl) ?_
        subst hX4
        subst hr_2
        subst hr_1
        exact W.zret (v := _) hx hb hr (z01n (z_iw2 t M c _ (z_iw1 t M c _ (by split <;> decide) _) _)) (fun t9 ht9 _ => ⟨⟨_, _, rfl, ⟨(rfl).symm, rfl⟩, hb9 ht9 hm⟩, hS.F ht9⟩) hS.2.2 dX2_isWell_172
      · have hk : k < 12 := lp_lt (by decide) hI_7 c_8
        refine lv_iload_n hx hb dX2_isWell_94 rfl (lv_at hl 1 rfl) ?_
        refine lv_aload_n hx hb dX2_isWell_95 rfl (lv_at hl 2 rfl) ?_
        refine gf_202 hx hb hts hown hs hm (lay.z hL) (hts _ q231) dX2_isWell_96 ?_
        refine lv_iload_n hx hb dX2_isWell_99 rfl (lv_at hl 0 rfl) ?_
        refine k_iald hx hb hs hm (lay.a3 hL) (ix.at (B := 12) (⟨k, hk, rfl⟩) (by decide)) dX2_isWell_100 ?_
        rw [show (nI k).toNatClampNeg = k from (cl_nI (by omega))]
        refine lv_iconst (v := (-1 : Int32)) hx hb dX2_isWell_101 (by decide) ?_
        refine k_join (fun (x10 : Int32) H locs ls => x10 = (if (aI M (c + 3) k) = (-1 : Int32) then (1 : Int32) else if (gI M 500 (c + 48 + ((if (0 : Int32) < (aI M (c + 3) k) then (aI M (c + 3) k) else (0 : Int32))).toNatClampNeg)) = nI k then (1 : Int32) else (0 : Int32)) ∧ mw E t (M) H ∧ va_S (eA E) s.heap H locs ∧ lv_has ls 3 [(2, .int (nI k)), (1, .int ((L_iw2 t M c (L_iw1 t M c x4 (gI M 211 c).toNatClampNeg) k))), (0, .ref (c))]) (fun (x10 : Int32) ls => F0 m 132 ls [.int (x10), .int ((L_iw2 t M c (L_iw1 t M c x4 (gI M 211 c).toNatClampNeg) k))]) (fun x10 H locs ls hJ => ?_) (fun J10 => ?_)
        · obtain ⟨hX10, hm, hS, hl⟩ := hJ
          refine lv_iand hx hb dX2_isWell_132 ?_
          refine lv_istore_n (lv' := [(1, _), (2, _), (0, _)]) hx hb dX2_isWell_133 rfl hl (by decide) rfl (fun ls hl => ?_)
          refine lv_iload_n hx hb dX2_isWell_134 rfl (lv_at hl 0 rfl) ?_
          refine lv_aload_n hx hb dX2_isWell_135 rfl (lv_at hl 2 rfl) ?_
          refine gf_200 hx hb hts hown hs hm (lay.z hL) (hts _ q227) dX2_isWell_136 ?_
          refine lv_iload_n hx hb dX2_isWell_139 rfl (lv_at hl 1 rfl) ?_
          refine k_fald hx hb hs hm (lay.a1 hL) (ix.at (B := 12) (⟨k, hk, rfl⟩) (by decide)) dX2_isWell_140 ?_
          rw [show (nI k).toNatClampNeg = k from (cl_nI (by omega))]
          refine lv_fconst0 hx hb dX2_isWell_141 ?_
          refine lv_fcmp hx hb dX2_isWell_142 ?_
          refine k_join (fun (x12 : Int32) H locs ls => x12 = (if (Op.cmpValue (FP.fcmp (aF M (c + 1) k) FP.fconst0) .l) < 0 then (0 : Int32) else if 0 < (Op.cmpValue (FP.fcmp (aF M (c + 1) k) (1120403456 : UInt32)) .g) then (0 : Int32) else (1 : Int32)) ∧ mw E t (M) H ∧ va_S (eA E) s.heap H locs ∧ lv_has ls 3 [(1, .int (((L_iw2 t M c (L_iw1 t M c x4 (gI M 211 c).toNatClampNeg) k) &&& x10))), (2, .int (nI k)), (0, .ref (c))]) (fun (x12 : Int32) ls => F0 m 163 ls [.int (x12), .int (((L_iw2 t M c (L_iw1 t M c x4 (gI M 211 c).toNatClampNeg) k) &&& x10))]) (fun x12 H locs ls hJ => ?_) (fun J12 => ?_)
          · obtain ⟨hX12, hm, hS, hl⟩ := hJ
            refine lv_iand hx hb dX2_isWell_163 ?_
            refine lv_istore_n (lv' := [(1, _), (2, _), (0, _)]) hx hb dX2_isWell_164 rfl hl (by decide) rfl (fun ls hl => ?_)
            refine lv_iinc (v := nI (k + 1)) (lv' := [(2, _), (1, _), (0, _)]) hx hb dX2_isWell_165 hl (k := 1) rfl (nI_succ k).symm (by decide) rfl (fun ls hl => ?_)
            refine lv_goto (tgt := 88) hx hb dX2_isWell_168 (by decide) ?_
            subst hX12
            subst hX10
            have hE : L_iw2 t M c (L_iw1 t M c x4 (gI M 211 c).toNatClampNeg) (k + 1) = _ := (L_iw2_s t M c _ k).trans (rfl)
            exact ih_7 (k + 1) (by omega) _ _ _ ⟨(by omega), hm, hS, (by rw [hE]; exact lv_sub hl [0, 1, 2] rfl)⟩
          · refine lv_if_lt (tgt := 162) hx hb dX2_isWell_143 (by decide) (fun c_11 => ?_) (fun c_11 => ?_)
            · refine lv_iconst (v := (0 : Int32)) hx hb dX2_isWell_162 (by decide) ?_
              exact J12 ((0 : Int32)) _ _ _ ⟨((if_pos c_11).trans (rfl)).symm, hm, hS, lv_sub hl [0, 1, 2] rfl⟩
            · refine lv_aload_n hx hb dX2_isWell_146 rfl (lv_at hl 2 rfl) ?_
              refine gf_200 hx hb hts hown hs hm (lay.z hL) (hts _ q227) dX2_isWell_147 ?_
              refine lv_iload_n hx hb dX2_isWell_150 rfl (lv_at hl 1 rfl) ?_
              refine k_fald hx hb hs hm (lay.a1 hL) (ix.at (B := 12) (⟨k, hk, rfl⟩) (by decide)) dX2_isWell_151 ?_
              rw [show (nI k).toNatClampNeg = k from (cl_nI (by omega))]
              refine lv_ldcf (v := 1120403456) hx hb hown (hts _ q662) dX2_isWell_152 ?_
              refine lv_fcmp hx hb dX2_isWell_154 ?_
              refine lv_if_gt (tgt := 162) hx hb dX2_isWell_155 (by decide) (fun c_13 => ?_) (fun c_13 => ?_)
              · refine lv_iconst (v := (0 : Int32)) hx hb dX2_isWell_162 (by decide) ?_
                exact J12 ((0 : Int32)) _ _ _ ⟨((if_neg c_11).trans ((if_pos c_13).trans (rfl))).symm, hm, hS, lv_sub hl [0, 1, 2] rfl⟩
              · refine lv_iconst (v := (1 : Int32)) hx hb dX2_isWell_158 (by decide) ?_
                refine lv_goto (tgt := 163) hx hb dX2_isWell_159 (by decide) ?_
                exact J12 ((1 : Int32)) _ _ _ ⟨((if_neg c_11).trans ((if_neg c_13).trans (rfl))).symm, hm, hS, lv_sub hl [0, 1, 2] rfl⟩
        · refine lv_icmp_eq (tgt := 127) hx hb dX2_isWell_102 (by decide) (fun c_9 => ?_) (fun c_9 => ?_)
          · refine lv_iconst (v := (1 : Int32)) hx hb dX2_isWell_127 (by decide) ?_
            refine lv_goto (tgt := 132) hx hb dX2_isWell_128 (by decide) ?_
            exact J10 ((1 : Int32)) _ _ _ ⟨((if_pos c_9).trans (rfl)).symm, hm, hS, lv_sub hl [0, 1, 2] rfl⟩
          · obtain ⟨j, hj, hjB⟩ := (hdg k hk).resolve_left c_9
            have hq9 := mx0_ix (by omega : j < 12) hjB
            have hq6 : ix 6 (if (0 : Int32) < (aI M (c + 3) k) then (aI M (c + 3) k) else (0 : Int32)) := ⟨j, hj, mx0 (by omega) hjB⟩
            refine lv_aload_n hx hb dX2_isWell_105 rfl (lv_at hl 2 rfl) ?_
            refine gf_208 hx hb hts hown hs hm (lay.z hL) (hts _ q239) dX2_isWell_106 ?_
            refine lv_iconst (v := (0 : Int32)) hx hb dX2_isWell_109 (by decide) ?_
            refine lv_aload_n hx hb dX2_isWell_110 rfl (lv_at hl 2 rfl) ?_
            refine gf_202 hx hb hts hown hs hm (lay.z hL) (hts _ q231) dX2_isWell_111 ?_
            refine lv_iload_n hx hb dX2_isWell_114 rfl (lv_at hl 0 rfl) ?_
            refine k_iald hx hb hs hm (lay.a3 hL) (ix.at (B := 12) (⟨k, hk, rfl⟩) (by decide)) dX2_isWell_115 ?_
            rw [show (nI k).toNatClampNeg = k from (cl_nI (by omega))]
            refine va_mmax hx hb (hml.trans hl.1.symm) hown (hts _ q659) (hts _ q660) (hts _ q78) (hts _ q661) (Nat.le_of_ble_eq_true rfl) (Nat.le_of_ble_eq_true rfl) (Nat.le_of_ble_eq_true rfl) (Nat.le_of_ble_eq_true rfl) dX2_isWell_116 ?_
            refine k_mem hx hb hs hm (lay.a9 hL) (k := ((if (0 : Int32) < (aI M (c + 3) k) then (aI M (c + 3) k) else (0 : Int32))).toNatClampNeg) rfl (ix.at (B := 6) ((hq6).mono (by decide)) (by decide)) dX2_isWell_119 ?_
            refine gfN_500 hx hb hts hown hs hm (lay.mem hL (ix.nlt ((hq6).mono (by decide)))) q163 dX2_isWell_120 ?_
            refine lv_iload_n hx hb dX2_isWell_123 rfl (lv_at hl 0 rfl) ?_
            refine lv_icmp_ne (tgt := 131) hx hb dX2_isWell_124 (by decide) (fun c_14 => ?_) (fun c_14 => ?_)
            · refine lv_iconst (v := (0 : Int32)) hx hb dX2_isWell_131 (by decide) ?_
              exact J10 ((0 : Int32)) _ _ _ ⟨((if_neg c_9).trans ((if_neg c_14).trans (rfl))).symm, hm, hS, lv_sub hl [0, 1, 2] rfl⟩
            · refine lv_iconst (v := (1 : Int32)) hx hb dX2_isWell_127 (by decide) ?_
              refine lv_goto (tgt := 132) hx hb dX2_isWell_128 (by decide) ?_
              exact J10 ((1 : Int32)) _ _ _ ⟨((if_neg c_9).trans ((if_pos c_14).trans (rfl))).symm, hm, hS, lv_sub hl [0, 1, 2] rfl⟩
    · have hk : k < (gI M 211 c).toNatClampNeg := lp_ltI hn (by decide) hI_5 c_6
      have hk6 : k < 6 := Nat.lt_of_lt_of_le hk (Nat.le_of_lt_succ (hn.nat (by decide)).1)
      refine lv_iload_n hx hb dX2_isWell_37 rfl (lv_at hl 1 rfl) ?_
      refine lv_aload_n hx hb dX2_isWell_38 rfl (lv_at hl 2 rfl) ?_
      refine gf_208 hx hb hts hown hs hm (lay.z hL) (hts _ q239) dX2_isWell_39 ?_
      refine lv_iload_n hx hb dX2_isWell_42 rfl (lv_at hl 0 rfl) ?_
      refine k_mem hx hb hs hm (lay.a9 hL) (k := k) (cl_nI (by omega)).symm (ix.at (B := 6) (⟨k, hk6, rfl⟩) (by decide)) dX2_isWell_43 ?_
      refine gfN_500 hx hb hts hown hs hm (lay.mem hL (by omega)) q163 dX2_isWell_44 ?_
      refine lv_iconst (v := (-1 : Int32)) hx hb dX2_isWell_47 (by decide) ?_
      refine k_join (fun (x16 : Int32) H locs ls => x16 = (if (gI M 500 (c + 48 + k)) = (-1 : Int32) then (1 : Int32) else if (aI M (c + 3) ((if (0 : Int32) < (gI M 500 (c + 48 + k)) then (gI M 500 (c + 48 + k)) else (0 : Int32))).toNatClampNeg) = nI k then (1 : Int32) else (0 : Int32)) ∧ mw E t (M) H ∧ va_S (eA E) s.heap H locs ∧ lv_has ls 3 [(2, .int (nI k)), (1, .int ((L_iw1 t M c x4 k))), (0, .ref (c))]) (fun (x16 : Int32) ls => F0 m 78 ls [.int (x16), .int ((L_iw1 t M c x4 k))]) (fun x16 H locs ls hJ => ?_) (fun J16 => ?_)
      · obtain ⟨hX16, hm, hS, hl⟩ := hJ
        refine lv_iand hx hb dX2_isWell_78 ?_
        refine lv_istore_n (lv' := [(1, _), (2, _), (0, _)]) hx hb dX2_isWell_79 rfl hl (by decide) rfl (fun ls hl => ?_)
        refine lv_iinc (v := nI (k + 1)) (lv' := [(2, _), (1, _), (0, _)]) hx hb dX2_isWell_80 hl (k := 1) rfl (nI_succ k).symm (by decide) rfl (fun ls hl => ?_)
        refine lv_goto (tgt := 29) hx hb dX2_isWell_83 (by decide) ?_
        subst hX16
        have hE : L_iw1 t M c x4 (k + 1) = _ := (L_iw1_s t M c _ k).trans (rfl)
        exact ih_5 (k + 1) (by omega) _ _ _ ⟨(by omega), hm, hS, (by rw [hE]; exact lv_sub hl [0, 1, 2] rfl)⟩
      · refine lv_icmp_eq (tgt := 73) hx hb dX2_isWell_48 (by decide) (fun c_15 => ?_) (fun c_15 => ?_)
        · refine lv_iconst (v := (1 : Int32)) hx hb dX2_isWell_73 (by decide) ?_
          refine lv_goto (tgt := 78) hx hb dX2_isWell_74 (by decide) ?_
          exact J16 ((1 : Int32)) _ _ _ ⟨((if_pos c_15).trans (rfl)).symm, hm, hS, lv_sub hl [0, 1, 2] rfl⟩
        · obtain ⟨j, hj, hjB⟩ := (hmp k hk6 hk).resolve_left c_15
          have hq9 := mx0_ix hj hjB
          refine lv_aload_n hx hb dX2_isWell_51 rfl (lv_at hl 2 rfl) ?_
          refine gf_202 hx hb hts hown hs hm (lay.z hL) (hts _ q231) dX2_isWell_52 ?_
          refine lv_iconst (v := (0 : Int32)) hx hb dX2_isWell_55 (by decide) ?_
          refine lv_aload_n hx hb dX2_isWell_56 rfl (lv_at hl 2 rfl) ?_
          refine gf_208 hx hb hts hown hs hm (lay.z hL) (hts _ q239) dX2_isWell_57 ?_
          refine lv_iload_n hx hb dX2_isWell_60 rfl (lv_at hl 0 rfl) ?_
          refine k_mem hx hb hs hm (lay.a9 hL) (k := k) (cl_nI (by omega)).symm (ix.at (B := 6) (⟨k, hk6, rfl⟩) (by decide)) dX2_isWell_61 ?_
          refine gfN_500 hx hb hts hown hs hm (lay.mem hL (by omega)) q163 dX2_isWell_62 ?_
          refine va_mmax hx hb (hml.trans hl.1.symm) hown (hts _ q659) (hts _ q660) (hts _ q78) (hts _ q661) (Nat.le_of_ble_eq_true rfl) (Nat.le_of_ble_eq_true rfl) (Nat.le_of_ble_eq_true rfl) (Nat.le_of_ble_eq_true rfl) dX2_isWell_65 ?_
          refine k_iald hx hb hs hm (lay.a3 hL) (ix.at (B := 12) ((hq9).mono (by decide)) (by decide)) dX2_isWell_68 ?_
          refine lv_iload_n hx hb dX2_isWell_69 rfl (lv_at hl 0 rfl) ?_
          refine lv_icmp_ne (tgt := 77) hx hb dX2_isWell_70 (by decide) (fun c_17 => ?_) (fun c_17 => ?_)
          · refine lv_iconst (v := (0 : Int32)) hx hb dX2_isWell_77 (by decide) ?_
            exact J16 ((0 : Int32)) _ _ _ ⟨((if_neg c_15).trans ((if_neg c_17).trans (rfl))).symm, hm, hS, lv_sub hl [0, 1, 2] rfl⟩
          · refine lv_iconst (v := (1 : Int32)) hx hb dX2_isWell_73 (by decide) ?_
            refine lv_goto (tgt := 78) hx hb dX2_isWell_74 (by decide) ?_
            exact J16 ((1 : Int32)) _ _ _ ⟨((if_neg c_15).trans ((if_pos c_17).trans (rfl))).symm, hm, hS, lv_sub hl [0, 1, 2] rfl⟩
  · refine lv_icmp_ne (tgt := 25) hx hb dX2_isWell_18 (by decide) (fun c_3 => ?_) (fun c_3 => ?_)
    · refine lv_iconst (v := (0 : Int32)) hx hb dX2_isWell_25 (by decide) ?_
      exact J4 ((0 : Int32)) _ _ _ ⟨((if_neg c_3).trans (rfl)).symm, hm, hS, lv_sub hl [0] rfl⟩
    · refine lv_iconst (v := (1 : Int32)) hx hb dX2_isWell_21 (by decide) ?_
      refine lv_goto (tgt := 26) hx hb dX2_isWell_22 (by decide) ?_
      exact J4 ((1 : Int32)) _ _ _ ⟨((if_pos c_3).trans (rfl)).symm, hm, hS, lv_sub hl [0] rfl⟩
theorem Tz_C2_isWell (t : mt) (M : mm) (c : Nat)  : narrow .boolean (.int (C2_isWell t M c )) = .int (C2_isWell t M c ) := by
  unfold C2_isWell
  exact z01n (z_iw2 t M c _ (z_iw1 t M c _ (by split <;> decide) _) _)
