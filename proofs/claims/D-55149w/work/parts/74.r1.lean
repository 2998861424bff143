set_option maxRecDepth 100000
/-! the reader -/
def irr {α : Type} (f : Unit → α) : Nat → α
  | 0 => f ()
  | n + 1 => irr f n
  termination_by n => n
theorem irr_0 {α : Type} (f : Unit → α) : irr f 0 = f () := by rw [irr]
theorem xf_leaf {E : mE} {t : mt} {α : Type} {X : Int32 × Int32 × α × mm} {rs dt : Int32} {d : α} {u : mm} {En : String} {q : Addr} {H : Heap} (e : X = (rs, dt, d, u)) (hne : ¬ rs = 0) (h : XF E t dt En q u H) : (¬ X.1 = 0 ∧ u = X.2.2.2) ∧ XF E t X.2.1 En q u H := by
  subst e
  exact ⟨⟨hne, rfl⟩, h⟩
theorem xf_leafv {E : mE} {t : mt} {X : Int32 × Int32 × mm} {rs dt : Int32} {u : mm} {En : String} {q : Addr} {H : Heap} (e : X = (rs, dt, u)) (hne : ¬ rs = 0) (h : XF E t dt En q u H) : (¬ X.1 = 0 ∧ u = X.2.2) ∧ XF E t X.2.1 En q u H := by
  subst e
  exact ⟨⟨hne, rfl⟩, h⟩
/-- the reader stands: k letters in the text, m orders read, b at the least beyond -/
def rd (t : mt) (M : mm) (c n k m b : Nat) : Prop := sbP t M (c - 2) n k ∧ k ≤ 60 ∧ gI M 802 c = nI m ∧ ∃ a, gI M 801 c = nI a ∧ a ≤ k ∧ m + b ≤ a
section RD
variable {t : mt} {M : mm} {c n k m b : Nat} {x y : Int32}
theorem rd.mx (h : rd t M c n k m 1) : ix 60 (gI M 802 c) := by
  obtain ⟨-, h1, h2, a, -, h3, h4⟩ := h
  exact ⟨m, by omega, h2⟩
theorem rd.zero (h : rd t M c n k m b) : rd t M c n k m 0 := by
  obtain ⟨h0, h1, h2, a, h5, h3, h4⟩ := h
  exact ⟨h0, h1, h2, a, h5, h3, by omega⟩
theorem sb_len : CJ3_length t M c = gI M 1103 c := rfl
theorem chere_ix (h : rd t M c n k m b) (hr : y = CJ3_length t M (c - 2)) (hc : ¬ y ≤ gI M 801 c) : ix k (gI M 801 c) := by
  obtain ⟨h0, h1, h2, a, h5, h3, h4⟩ := h
  rw [hr, sb_len, h0.2.2.2.1, h5] at hc
  refine ⟨a, ?_, h5⟩
  rcases Nat.lt_or_ge a k with h9 | h9
  · exact h9
  · exact absurd (nI_le h9 (by omega)) hc
end RD
def C9_here (t : mt) (M : mm) (c : Nat)  : Int32 :=
  let r_1 := CJ3_length t M ((c - 2)) ;
  if r_1 ≤ (gI M 801 c) then
    (-1 : Int32)
  else
    let r_3 := CJ3_charAt t M ((c - 2)) ((gI M 801 c));
    r_3
set_option maxHeartbeats 4000000 in
theorem cm9_here (l : Launch) (E : mE) (t : mt) (M : mm) (c : Nat)  (hR : layR t c) (n k mo b : Nat) (hv : rd t M c n k mo b) : Met l yX9_here (ws_ yX9_here cX9_here 1 (some .int)) ({ frames := 4, cells := 0, slots := 0, locals := 88 }) (va_Pc [.ref c] (wP E t M)) (va_Qi (fun (r : Int32) (u : mm) => r = (C9_here t M c ) ∧ u = M) (fun u U => mw E t u U.heap) (eA E)) 0 0 (eA E) := by
  refine Met.ofW (cc := cX9_here) (maxL := 1) (ret := (some .int)) (by decide) rfl ?_
  intro p e s m args below meth c0 s₁ B hml hv
  obtain ⟨rfl, hs, hm⟩ := hv
  have hx := B.exec
  have hb := B.bytes
  have hr := B.returns
  have hts := atoms_spec (ws := ws_ yX9_here cX9_here 1 (some .int)) B.pre
  have hts : ∀ w ∈ lw_all, w.before _ s = true := fun w h => hts w (List.mem_cons_of_mem _ h)
  have hown : s.vm.findClass RX9 = some m.cls := findClass_of_methodNamed B.named
  have hlocks := B.notSynchronized
  have hS : va_S (eA E) s.heap s.heap [] := va_S.rf
  have hl := lv_entry ([.ref c]) (n := 1) (Nat.le_of_ble_eq_true rfl)
  rw [lg_entry_eq]
  generalize (lg_sl ([.ref c]) ++ List.replicate (1 - (lg_sl ([.ref c])).length) Slot.unset).toArray = ls at hl ⊢
  have hl : lv_has ls 1 [(0, .ref (c))] := hl
  refine lv_aload_n hx hb dX9_here_0 rfl (lv_at hl 0 rfl) ?_
  refine gf_801 hx hb hts hown hs hm hR.z (hts _ q367) dX9_here_1 ?_
  refine lv_aload_n hx hb dX9_here_4 rfl (lv_at hl 0 rfl) ?_
  refine gf_800 hx hb hts hown hs hm hR.z (hts _ q366) dX9_here_5 ?_
  refine k_calli (va_runV (As := []) (rest := [.int ((gI M 801 c))]) ⟨hx, hb, hml, hown, hts⟩ (cmJ3_length l E t M  ((c - 2))  hR.2.2.2.2.1 ) (cwV 0 hts (lw_V q1373 q1250 q1251 q69 q1252) rfl rfl rfl (by decide +kernel) ⟨Nat.le_of_ble_eq_true rfl, Nat.le_of_ble_eq_true rfl⟩) (k_preV hs hm hS (mw.recv hs hm (mt_ne hR.2.2.2.2.1 (by decide)) (ct11 hR.2.2.2.2.1) rfl)) rfl rfl hl.1 rfl (lv_room (Nat.le_of_ble_eq_true rfl)) dX9_here_8 ⟨Nat.le_of_ble_eq_true rfl, Nat.le_of_ble_eq_true rfl⟩) hS (fun r_1 u_1 H locs hw_1 hm_1 hS => ?_)
  obtain ⟨hr_1, hu_1⟩ := hw_1
  replace hu_1 := hu_1.symm
  subst hu_1
  have hm := hm_1
  refine lv_icmp_ge (tgt := 28) hx hb dX9_here_11 (by decide) (fun c_2 => ?_) (fun c_2 => ?_)
  · refine lv_iconst (v := (-1 : Int32)) hx hb dX9_here_28 (by decide) ?_
    subst hr_1
    exact W.iret (v := _) hx hb hr (fun t9 ht9 _ => ⟨⟨_, _, rfl, ⟨((if_pos c_2).trans (rfl)).symm, rfl⟩, hb9 ht9 hm⟩, hS.F ht9⟩) hS.2.2 dX9_here_29
  · refine lv_aload_n hx hb dX9_here_14 rfl (lv_at hl 0 rfl) ?_
    refine gf_800 hx hb hts hown hs hm hR.z (hts _ q366) dX9_here_15 ?_
    refine lv_aload_n hx hb dX9_here_18 rfl (lv_at hl 0 rfl) ?_
    refine gf_801 hx hb hts hown hs hm hR.z (hts _ q367) dX9_here_19 ?_
    refine k_calli (va_runV (As := [.int ((gI M 801 c))]) (rest := []) ⟨hx, hb, hml, hown, hts⟩ (cmJ3_charAt l E t M  ((c - 2)) ((gI M 801 c)) hR.2.2.2.2.1 n k hv.1 (chere_ix hv hr_1 c_2)) (cwV 1 hts (lw_V q1374 q1375 q1376 q69 q1377) rfl rfl rfl (by decide +kernel) ⟨Nat.le_of_ble_eq_true rfl, Nat.le_of_ble_eq_true rfl⟩) (k_preV hs hm hS (mw.recv hs hm (mt_ne hR.2.2.2.2.1 (by decide)) (ct11 hR.2.2.2.2.1) rfl)) rfl rfl hl.1 rfl (lv_room (Nat.le_of_ble_eq_true rfl)) dX9_here_22 ⟨Nat.le_of_ble_eq_true rfl, Nat.le_of_ble_eq_true rfl⟩) hS (fun r_3 u_3 H locs hw_3 hm_3 hS => ?_)
    obtain ⟨hr_3, hu_3⟩ := hw_3
    replace hu_3 := hu_3.symm
    subst hu_3
    have hm := hm_3
    refine lv_goto (tgt := 29) hx hb dX9_here_25 (by decide) ?_
    subst hr_3
    subst hr_1
    exact W.iret (v := _) hx hb hr (fun t9 ht9 _ => ⟨⟨_, _, rfl, ⟨((if_neg c_2).trans (rfl)).symm, rfl⟩, hb9 ht9 hm⟩, hS.F ht9⟩) hS.2.2 dX9_here_29
theorem chere_lt {t : mt} {M : mm} {c n k m b : Nat} {r : Int32} (h : rd t M c n k m b) (hr : r = C9_here t M c) (h9 : ¬ r = -1) : ix k (gI M 801 c) := by
  by_cases hc : CJ3_length t M (c - 2) ≤ gI M 801 c
  · exfalso
    apply h9
    rw [hr]
    unfold C9_here
    exact if_pos hc
  · exact chere_ix h rfl hc
theorem rd.next {t : mt} {M : mm} {c n k m b : Nat} (h : rd t M c n k m b) (hi : ix k (gI M 801 c)) : rd t (sI M 801 c (gI M 801 c + 1)) c n k m 1 := by
  obtain ⟨h0, h1, h2, a, h5, h3, h4⟩ := h
  obtain ⟨j, hj, e⟩ := hi
  rw [h5] at e
  have ha : a = j := by
    have := congrArg Int32.toNatClampNeg e
    rw [cl_nI (by omega), cl_nI (by omega)] at this
    exact this
  refine ⟨?_, h1, ?_, a + 1, ?_, by omega, by omega⟩
  · obtain ⟨g1, g2, g3, g4, g5⟩ := h0
    refine ⟨g1, g2, g3, ?_, ?_⟩
    · rw [gI_sI_f _ _ _ _ (by decide)]; exact g4
    · rw [gI_sI_f _ _ _ _ (by decide)]; exact g5
  · rw [gI_sI_f _ _ _ _ (by decide)]; exact h2
  · rw [gI_sI_at, h5]; exact nI_1 a
theorem cdig_ix {t : mt} {M : mm} {c n k m b : Nat} (h : rd t M c n k m b) (hi : ix k (gI M 801 c)) : ix k ((gI M 801 c + (1 : Int32)) - (1 : Int32)) := by
  obtain ⟨j, hj, e⟩ := hi
  rw [e, nI_1, nI_pred]
  exact ⟨j, hj, rfl⟩
theorem cin48 {r x : Int32} (h : x = C1_in r 48 57) (hx : ¬ x = 0) : ¬ r = -1 := by
  intro e
  rw [h, e] at hx
  exact hx (by decide)
def C9_skip0 (t : mt) (M : mm) (c : Nat) (x : Int32) : Int32 × mm :=
  let r_1 := C9_here t M (c) ;
  if r_1 = x then
    ((1 : Int32), (sI M 801 c ((gI M 801 c) + (1 : Int32))))
  else
    ((0 : Int32), M)
set_option maxHeartbeats 4000000 in
theorem cm9_skip0 (l : Launch) (E : mE) (t : mt) (M : mm) (c : Nat) (x : Int32) (hR : layR t c) (n k mo b : Nat) (hv : rd t M c n k mo b) : Met l yX9_skip (ws_ yX9_skip cX9_skip 2 (some .boolean)) ({ frames := 5, cells := 0, slots := 0, locals := 108 }) (va_Pc [.ref c, .int x] (wP E t M)) (va_Qi (fun (r : Int32) (u : mm) => r = ((C9_skip0 t M c x).1) ∧ u = (C9_skip0 t M c x).2) (fun u U => mw E t u U.heap) (eA E)) 0 0 (eA E) := by
  refine Met.ofW (cc := cX9_skip) (maxL := 2) (ret := (some .boolean)) (by decide) rfl ?_
  intro p e s m args below meth c0 s₁ B hml hv
  obtain ⟨rfl, hs, hm⟩ := hv
  have hx := B.exec
  have hb := B.bytes
  have hr := B.returns
  have hts := atoms_spec (ws := ws_ yX9_skip cX9_skip 2 (some .boolean)) B.pre
  have hts : ∀ w ∈ lw_all, w.before _ s = true := fun w h => hts w (List.mem_cons_of_mem _ h)
  have hown : s.vm.findClass RX9 = some m.cls := findClass_of_methodNamed B.named
  have hlocks := B.notSynchronized
  have hS : va_S (eA E) s.heap s.heap [] := va_S.rf
  have hl := lv_entry ([.ref c, .int x]) (n := 2) (Nat.le_of_ble_eq_true rfl)
  rw [lg_entry_eq]
  generalize (lg_sl ([.ref c, .int x]) ++ List.replicate (2 - (lg_sl ([.ref c, .int x])).length) Slot.unset).toArray = ls at hl ⊢
  have hl : lv_has ls 2 [(0, .ref (c)), (1, .int (x))] := hl
  refine lv_aload_n hx hb dX9_skip_0 rfl (lv_at hl 0 rfl) ?_
  refine k_calli (va_runV (As := []) (rest := []) ⟨hx, hb, hml, hown, hts⟩ (cm9_here l E t M  (c)  hR n k mo b hv) (cwV 0 hts (lw_V q1369 q1371 qs16 q72 q1372) rfl rfl rfl (by decide +kernel) ⟨Nat.le_of_ble_eq_true rfl, Nat.le_of_ble_eq_true rfl⟩) (k_preV hs hm hS (mw.recv hs hm (mt_ne hR.z (by decide)) (ct8 hR.z) rfl)) rfl rfl hl.1 rfl (lv_room (Nat.le_of_ble_eq_true rfl)) dX9_skip_1 ⟨Nat.le_of_ble_eq_true rfl, Nat.le_of_ble_eq_true rfl⟩) hS (fun r_1 u_1 H locs hw_1 hm_1 hS => ?_)
  obtain ⟨hr_1, hu_1⟩ := hw_1
  replace hu_1 := hu_1.symm
  subst hu_1
  have hm := hm_1
  refine lv_iload_n hx hb dX9_skip_4 rfl (lv_at hl 1 rfl) ?_
  refine lv_icmp_eq (tgt := 10) hx hb dX9_skip_5 (by decide) (fun c_2 => ?_) (fun c_2 => ?_)
  · refine lv_aload_n hx hb dX9_skip_10 rfl (lv_at hl 0 rfl) ?_
    refine lv_dup hx hb dX9_skip_11 rfl ?_
    refine gf_801 hx hb hts hown hs hm hR.z (hts _ q367) dX9_skip_12 ?_
    refine lv_iconst (v := (1 : Int32)) hx hb dX9_skip_15 (by decide) ?_
    refine lv_iadd hx hb dX9_skip_16 ?_
    refine pf_801 hx hb hts hown hs hm hS hR.z (hts _ q367) dX9_skip_17 (fun H locs hm hS => ?_)
    have hm : mw E t ((sI M 801 c ((gI M 801 c) + (1 : Int32)))) H := hm
    refine lv_iconst (v := (1 : Int32)) hx hb dX9_skip_20 (by decide) ?_
    subst hr_1
    exact W.zret (v := _) hx hb hr rfl (fun t9 ht9 _ => ⟨⟨_, _, rfl, pp ((if_pos c_2).trans (rfl)), hb9 ht9 hm⟩, hS.F ht9⟩) hS.2.2 dX9_skip_21
  · refine lv_iconst (v := (0 : Int32)) hx hb dX9_skip_8 (by decide) ?_
    subst hr_1
    exact W.zret (v := _) hx hb hr rfl (fun t9 ht9 _ => ⟨⟨_, _, rfl, pp ((if_neg c_2).trans (rfl)), hb9 ht9 hm⟩, hS.F ht9⟩) hS.2.2 dX9_skip_9
def C9_skip (t : mt) (M : mm) (c : Nat) (x : Int32)  : Int32 × mm := irr (fun _ => C9_skip0 t M c x) 0
theorem C9_skip_eq (t : mt) (M : mm) (c : Nat) (x : Int32)  : C9_skip t M c x = C9_skip0 t M c x := by
  unfold C9_skip
  exact irr_0 _
theorem cm9_skip (l : Launch) (E : mE) (t : mt) (M : mm) (c : Nat) (x : Int32) (hR : layR t c) (n k mo b : Nat) (hv : rd t M c n k mo b) : Met l yX9_skip (ws_ yX9_skip cX9_skip 2 (some .boolean)) ({ frames := 5, cells := 0, slots := 0, locals := 108 }) (va_Pc [.ref c, .int x] (wP E t M)) (va_Qi (fun (r : Int32) (u : mm) => r = ((C9_skip t M c x).1) ∧ u = (C9_skip t M c x).2) (fun u U => mw E t u U.heap) (eA E)) 0 0 (eA E) := by
  rw [C9_skip_eq]
  exact cm9_skip0 l E t M c x hR n k mo b hv
theorem cskip_rd {t : mt} {M : mm} {c n k m b : Nat} {x : Int32} (h : rd t M c n k m b) (hb : b ≤ 1) (hx : ¬ x = -1) : rd t (C9_skip t M c x).2 c n k m b ∧ (¬ (C9_skip t M c x).1 = 0 → rd t (C9_skip t M c x).2 c n k m 1) := by
  rw [C9_skip_eq]
  unfold C9_skip0
  dsimp only
  by_cases e : C9_here t M c = x
  · rw [if_pos e]
    have h1 := h.next (chere_lt h rfl (by rw [e]; exact hx))
    refine ⟨?_, fun _ => h1⟩
    obtain ⟨g0, g1, g2, a, g5, g3, g4⟩ := h1
    exact ⟨g0, g1, g2, a, g5, g3, by omega⟩
  · rw [if_neg e]
    exact ⟨h, fun h9 => absurd rfl h9⟩
def C9_must0 (t : mt) (M : mm) (c : Nat) (x : Int32) : Int32 × Int32 × mm :=
  let r_1 := (C9_skip t M (c) (x)).1;
  let u_1 := (C9_skip t M (c) (x)).2;
  if r_1 = 0 then
    ((1 : Int32), (gI u_1 801 c), u_1)
  else
    ((0 : Int32), (0 : Int32), u_1)
set_option maxHeartbeats 4000000 in
theorem cm9_must0 (l : Launch) (E : mE) (hl9 : l.stackTraces = false) (t : mt) (M : mm) (c : Nat) (x : Int32) (hR : layR t c) (n k mo b : Nat) (hv : rd t M c n k mo b) : vx_Met l yX9_must (ws_ yX9_must cX9_must 2 none) ({ frames := 7, cells := 1, slots := 7, locals := 141 }) (va_Pc [.ref c, .int x] (wP E t M)) (va_Qv (fun (u : mm) => (C9_must0 t M c x).1 = 0 ∧ u = (C9_must0 t M c x).2.2) (fun u U => mw E t u U.heap) (eA E)) (vx_X (fun (u : mm) => ¬ (C9_must0 t M c x).1 = 0 ∧ u = (C9_must0 t M c x).2.2) (fun En q u U => XF E t (C9_must0 t M c x).2.1 En q u U.heap) (eA E)) 1 7 (eA E) := by
  refine vx_ofW (cc := cX9_must) (maxL := 2) (ret := none) (by decide) rfl ?_
  intro p e s m args below meth c0 s₁ B hml hno hv
  obtain ⟨rfl, hs, hm⟩ := hv
  have hx := B.exec
  have hb := B.bytes
  have hr := B.returns
  have hts := atoms_spec (ws := ws_ yX9_must cX9_must 2 none) B.pre
  have hts : ∀ w ∈ lw_all, w.before _ s = true := fun w h => hts w (List.mem_cons_of_mem _ h)
  have hown : s.vm.findClass RX9 = some m.cls := findClass_of_methodNamed B.named
  have hlocks := B.notSynchronized
  have hout : ∀ pc : Nat, ∀ x ∈ c0.exceptionTable.toList, covers x pc = false := fun _ x h => (hno x h).elim
  have hS : va_S (eA E) s.heap s.heap [] := va_S.rf
  have hl := lv_entry ([.ref c, .int x]) (n := 2) (Nat.le_of_ble_eq_true rfl)
  rw [lg_entry_eq]
  generalize (lg_sl ([.ref c, .int x]) ++ List.replicate (2 - (lg_sl ([.ref c, .int x])).length) Slot.unset).toArray = ls at hl ⊢
  have hl : lv_has ls 2 [(0, .ref (c)), (1, .int (x))] := hl
  refine lv_aload_n hx hb dX9_must_0 rfl (lv_at hl 0 rfl) ?_
  refine lv_iload_n hx hb dX9_must_1 rfl (lv_at hl 1 rfl) ?_
  refine k_calli (va_runV (As := [.int (x)]) (rest := []) ⟨hx, hb, hml, hown, hts⟩ (cm9_skip l E t M  (c) (x) hR n k mo b hv) (cwV 1 hts (lw_V q1365 q1367 qs15 q72 q1368) rfl rfl rfl (by decide +kernel) ⟨Nat.le_of_ble_eq_true rfl, Nat.le_of_ble_eq_true rfl⟩) (k_preV hs hm hS (mw.recv hs hm (mt_ne hR.z (by decide)) (ct8 hR.z) rfl)) rfl rfl hl.1 rfl (lv_room (Nat.le_of_ble_eq_true rfl)) dX9_must_2 ⟨Nat.le_of_ble_eq_true rfl, Nat.le_of_ble_eq_true rfl⟩) hS (fun r_1 u_1 H locs hw_1 hm_1 hS => ?_)
  obtain ⟨hr_1, hu_1⟩ := hw_1
  have hm := hm_1
  refine lv_if_ne (tgt := 20) hx hb dX9_must_5 (by decide) (fun c_2 => ?_) (fun c_2 => ?_)
  · subst hu_1
    subst hr_1
    refine vx_ret ?_
    refine W.widen (k := 1) (n := 7) (Nat.le_of_ble_eq_true rfl) (Nat.le_of_ble_eq_true rfl) ?_
    exact W.vret hx hb hr (fun t9 ht9 _ => ⟨⟨_, rfl, pp4v ((if_neg c_2).trans (rfl)), hb9 ht9 hm⟩, hS.F ht9⟩) hS.2.2 dX9_must_20
  · have hfX : s.vm.findClass RX12 = some (E.1.1 20) := (hs.2.1.1 20 _ rfl).2.1
    refine k_newX hx hb hown (hts _ q1391) (hts _ q1392) (hts _ q93) hs hm hS hfX (Nat.le_of_ble_eq_true rfl) (Nat.le_of_ble_eq_true rfl) dX9_must_8 (fun q_3 H kX hkX hbl hq0 hqA hm hS => ?_)
    refine lv_dup hx hb dX9_must_11 rfl ?_
    refine lv_aload_n hx hb dX9_must_12 rfl (lv_at hl 0 rfl) ?_
    refine gf_801 hx hb hts hown hs hm hR.z (hts _ q367) dX9_must_13 ?_
    refine k_callv (B := fun (u : mm) H => mw E (m1 t q_3 (12, 0)) u H) (va_runI (As := [.int (gI u_1 801 c)]) (rest := [.ref q_3]) ⟨hx, hb, hml, hown, hts⟩ (cm12_init l E hl9 t (u_1) q_3 (gI u_1 801 c)) (cwI 1 hts (lw_meth q1402) rfl rfl rfl (hts _ q93) (hts _ q1400) (hts _ q1401) rfl (by decide +kernel) ⟨Nat.le_of_ble_eq_true rfl, Nat.le_of_ble_eq_true rfl⟩) (k_preX hs hm hS hkX hbl hq0 hqA) rfl rfl hl.1 rfl (lv_room (Nat.le_of_ble_eq_true rfl)) dX9_must_16 ⟨Nat.le_of_ble_eq_true rfl, Nat.le_of_ble_eq_true rfl⟩) hS (fun u9 H locs hu9 hm hS => ?_)
    subst hu9
    refine vx_athrow hx hb dX9_must_19 ?_
    have htq : m1 t q_3 (12, 0) q_3 = (12, 0) := m1_at t q_3 (12, 0)
    obtain ⟨ce, h1_4, h2_4, h3_4⟩ := kx_cell hs ((ct12 htq : _) ▸ hm.one (mt_ne htq (by decide))) (show clA[20]? = some (RX12, TXF, 1) from rfl)
    have hB9 : XF E t (gI u_1 801 c) "CliffPlots$Fault" q_3 (u_1) H := ⟨rfl, hq0, hm⟩
    subst hu_1
    subst hr_1
    have e9 : C9_must0 t M c x = _ := (if_pos c_2).trans (rfl)
    exact kx_out (BX := fun En q u H => XF E t (C9_must0 t M c x).2.1 En q u H) (u := _) (fun x h => (hno x h).elim) hlocks (xf_leafv e9 (by decide) hB9).1 (xf_leafv e9 (by decide) hB9).2 hS h1_4 h2_4 h3_4 (Nat.le_of_ble_eq_true rfl) (Nat.le_of_ble_eq_true rfl)
def C9_must (t : mt) (M : mm) (c : Nat) (x : Int32)  : Int32 × Int32 × mm := irr (fun _ => C9_must0 t M c x) 0
theorem C9_must_eq (t : mt) (M : mm) (c : Nat) (x : Int32)  : C9_must t M c x = C9_must0 t M c x := by
  unfold C9_must
  exact irr_0 _
theorem cm9_must (l : Launch) (E : mE) (hl9 : l.stackTraces = false) (t : mt) (M : mm) (c : Nat) (x : Int32) (hR : layR t c) (n k mo b : Nat) (hv : rd t M c n k mo b) : vx_Met l yX9_must (ws_ yX9_must cX9_must 2 none) ({ frames := 7, cells := 1, slots := 7, locals := 141 }) (va_Pc [.ref c, .int x] (wP E t M)) (va_Qv (fun (u : mm) => (C9_must t M c x).1 = 0 ∧ u = (C9_must t M c x).2.2) (fun u U => mw E t u U.heap) (eA E)) (vx_X (fun (u : mm) => ¬ (C9_must t M c x).1 = 0 ∧ u = (C9_must t M c x).2.2) (fun En q u U => XF E t (C9_must t M c x).2.1 En q u U.heap) (eA E)) 1 7 (eA E) := by
  rw [C9_must_eq]
  exact cm9_must0 l E hl9 t M c x hR n k mo b hv
def C9_digit0 (t : mt) (M : mm) (c : Nat)  : Int32 × Int32 × Int32 × mm :=
  let r_1 := C9_here t M (c) ;
  let r_2 := C1_in (r_1) ((48 : Int32)) ((57 : Int32));
  if r_2 = 0 then
    ((1 : Int32), (gI M 801 c), (0 : Int32), M)
  else
    let r_4 := CJ3_charAt t (sI M 801 c ((gI M 801 c) + (1 : Int32))) ((c - 2)) ((((gI M 801 c) + (1 : Int32)) - (1 : Int32)));
    ((0 : Int32), (0 : Int32), (r_4 - (48 : Int32)), (sI M 801 c ((gI M 801 c) + (1 : Int32))))
set_option maxHeartbeats 4000000 in
theorem cm9_digit0 (l : Launch) (E : mE) (hl9 : l.stackTraces = false) (t : mt) (M : mm) (c : Nat)  (hR : layR t c) (n k mo b : Nat) (hv : rd t M c n k mo b) : vx_Met l yX9_digit (ws_ yX9_digit cX9_digit 1 (some .int)) ({ frames := 7, cells := 1, slots := 7, locals := 141 }) (va_Pc [.ref c] (wP E t M)) (va_Qi (fun (r : Int32) (u : mm) => (C9_digit0 t M c ).1 = 0 ∧ r = (C9_digit0 t M c ).2.2.1 ∧ u = (C9_digit0 t M c ).2.2.2) (fun u U => mw E t u U.heap) (eA E)) (vx_X (fun (u : mm) => ¬ (C9_digit0 t M c ).1 = 0 ∧ u = (C9_digit0 t M c ).2.2.2) (fun En q u U => XF E t (C9_digit0 t M c ).2.1 En q u U.heap) (eA E)) 1 7 (eA E) := by
  refine vx_ofW (cc := cX9_digit) (maxL := 1) (ret := (some .int)) (by decide) rfl ?_
  intro p e s m args below meth c0 s₁ B hml hno hv
  obtain ⟨rfl, hs, hm⟩ := hv
  have hx := B.exec
  have hb := B.bytes
  have hr := B.returns
  have hts := atoms_spec (ws := ws_ yX9_digit cX9_digit 1 (some .int)) B.pre
  have hts : ∀ w ∈ lw_all, w.before _ s = true := fun w h => hts w (List.mem_cons_of_mem _ h)
  have hown : s.vm.findClass RX9 = some m.cls := findClass_of_methodNamed B.named
  have hlocks := B.notSynchronized
  have hout : ∀ pc : Nat, ∀ x ∈ c0.exceptionTable.toList, covers x pc = false := fun _ x h => (hno x h).elim
  have hS : va_S (eA E) s.heap s.heap [] := va_S.rf
  have hl := lv_entry ([.ref c]) (n := 1) (Nat.le_of_ble_eq_true rfl)
  rw [lg_entry_eq]
  generalize (lg_sl ([.ref c]) ++ List.replicate (1 - (lg_sl ([.ref c])).length) Slot.unset).toArray = ls at hl ⊢
  have hl : lv_has ls 1 [(0, .ref (c))] := hl
  refine lv_aload_n hx hb dX9_digit_0 rfl (lv_at hl 0 rfl) ?_
  refine k_calli (va_runV (As := []) (rest := []) ⟨hx, hb, hml, hown, hts⟩ (cm9_here l E t M  (c)  hR n k mo b hv) (cwV 0 hts (lw_V q1369 q1371 qs16 q72 q1372) rfl rfl rfl (by decide +kernel) ⟨Nat.le_of_ble_eq_true rfl, Nat.le_of_ble_eq_true rfl⟩) (k_preV hs hm hS (mw.recv hs hm (mt_ne hR.z (by decide)) (ct8 hR.z) rfl)) rfl rfl hl.1 rfl (lv_room (Nat.le_of_ble_eq_true rfl)) dX9_digit_1 ⟨Nat.le_of_ble_eq_true rfl, Nat.le_of_ble_eq_true rfl⟩) hS (fun r_1 u_1 H locs hw_1 hm_1 hS => ?_)
  obtain ⟨hr_1, hu_1⟩ := hw_1
  replace hu_1 := hu_1.symm
  subst hu_1
  have hm := hm_1
  refine lv_bipush (v := (48 : Int32)) hx hb dX9_digit_4 (by decide) ?_
  refine lv_bipush (v := (57 : Int32)) hx hb dX9_digit_6 (by decide) ?_
  refine k_calli (va_runSN (As := [.int (r_1), .int ((48 : Int32)), .int ((57 : Int32))]) (rest := []) ⟨hx, hb, hml, hown, hts⟩ (cm1_in l E (r_1) ((48 : Int32)) ((57 : Int32)) _) (⟨va_cnB 3 hts (lw_meth q701) rfl rfl rfl (hs.2.2.1 _ q1390 rfl) (hts _ q58) (by decide +kernel) ⟨Nat.le_of_ble_eq_true rfl, Nat.le_of_ble_eq_true rfl⟩, hts _ q700, trivial⟩) (k_pure hs hS) rfl rfl hl.1 rfl (lv_room (Nat.le_of_ble_eq_true rfl)) dX9_digit_8 ⟨Nat.le_of_ble_eq_true rfl, Nat.le_of_ble_eq_true rfl⟩) hS (fun r_2 u_2 H9 locs hw_2 hm_2 hS => ?_)
  replace hm_2 : _ = H9 := Eq.symm hm_2
  subst hm_2
  have hr_2 := hw_2
  refine lv_if_ne (tgt := 26) hx hb dX9_digit_11 (by decide) (fun c_3 => ?_) (fun c_3 => ?_)
  · have hi9 := chere_lt hv hr_1 (cin48 hr_2 c_3)
    refine lv_aload_n hx hb dX9_digit_26 rfl (lv_at hl 0 rfl) ?_
    refine lv_dup hx hb dX9_digit_27 rfl ?_
    refine gf_801 hx hb hts hown hs hm hR.z (hts _ q367) dX9_digit_28 ?_
    refine lv_iconst (v := (1 : Int32)) hx hb dX9_digit_31 (by decide) ?_
    refine lv_iadd hx hb dX9_digit_32 ?_
    refine pf_801 hx hb hts hown hs hm hS hR.z (hts _ q367) dX9_digit_33 (fun H locs hm hS => ?_)
    have hm : mw E t ((sI M 801 c ((gI M 801 c) + (1 : Int32)))) H := hm
    refine lv_aload_n hx hb dX9_digit_36 rfl (lv_at hl 0 rfl) ?_
    refine gf_800 hx hb hts hown hs hm hR.z (hts _ q366) dX9_digit_37 ?_
    refine lv_aload_n hx hb dX9_digit_40 rfl (lv_at hl 0 rfl) ?_
    refine gf_801 hx hb hts hown hs hm hR.z (hts _ q367) dX9_digit_41 ?_
    rw [show gI (sI M 801 c ((gI M 801 c) + (1 : Int32))) 801 c = ((gI M 801 c) + (1 : Int32)) from (show gI (sI M 801 c ((gI M 801 c) + (1 : Int32))) 801 c = ((gI M 801 c) + (1 : Int32)) from m2_at _ _ _ _)]
    refine lv_iconst (v := (1 : Int32)) hx hb dX9_digit_44 (by decide) ?_
    refine lv_isub hx hb dX9_digit_45 ?_
    refine k_calli (va_runV (As := [.int ((((gI M 801 c) + (1 : Int32)) - (1 : Int32)))]) (rest := []) ⟨hx, hb, hml, hown, hts⟩ (cmJ3_charAt l E t (sI M 801 c ((gI M 801 c) + (1 : Int32)))  ((c - 2)) ((((gI M 801 c) + (1 : Int32)) - (1 : Int32))) hR.2.2.2.2.1 n k (show sbP t (sI M 801 c ((gI M 801 c) + (1 : Int32))) (c - 2) n k from (hv.next hi9).1) (show ix k ((gI M 801 c + (1 : Int32)) - (1 : Int32)) from cdig_ix hv hi9)) (cwV 1 hts (lw_V q1374 q1375 q1376 q69 q1377) rfl rfl rfl (by decide +kernel) ⟨Nat.le_of_ble_eq_true rfl, Nat.le_of_ble_eq_true rfl⟩) (k_preV hs hm hS (mw.recv hs hm (mt_ne hR.2.2.2.2.1 (by decide)) (ct11 hR.2.2.2.2.1) rfl)) rfl rfl hl.1 rfl (lv_room (Nat.le_of_ble_eq_true rfl)) dX9_digit_46 ⟨Nat.le_of_ble_eq_true rfl, Nat.le_of_ble_eq_true rfl⟩) hS (fun r_4 u_4 H locs hw_4 hm_4 hS => ?_)
    obtain ⟨hr_4, hu_4⟩ := hw_4
    replace hu_4 := hu_4.symm
    subst hu_4
    have hm := hm_4
    refine lv_bipush (v := (48 : Int32)) hx hb dX9_digit_49 (by decide) ?_
    refine lv_isub hx hb dX9_digit_51 ?_
    subst hr_4
    subst hr_2
    subst hr_1
    refine vx_ret ?_
    refine W.widen (k := 1) (n := 7) (Nat.le_of_ble_eq_true rfl) (Nat.le_of_ble_eq_true rfl) ?_
    exact W.iret (v := _) hx hb hr (fun t9 ht9 _ => ⟨⟨_, _, rfl, pp4 ((if_neg c_3).trans (rfl)), hb9 ht9 hm⟩, hS.F ht9⟩) hS.2.2 dX9_digit_52
  · have hfX : s.vm.findClass RX12 = some (E.1.1 20) := (hs.2.1.1 20 _ rfl).2.1
    refine k_newX hx hb hown (hts _ q1391) (hts _ q1392) (hts _ q93) hs hm hS hfX (Nat.le_of_ble_eq_true rfl) (Nat.le_of_ble_eq_true rfl) dX9_digit_14 (fun q_5 H kX hkX hbl hq0 hqA hm hS => ?_)
    refine lv_dup hx hb dX9_digit_17 rfl ?_
    refine lv_aload_n hx hb dX9_digit_18 rfl (lv_at hl 0 rfl) ?_
    refine gf_801 hx hb hts hown hs hm hR.z (hts _ q367) dX9_digit_19 ?_
    refine k_callv (B := fun (u : mm) H => mw E (m1 t q_5 (12, 0)) u H) (va_runI (As := [.int (gI M 801 c)]) (rest := [.ref q_5]) ⟨hx, hb, hml, hown, hts⟩ (cm12_init l E hl9 t (M) q_5 (gI M 801 c)) (cwI 1 hts (lw_meth q1402) rfl rfl rfl (hts _ q93) (hts _ q1400) (hts _ q1401) rfl (by decide +kernel) ⟨Nat.le_of_ble_eq_true rfl, Nat.le_of_ble_eq_true rfl⟩) (k_preX hs hm hS hkX hbl hq0 hqA) rfl rfl hl.1 rfl (lv_room (Nat.le_of_ble_eq_true rfl)) dX9_digit_22 ⟨Nat.le_of_ble_eq_true rfl, Nat.le_of_ble_eq_true rfl⟩) hS (fun u9 H locs hu9 hm hS => ?_)
    subst hu9
    refine vx_athrow hx hb dX9_digit_25 ?_
    have htq : m1 t q_5 (12, 0) q_5 = (12, 0) := m1_at t q_5 (12, 0)
    obtain ⟨ce, h1_6, h2_6, h3_6⟩ := kx_cell hs ((ct12 htq : _) ▸ hm.one (mt_ne htq (by decide))) (show clA[20]? = some (RX12, TXF, 1) from rfl)
    have hB9 : XF E t (gI M 801 c) "CliffPlots$Fault" q_5 (M) H := ⟨rfl, hq0, hm⟩
    subst hr_2
    subst hr_1
    have e9 : C9_digit0 t M c  = _ := (if_pos c_3).trans (rfl)
    exact kx_out (BX := fun En q u H => XF E t (C9_digit0 t M c ).2.1 En q u H) (u := _) (fun x h => (hno x h).elim) hlocks (xf_leaf e9 (by decide) hB9).1 (xf_leaf e9 (by decide) hB9).2 hS h1_6 h2_6 h3_6 (Nat.le_of_ble_eq_true rfl) (Nat.le_of_ble_eq_true rfl)
def C9_digit (t : mt) (M : mm) (c : Nat)   : Int32 × Int32 × Int32 × mm := irr (fun _ => C9_digit0 t M c) 0
theorem C9_digit_eq (t : mt) (M : mm) (c : Nat)   : C9_digit t M c = C9_digit0 t M c := by
  unfold C9_digit
  exact irr_0 _
theorem cm9_digit (l : Launch) (E : mE) (hl9 : l.stackTraces = false) (t : mt) (M : mm) (c : Nat)  (hR : layR t c) (n k mo b : Nat) (hv : rd t M c n k mo b) : vx_Met l yX9_digit (ws_ yX9_digit cX9_digit 1 (some .int)) ({ frames := 7, cells := 1, slots := 7, locals := 141 }) (va_Pc [.ref c] (wP E t M)) (va_Qi (fun (r : Int32) (u : mm) => (C9_digit t M c ).1 = 0 ∧ r = (C9_digit t M c ).2.2.1 ∧ u = (C9_digit t M c ).2.2.2) (fun u U => mw E t u U.heap) (eA E)) (vx_X (fun (u : mm) => ¬ (C9_digit t M c ).1 = 0 ∧ u = (C9_digit t M c ).2.2.2) (fun En q u U => XF E t (C9_digit t M c ).2.1 En q u U.heap) (eA E)) 1 7 (eA E) := by
  rw [C9_digit_eq]
  exact cm9_digit0 l E hl9 t M c hR n k mo b hv
theorem cdigit_rd {t : mt} {M : mm} {c n k m b : Nat} (h : rd t M c n k m b) (h0 : (C9_digit t M c).1 = 0) : rd t (C9_digit t M c).2.2.2 c n k m 1 := by
  rw [C9_digit_eq] at h0 ⊢
  unfold C9_digit0 at h0 ⊢
  dsimp only at h0 ⊢
  by_cases e : C1_in (C9_here t M c) 48 57 = 0
  · rw [if_pos e] at h0
    exact absurd h0 (show ¬ (1 : Int32) = 0 by decide)
  · rw [if_neg e]
    exact h.next (chere_lt h rfl (cin48 rfl e))
def C9_number0 (t : mt) (M : mm) (c : Nat)  : Int32 × Int32 × Int32 × mm :=
  let r_1 := (C9_digit t M (c) ).2.2.1;
  let u_1 := (C9_digit t M (c) ).2.2.2;
  let r_2 := C9_here t u_1 (c) ;
  let r_3 := C1_in (r_2) ((48 : Int32)) ((57 : Int32));
  if (C9_digit t M (c) ).1 = 0 then
    let r_2 := C9_here t u_1 (c) ;
    let r_3 := C1_in (r_2) ((48 : Int32)) ((57 : Int32));
    if r_3 = 0 then
      ((0 : Int32), (0 : Int32), r_1, u_1)
    else
      let r_5 := (C9_digit t u_1 (c) ).2.2.1;
      let u_5 := (C9_digit t u_1 (c) ).2.2.2;
      if (C9_digit t u_1 (c) ).1 = 0 then
        ((0 : Int32), (0 : Int32), (((10 : Int32) * r_1) + r_5), u_5)
      else
        ((C9_digit t u_1 (c) ).1, (C9_digit t u_1 (c) ).2.1, (0 : Int32), (C9_digit t u_1 (c) ).2.2.2)
  else
    ((C9_digit t M (c) ).1, (C9_digit t M (c) ).2.1, (0 : Int32), (C9_digit t M (c) ).2.2.2)
set_option maxHeartbeats 4000000 in
theorem cm9_number0 (l : Launch) (E : mE) (hl9 : l.stackTraces = false) (t : mt) (M : mm) (c : Nat)  (hR : layR t c) (n k mo b : Nat) (hv : rd t M c n k mo b) : vx_Met l yX9_number (ws_ yX9_number cX9_number 2 (some .int)) ({ frames := 8, cells := 2, slots := 14, locals := 161 }) (va_Pc [.ref c] (wP E t M)) (va_Qi (fun (r : Int32) (u : mm) => (C9_number0 t M c ).1 = 0 ∧ r = (C9_number0 t M c ).2.2.1 ∧ u = (C9_number0 t M c ).2.2.2) (fun u U => mw E t u U.heap) (eA E)) (vx_X (fun (u : mm) => ¬ (C9_number0 t M c ).1 = 0 ∧ u = (C9_number0 t M c ).2.2.2) (fun En q u U => XF E t (C9_number0 t M c ).2.1 En q u U.heap) (eA E)) 2 14 (eA E) := by
  refine vx_ofW (cc := cX9_number) (maxL := 2) (ret := (some .int)) (by decide) rfl ?_
  intro p e s m args below meth c0 s₁ B hml hno hv
  obtain ⟨rfl, hs, hm⟩ := hv
  have hx := B.exec
  have hb := B.bytes
  have hr := B.returns
  have hts := atoms_spec (ws := ws_ yX9_number cX9_number 2 (some .int)) B.pre
  have hts : ∀ w ∈ lw_all, w.before _ s = true := fun w h => hts w (List.mem_cons_of_mem _ h)
  have hown : s.vm.findClass RX9 = some m.cls := findClass_of_methodNamed B.named
  have hlocks := B.notSynchronized
  have hout : ∀ pc : Nat, ∀ x ∈ c0.exceptionTable.toList, covers x pc = false := fun _ x h => (hno x h).elim
  have hS : va_S (eA E) s.heap s.heap [] := va_S.rf
  have hl := lv_entry ([.ref c]) (n := 2) (Nat.le_of_ble_eq_true rfl)
  rw [lg_entry_eq]
  generalize (lg_sl ([.ref c]) ++ List.replicate (2 - (lg_sl ([.ref c])).length) Slot.unset).toArray = ls at hl ⊢
  have hl : lv_has ls 2 [(0, .ref (c))] := hl
  refine lv_aload_n hx hb dX9_number_0 rfl (lv_at hl 0 rfl) ?_
  refine kx_calli (BX := fun En q u H => XF E t (C9_digit t M (c) ).2.1 En q u H) (vx_runV (As := []) (rest := []) ⟨hx, hb, hml, hown, hts⟩ (cm9_digit l E hl9 t M  (c)  hR n k mo b hv) (cwV 0 hts (lw_V q1386 q1388 qs17 q72 q1389) rfl rfl rfl (by decide +kernel) ⟨Nat.le_of_ble_eq_true rfl, Nat.le_of_ble_eq_true rfl⟩) (k_preV hs hm hS (mw.recv hs hm (mt_ne hR.z (by decide)) (ct8 hR.z) rfl)) rfl rfl hl.1 rfl (lv_room (Nat.le_of_ble_eq_true rfl)) dX9_number_1 ⟨Nat.le_of_ble_eq_true rfl, Nat.le_of_ble_eq_true rfl⟩) hS (fun En_1 ce_1 q_1 u9_1 H locs hp_1 hB_1 hS h1_1 h2_1 h3_1 => ?_) (fun r_1 u_1 H locs hw_1 hm_1 hS => ?_)
  · obtain ⟨c_1, hu9_1⟩ := hp_1
    replace hu9_1 := hu9_1.symm
    subst hu9_1
    have e9 : C9_number0 t M c  = ((C9_digit t M (c) ).1, (C9_digit t M (c) ).2.1, (0 : Int32), (C9_digit t M (c) ).2.2.2) := (if_neg c_1).trans (rfl)
    exact kx_out (BX := fun En q u H => XF E t (C9_number0 t M c ).2.1 En q u H) (u := (C9_digit t M (c) ).2.2.2) (fun x h => (hno x h).elim) hlocks (xf_leaf e9 c_1 hB_1).1 (xf_leaf e9 c_1 hB_1).2 hS h1_1 h2_1 h3_1 (Nat.le_of_ble_eq_true rfl) (Nat.le_of_ble_eq_true rfl)
  · obtain ⟨c_1, hr_1, hu_1⟩ := hw_1
    have hm := hm_1
    have hv1 : rd t u_1 c n k mo 1 := by rw [hu_1]; exact cdigit_rd hv c_1
    refine lv_istore_n (lv' := [(1, _), (0, _)]) hx hb dX9_number_4 rfl hl (by decide) rfl (fun ls hl => ?_)
    refine lv_aload_n hx hb dX9_number_5 rfl (lv_at hl 1 rfl) ?_
    refine k_calli (va_runV (As := []) (rest := []) ⟨hx, hb, hml, hown, hts⟩ (cm9_here l E t u_1  (c)  hR n k mo 1 hv1) (cwV 0 hts (lw_V q1369 q1371 qs16 q72 q1372) rfl rfl rfl (by decide +kernel) ⟨Nat.le_of_ble_eq_true rfl, Nat.le_of_ble_eq_true rfl⟩) (k_preV hs hm hS (mw.recv hs hm (mt_ne hR.z (by decide)) (ct8 hR.z) rfl)) rfl rfl hl.1 rfl (lv_room (Nat.le_of_ble_eq_true rfl)) dX9_number_6 ⟨Nat.le_of_ble_eq_true rfl, Nat.le_of_ble_eq_true rfl⟩) hS (fun r_2 u_2 H locs hw_2 hm_2 hS => ?_)
    obtain ⟨hr_2, hu_2⟩ := hw_2
    replace hu_2 := hu_2.symm
    subst hu_2
    have hm := hm_2
    refine lv_bipush (v := (48 : Int32)) hx hb dX9_number_9 (by decide) ?_
    refine lv_bipush (v := (57 : Int32)) hx hb dX9_number_11 (by decide) ?_
    refine k_calli (va_runSN (As := [.int (r_2), .int ((48 : Int32)), .int ((57 : Int32))]) (rest := []) ⟨hx, hb, hml, hown, hts⟩ (cm1_in l E (r_2) ((48 : Int32)) ((57 : Int32)) _) (⟨va_cnB 3 hts (lw_meth q701) rfl rfl rfl (hs.2.2.1 _ q1390 rfl) (hts _ q58) (by decide +kernel) ⟨Nat.le_of_ble_eq_true rfl, Nat.le_of_ble_eq_true rfl⟩, hts _ q700, trivial⟩) (k_pure hs hS) rfl rfl hl.1 rfl (lv_room (Nat.le_of_ble_eq_true rfl)) dX9_number_13 ⟨Nat.le_of_ble_eq_true rfl, Nat.le_of_ble_eq_true rfl⟩) hS (fun r_3 u_3 H9 locs hw_3 hm_3 hS => ?_)
    replace hm_3 : _ = H9 := Eq.symm hm_3
    subst hm_3
    have hr_3 := hw_3
    refine lv_if_eq (tgt := 31) hx hb dX9_number_16 (by decide) (fun c_4 => ?_) (fun c_4 => ?_)
    · refine lv_iload_n hx hb dX9_number_31 rfl (lv_at hl 0 rfl) ?_
      subst hr_3
      subst hr_2
      subst hu_1
      subst hr_1
      refine vx_ret ?_
      refine W.widen (k := 2) (n := 14) (Nat.le_of_ble_eq_true rfl) (Nat.le_of_ble_eq_true rfl) ?_
      exact W.iret (v := _) hx hb hr (fun t9 ht9 _ => ⟨⟨_, _, rfl, pp4 ((if_pos c_1).trans ((if_pos c_4).trans (rfl))), hb9 ht9 hm⟩, hS.F ht9⟩) hS.2.2 dX9_number_32
    · refine lv_bipush (v := (10 : Int32)) hx hb dX9_number_19 (by decide) ?_
      refine lv_iload_n hx hb dX9_number_21 rfl (lv_at hl 0 rfl) ?_
      refine lv_imul hx hb dX9_number_22 ?_
      refine lv_aload_n hx hb dX9_number_23 rfl (lv_at hl 1 rfl) ?_
      refine kx_calli (BX := fun En q u H => XF E t (C9_digit t u_1 (c) ).2.1 En q u H) (vx_runV (As := []) (rest := [.int (((10 : Int32) * r_1))]) ⟨hx, hb, hml, hown, hts⟩ (cm9_digit l E hl9 t u_1  (c)  hR n k mo 1 hv1) (cwV 0 hts (lw_V q1386 q1388 qs17 q72 q1389) rfl rfl rfl (by decide +kernel) ⟨Nat.le_of_ble_eq_true rfl, Nat.le_of_ble_eq_true rfl⟩) (k_preV hs hm hS (mw.recv hs hm (mt_ne hR.z (by decide)) (ct8 hR.z) rfl)) rfl rfl hl.1 rfl (lv_room (Nat.le_of_ble_eq_true rfl)) dX9_number_24 ⟨Nat.le_of_ble_eq_true rfl, Nat.le_of_ble_eq_true rfl⟩) hS (fun En_5 ce_5 q_5 u9_5 H locs hp_5 hB_5 hS h1_5 h2_5 h3_5 => ?_) (fun r_5 u_5 H locs hw_5 hm_5 hS => ?_)
      · obtain ⟨c_5, hu9_5⟩ := hp_5
        replace hu9_5 := hu9_5.symm
        subst hu9_5
        subst hr_3
        subst hr_2
        subst hu_1
        subst hr_1
        have e9 : C9_number0 t M c  = _ := (if_pos c_1).trans ((if_neg c_4).trans ((if_neg c_5).trans (rfl)))
        exact kx_out (BX := fun En q u H => XF E t (C9_number0 t M c ).2.1 En q u H) (u := _) (fun x h => (hno x h).elim) hlocks (xf_leaf e9 c_5 hB_5).1 (xf_leaf e9 c_5 hB_5).2 hS h1_5 h2_5 h3_5 (Nat.le_of_ble_eq_true rfl) (Nat.le_of_ble_eq_true rfl)
      · obtain ⟨c_5, hr_5, hu_5⟩ := hw_5
        have hm := hm_5
        refine lv_iadd hx hb dX9_number_27 ?_
        refine lv_goto (tgt := 32) hx hb dX9_number_28 (by decide) ?_
        subst hu_5
        subst hr_5
        subst hr_3
        subst hr_2
        subst hu_1
        subst hr_1
        refine vx_ret ?_
        refine W.widen (k := 2) (n := 14) (Nat.le_of_ble_eq_true rfl) (Nat.le_of_ble_eq_true rfl) ?_
        exact W.iret (v := _) hx hb hr (fun t9 ht9 _ => ⟨⟨_, _, rfl, pp4 ((if_pos c_1).trans ((if_neg c_4).trans ((if_pos c_5).trans (rfl)))), hb9 ht9 hm⟩, hS.F ht9⟩) hS.2.2 dX9_number_32
def C9_number (t : mt) (M : mm) (c : Nat)   : Int32 × Int32 × Int32 × mm := irr (fun _ => C9_number0 t M c) 0
theorem C9_number_eq (t : mt) (M : mm) (c : Nat)   : C9_number t M c = C9_number0 t M c := by
  unfold C9_number
  exact irr_0 _
theorem cm9_number (l : Launch) (E : mE) (hl9 : l.stackTraces = false) (t : mt) (M : mm) (c : Nat)  (hR : layR t c) (n k mo b : Nat) (hv : rd t M c n k mo b) : vx_Met l yX9_number (ws_ yX9_number cX9_number 2 (some .int)) ({ frames := 8, cells := 2, slots := 14, locals := 161 }) (va_Pc [.ref c] (wP E t M)) (va_Qi (fun (r : Int32) (u : mm) => (C9_number t M c ).1 = 0 ∧ r = (C9_number t M c ).2.2.1 ∧ u = (C9_number t M c ).2.2.2) (fun u U => mw E t u U.heap) (eA E)) (vx_X (fun (u : mm) => ¬ (C9_number t M c ).1 = 0 ∧ u = (C9_number t M c ).2.2.2) (fun En q u U => XF E t (C9_number t M c ).2.1 En q u U.heap) (eA E)) 2 14 (eA E) := by
  rw [C9_number_eq]
  exact cm9_number0 l E hl9 t M c hR n k mo b hv
theorem cmust_rd {t : mt} {M : mm} {c n k m b : Nat} {x : Int32} (h : rd t M c n k m b) (hb : b ≤ 1) (hx : ¬ x = -1) (h0 : (C9_must t M c x).1 = 0) : rd t (C9_must t M c x).2.2 c n k m 1 := by
  rw [C9_must_eq] at h0 ⊢
  unfold C9_must0 at h0 ⊢
  dsimp only at h0 ⊢
  by_cases e : (C9_skip t M c x).1 = 0
  · rw [if_pos e] at h0
    exact absurd h0 (show ¬ (1 : Int32) = 0 by decide)
  · rw [if_neg e]
    exact (cskip_rd h hb hx).2 e
theorem cnumber_rd {t : mt} {M : mm} {c n k m b : Nat} (h : rd t M c n k m b) (h0 : (C9_number t M c).1 = 0) : rd t (C9_number t M c).2.2.2 c n k m 1 := by
  rw [C9_number_eq] at h0 ⊢
  unfold C9_number0 at h0 ⊢
  dsimp only at h0 ⊢
  by_cases e : (C9_digit t M c).1 = 0
  · rw [if_pos e] at h0 ⊢
    have h1 := cdigit_rd h e
    by_cases e2 : C1_in (C9_here t (C9_digit t M c).2.2.2 c) 48 57 = 0
    · rw [if_pos e2]
      exact h1
    · rw [if_neg e2] at h0 ⊢
      by_cases e3 : (C9_digit t (C9_digit t M c).2.2.2 c).1 = 0
      · rw [if_pos e3]
        exact cdigit_rd h1 e3
      · rw [if_neg e3] at h0
        exact absurd h0 e3
  · rw [if_neg e] at h0
    exact absurd h0 e
theorem rd.fin {t : mt} {M : mm} {c n k m : Nat} (h : rd t M c n k m 1) : rd t (sI M 802 c (gI M 802 c + 1)) c n k (m + 1) 0 := by
  obtain ⟨h0, h1, h2, a, h5, h3, h4⟩ := h
  refine ⟨?_, h1, ?_, a, ?_, h3, by omega⟩
  · obtain ⟨g1, g2, g3, g4, g5⟩ := h0
    refine ⟨g1, g2, g3, ?_, ?_⟩
    · rw [gI_sI_f _ _ _ _ (by decide)]; exact g4
    · rw [gI_sI_f _ _ _ _ (by decide)]; exact g5
  · rw [gI_sI_at, h2]; exact nI_1 m
  · rw [gI_sI_f _ _ _ _ (by decide)]; exact h5
def C9_isNumber0 (t : mt) (M : mm) (c : Nat) (x : Int32) : Int32 × Int32 × Int32 × mm :=
  let r_1 := (C9_skip t M (c) (x)).1;
  let u_1 := (C9_skip t M (c) (x)).2;
  if r_1 = 0 then
    ((0 : Int32), (0 : Int32), (0 : Int32), u_1)
  else
    let r_3 := (C9_number t (wI u_1 (c + 1) (upd (aI u_1 (c + 1)) ((gI u_1 802 c)).toNatClampNeg (vp_nar .char x))) (c) ).2.2.1;
    let u_3 := (C9_number t (wI u_1 (c + 1) (upd (aI u_1 (c + 1)) ((gI u_1 802 c)).toNatClampNeg (vp_nar .char x))) (c) ).2.2.2;
    if (C9_number t (wI u_1 (c + 1) (upd (aI u_1 (c + 1)) ((gI u_1 802 c)).toNatClampNeg (vp_nar .char x))) (c) ).1 = 0 then
      ((0 : Int32), (0 : Int32), (1 : Int32), (wI u_3 (c + 2) (upd (aI u_3 (c + 2)) ((gI u_1 802 c)).toNatClampNeg r_3)))
    else
      ((C9_number t (wI u_1 (c + 1) (upd (aI u_1 (c + 1)) ((gI u_1 802 c)).toNatClampNeg (vp_nar .char x))) (c) ).1, (C9_number t (wI u_1 (c + 1) (upd (aI u_1 (c + 1)) ((gI u_1 802 c)).toNatClampNeg (vp_nar .char x))) (c) ).2.1, (0 : Int32), (C9_number t (wI u_1 (c + 1) (upd (aI u_1 (c + 1)) ((gI u_1 802 c)).toNatClampNeg (vp_nar .char x))) (c) ).2.2.2)
set_option maxHeartbeats 4000000 in
theorem cm9_isNumber0 (l : Launch) (E : mE) (hl9 : l.stackTraces = false) (t : mt) (M : mm) (c : Nat) (x : Int32) (hR : layR t c) (n k mo b : Nat) (hv : rd t M c n k mo b) (hb1 : b ≤ 1) (hx9 : ¬ x = -1) : vx_Met l yX9_isNumber (ws_ yX9_isNumber cX9_isNumber 2 (some .boolean)) ({ frames := 9, cells := 2, slots := 14, locals := 182 }) (va_Pc [.ref c, .int x] (wP E t M)) (va_Qi (fun (r : Int32) (u : mm) => (C9_isNumber0 t M c x).1 = 0 ∧ r = (C9_isNumber0 t M c x).2.2.1 ∧ u = (C9_isNumber0 t M c x).2.2.2) (fun u U => mw E t u U.heap) (eA E)) (vx_X (fun (u : mm) => ¬ (C9_isNumber0 t M c x).1 = 0 ∧ u = (C9_isNumber0 t M c x).2.2.2) (fun En q u U => XF E t (C9_isNumber0 t M c x).2.1 En q u U.heap) (eA E)) 2 14 (eA E) := by
  refine vx_ofW (cc := cX9_isNumber) (maxL := 2) (ret := (some .boolean)) (by decide) rfl ?_
  intro p e s m args below meth c0 s₁ B hml hno hv
  obtain ⟨rfl, hs, hm⟩ := hv
  have hx := B.exec
  have hb := B.bytes
  have hr := B.returns
  have hts := atoms_spec (ws := ws_ yX9_isNumber cX9_isNumber 2 (some .boolean)) B.pre
  have hts : ∀ w ∈ lw_all, w.before _ s = true := fun w h => hts w (List.mem_cons_of_mem _ h)
  have hown : s.vm.findClass RX9 = some m.cls := findClass_of_methodNamed B.named
  have hlocks := B.notSynchronized
  have hout : ∀ pc : Nat, ∀ x ∈ c0.exceptionTable.toList, covers x pc = false := fun _ x h => (hno x h).elim
  have hS : va_S (eA E) s.heap s.heap [] := va_S.rf
  have hl := lv_entry ([.ref c, .int x]) (n := 2) (Nat.le_of_ble_eq_true rfl)
  rw [lg_entry_eq]
  generalize (lg_sl ([.ref c, .int x]) ++ List.replicate (2 - (lg_sl ([.ref c, .int x])).length) Slot.unset).toArray = ls at hl ⊢
  have hl : lv_has ls 2 [(0, .ref (c)), (1, .int (x))] := hl
  refine lv_aload_n hx hb dX9_isNumber_0 rfl (lv_at hl 0 rfl) ?_
  refine lv_iload_n hx hb dX9_isNumber_1 rfl (lv_at hl 1 rfl) ?_
  refine k_calli (va_runV (As := [.int (x)]) (rest := []) ⟨hx, hb, hml, hown, hts⟩ (cm9_skip l E t M  (c) (x) hR n k mo b hv) (cwV 1 hts (lw_V q1365 q1367 qs15 q72 q1368) rfl rfl rfl (by decide +kernel) ⟨Nat.le_of_ble_eq_true rfl, Nat.le_of_ble_eq_true rfl⟩) (k_preV hs hm hS (mw.recv hs hm (mt_ne hR.z (by decide)) (ct8 hR.z) rfl)) rfl rfl hl.1 rfl (lv_room (Nat.le_of_ble_eq_true rfl)) dX9_isNumber_2 ⟨Nat.le_of_ble_eq_true rfl, Nat.le_of_ble_eq_true rfl⟩) hS (fun r_1 u_1 H locs hw_1 hm_1 hS => ?_)
  obtain ⟨hr_1, hu_1⟩ := hw_1
  have hm := hm_1
  refine lv_if_ne (tgt := 10) hx hb dX9_isNumber_5 (by decide) (fun c_2 => ?_) (fun c_2 => ?_)
  · have hw_u_1 : rd t u_1 c n k mo 1 := by rw [hu_1]; exact (cskip_rd hv hb1 hx9).2 (hr_1 ▸ c_2)
    refine lv_aload_n hx hb dX9_isNumber_10 rfl (lv_at hl 0 rfl) ?_
    refine gf_803 hx hb hts hown hs hm hR.z (hts _ q370) dX9_isNumber_11 ?_
    refine lv_aload_n hx hb dX9_isNumber_14 rfl (lv_at hl 0 rfl) ?_
    refine gf_802 hx hb hts hown hs hm hR.z (hts _ q368) dX9_isNumber_15 ?_
    refine lv_iload_n hx hb dX9_isNumber_18 rfl (lv_at hl 1 rfl) ?_
    refine k_cast hx hb hs hm hS hR.2.1 (ix.at (B := 60) ((hw_u_1.mx).mono (by decide)) (by decide)) dX9_isNumber_19 (fun H locs hm hS => ?_)
    have hm : mw E t ((wI u_1 (c + 1) (upd (aI u_1 (c + 1)) ((gI u_1 802 c)).toNatClampNeg (vp_nar .char x)))) H := hm
    refine lv_aload_n hx hb dX9_isNumber_20 rfl (lv_at hl 0 rfl) ?_
    refine gf_804 hx hb hts hown hs hm hR.z (hts _ q371) dX9_isNumber_21 ?_
    refine lv_aload_n hx hb dX9_isNumber_24 rfl (lv_at hl 0 rfl) ?_
    refine gf_802 hx hb hts hown hs hm hR.z (hts _ q368) dX9_isNumber_25 ?_
    refine lv_aload_n hx hb dX9_isNumber_28 rfl (lv_at hl 0 rfl) ?_
    refine kx_calli (BX := fun En q u H => XF E t (C9_number t (wI u_1 (c + 1) (upd (aI u_1 (c + 1)) ((gI u_1 802 c)).toNatClampNeg (vp_nar .char x))) (c) ).2.1 En q u H) (vx_runV (As := []) (rest := [.int ((gI u_1 802 c)), .ref ((c + 2))]) ⟨hx, hb, hml, hown, hts⟩ (cm9_number l E hl9 t (wI u_1 (c + 1) (upd (aI u_1 (c + 1)) ((gI u_1 802 c)).toNatClampNeg (vp_nar .char x)))  (c)  hR n k mo 1 (show rd t (wI u_1 (c + 1) (upd (aI u_1 (c + 1)) ((gI u_1 802 c)).toNatClampNeg (vp_nar .char x))) c n k mo 1 from hw_u_1)) (cwV 0 hts (lw_V q1414 q1416 qs19 q72 q1417) rfl rfl rfl (by decide +kernel) ⟨Nat.le_of_ble_eq_true rfl, Nat.le_of_ble_eq_true rfl⟩) (k_preV hs hm hS (mw.recv hs hm (mt_ne hR.z (by decide)) (ct8 hR.z) rfl)) rfl rfl hl.1 rfl (lv_room (Nat.le_of_ble_eq_true rfl)) dX9_isNumber_29 ⟨Nat.le_of_ble_eq_true rfl, Nat.le_of_ble_eq_true rfl⟩) hS (fun En_3 ce_3 q_3 u9_3 H locs hp_3 hB_3 hS h1_3 h2_3 h3_3 => ?_) (fun r_3 u_3 H locs hw_3 hm_3 hS => ?_)
    · obtain ⟨c_3, hu9_3⟩ := hp_3
      replace hu9_3 := hu9_3.symm
      subst hu9_3
      subst hu_1
      subst hr_1
      have e9 : C9_isNumber0 t M c x = _ := (if_neg c_2).trans ((if_neg c_3).trans (rfl))
      exact kx_out (BX := fun En q u H => XF E t (C9_isNumber0 t M c x).2.1 En q u H) (u := _) (fun x h => (hno x h).elim) hlocks (xf_leaf e9 c_3 hB_3).1 (xf_leaf e9 c_3 hB_3).2 hS h1_3 h2_3 h3_3 (Nat.le_of_ble_eq_true rfl) (Nat.le_of_ble_eq_true rfl)
    · obtain ⟨c_3, hr_3, hu_3⟩ := hw_3
      have hm := hm_3
      refine k_iast hx hb hs hm hS hR.2.2.1 (ix.at (B := 60) ((hw_u_1.mx).mono (by decide)) (by decide)) dX9_isNumber_32 (fun H locs hm hS => ?_)
      have hm : mw E t ((wI u_3 (c + 2) (upd (aI u_3 (c + 2)) ((gI u_1 802 c)).toNatClampNeg r_3))) H := hm
      refine lv_iconst (v := (1 : Int32)) hx hb dX9_isNumber_33 (by decide) ?_
      subst hu_3
      subst hr_3
      subst hu_1
      subst hr_1
      refine vx_ret ?_
      refine W.widen (k := 2) (n := 14) (Nat.le_of_ble_eq_true rfl) (Nat.le_of_ble_eq_true rfl) ?_
      exact W.zret (v := _) hx hb hr rfl (fun t9 ht9 _ => ⟨⟨_, _, rfl, pp4 ((if_neg c_2).trans ((if_pos c_3).trans (rfl))), hb9 ht9 hm⟩, hS.F ht9⟩) hS.2.2 dX9_isNumber_34
  · refine lv_iconst (v := (0 : Int32)) hx hb dX9_isNumber_8 (by decide) ?_
    subst hu_1
    subst hr_1
    refine vx_ret ?_
    refine W.widen (k := 2) (n := 14) (Nat.le_of_ble_eq_true rfl) (Nat.le_of_ble_eq_true rfl) ?_
    exact W.zret (v := _) hx hb hr rfl (fun t9 ht9 _ => ⟨⟨_, _, rfl, pp4 ((if_pos c_2).trans (rfl)), hb9 ht9 hm⟩, hS.F ht9⟩) hS.2.2 dX9_isNumber_9
def C9_isNumber (t : mt) (M : mm) (c : Nat) (x : Int32)  : Int32 × Int32 × Int32 × mm := irr (fun _ => C9_isNumber0 t M c x) 0
theorem C9_isNumber_eq (t : mt) (M : mm) (c : Nat) (x : Int32)  : C9_isNumber t M c x = C9_isNumber0 t M c x := by
  unfold C9_isNumber
  exact irr_0 _
theorem cm9_isNumber (l : Launch) (E : mE) (hl9 : l.stackTraces = false) (t : mt) (M : mm) (c : Nat) (x : Int32) (hR : layR t c) (n k mo b : Nat) (hv : rd t M c n k mo b) (hb1 : b ≤ 1) (hx9 : ¬ x = -1) : vx_Met l yX9_isNumber (ws_ yX9_isNumber cX9_isNumber 2 (some .boolean)) ({ frames := 9, cells := 2, slots := 14, locals := 182 }) (va_Pc [.ref c, .int x] (wP E t M)) (va_Qi (fun (r : Int32) (u : mm) => (C9_isNumber t M c x).1 = 0 ∧ r = (C9_isNumber t M c x).2.2.1 ∧ u = (C9_isNumber t M c x).2.2.2) (fun u U => mw E t u U.heap) (eA E)) (vx_X (fun (u : mm) => ¬ (C9_isNumber t M c x).1 = 0 ∧ u = (C9_isNumber t M c x).2.2.2) (fun En q u U => XF E t (C9_isNumber t M c x).2.1 En q u U.heap) (eA E)) 2 14 (eA E) := by
  rw [C9_isNumber_eq]
  exact cm9_isNumber0 l E hl9 t M c x hR n k mo b hv hb1 hx9
theorem cisNum_rd {t : mt} {M : mm} {c n k m b : Nat} {x : Int32} (h : rd t M c n k m b) (hb : b ≤ 1) (hx : ¬ x = -1) (h0 : (C9_isNumber t M c x).1 = 0) : (¬ (C9_isNumber t M c x).2.2.1 = 0 → rd t (C9_isNumber t M c x).2.2.2 c n k m 1) ∧ ((C9_isNumber t M c x).2.2.1 = 0 → rd t (C9_isNumber t M c x).2.2.2 c n k m b) := by
  rw [C9_isNumber_eq] at h0 ⊢
  unfold C9_isNumber0 at h0 ⊢
  dsimp only at h0 ⊢
  have hs := cskip_rd h hb hx
  by_cases e : (C9_skip t M c x).1 = 0
  · rw [if_pos e]
    exact ⟨fun h9 => absurd rfl h9, fun _ => hs.1⟩
  · rw [if_neg e] at h0 ⊢
    have h1 := hs.2 e
    generalize (C9_skip t M c x).2 = u at h0 h1 ⊢
    have h2 : rd t (wI u (c + 1) (upd (aI u (c + 1)) ((gI u 802 c)).toNatClampNeg (vp_nar .char x))) c n k m 1 := h1
    generalize wI u (c + 1) (upd (aI u (c + 1)) ((gI u 802 c)).toNatClampNeg (vp_nar .char x)) = v at h0 h2 ⊢
    by_cases e2 : (C9_number t v c).1 = 0
    · rw [if_pos e2]
      exact ⟨fun _ => cnumber_rd h2 e2, fun h9 => absurd h9 (show ¬ (1 : Int32) = 0 by decide)⟩
    · rw [if_neg e2] at h0
      exact absurd h0 e2
def C9_order0 (t : mt) (M : mm) (c : Nat)  : Int32 × Int32 × mm :=
  let r_1 := (C9_skip t M (c) ((100 : Int32))).1;
  let u_1 := (C9_skip t M (c) ((100 : Int32))).2;
  if r_1 = 0 then
    let r_3 := (C9_skip t u_1 (c) ((114 : Int32))).1;
    let u_3 := (C9_skip t u_1 (c) ((114 : Int32))).2;
    if r_3 = 0 then
      let r_5 := (C9_skip t u_3 (c) ((118 : Int32))).1;
      let u_5 := (C9_skip t u_3 (c) ((118 : Int32))).2;
      if r_5 = 0 then
        let r_7 := (C9_skip t u_5 (c) ((99 : Int32))).1;
        let u_7 := (C9_skip t u_5 (c) ((99 : Int32))).2;
        if r_7 = 0 then
          let r_9 := (C9_isNumber t u_7 (c) ((119 : Int32))).2.2.1;
          let u_9 := (C9_isNumber t u_7 (c) ((119 : Int32))).2.2.2;
          if (C9_isNumber t u_7 (c) ((119 : Int32))).1 = 0 then
            if r_9 = 0 then
              let r_11 := (C9_isNumber t u_9 (c) ((110 : Int32))).2.2.1;
              let u_11 := (C9_isNumber t u_9 (c) ((110 : Int32))).2.2.2;
              if (C9_isNumber t u_9 (c) ((110 : Int32))).1 = 0 then
                if r_11 = 0 then
                  let u_13 := (C9_must t u_11 (c) ((112 : Int32))).2.2;
                  let r_14 := (C9_number t (wI u_13 (c + 1) (upd (aI u_13 (c + 1)) ((gI u_13 802 c)).toNatClampNeg (vp_nar .char (112 : Int32)))) (c) ).2.2.1;
                  let u_14 := (C9_number t (wI u_13 (c + 1) (upd (aI u_13 (c + 1)) ((gI u_13 802 c)).toNatClampNeg (vp_nar .char (112 : Int32)))) (c) ).2.2.2;
                  if (C9_must t u_11 (c) ((112 : Int32))).1 = 0 then
                    let r_14 := (C9_number t (wI u_13 (c + 1) (upd (aI u_13 (c + 1)) ((gI u_13 802 c)).toNatClampNeg (vp_nar .char (112 : Int32)))) (c) ).2.2.1;
                    let u_14 := (C9_number t (wI u_13 (c + 1) (upd (aI u_13 (c + 1)) ((gI u_13 802 c)).toNatClampNeg (vp_nar .char (112 : Int32)))) (c) ).2.2.2;
                    if (C9_number t (wI u_13 (c + 1) (upd (aI u_13 (c + 1)) ((gI u_13 802 c)).toNatClampNeg (vp_nar .char (112 : Int32)))) (c) ).1 = 0 then
                      ((0 : Int32), (0 : Int32), (sI (wI u_14 (c + 2) (upd (aI u_14 (c + 2)) ((gI u_13 802 c)).toNatClampNeg r_14)) 802 c ((gI u_14 802 c) + (1 : Int32))))
                    else
                      ((C9_number t (wI u_13 (c + 1) (upd (aI u_13 (c + 1)) ((gI u_13 802 c)).toNatClampNeg (vp_nar .char (112 : Int32)))) (c) ).1, (C9_number t (wI u_13 (c + 1) (upd (aI u_13 (c + 1)) ((gI u_13 802 c)).toNatClampNeg (vp_nar .char (112 : Int32)))) (c) ).2.1, (C9_number t (wI u_13 (c + 1) (upd (aI u_13 (c + 1)) ((gI u_13 802 c)).toNatClampNeg (vp_nar .char (112 : Int32)))) (c) ).2.2.2)
                  else
                    ((C9_must t u_11 (c) ((112 : Int32))).1, (C9_must t u_11 (c) ((112 : Int32))).2.1, (C9_must t u_11 (c) ((112 : Int32))).2.2)
                else
                  ((0 : Int32), (0 : Int32), (sI u_11 802 c ((gI u_11 802 c) + (1 : Int32))))
              else
                ((C9_isNumber t u_9 (c) ((110 : Int32))).1, (C9_isNumber t u_9 (c) ((110 : Int32))).2.1, (C9_isNumber t u_9 (c) ((110 : Int32))).2.2.2)
            else
              ((0 : Int32), (0 : Int32), (sI u_9 802 c ((gI u_9 802 c) + (1 : Int32))))
          else
            ((C9_isNumber t u_7 (c) ((119 : Int32))).1, (C9_isNumber t u_7 (c) ((119 : Int32))).2.1, (C9_isNumber t u_7 (c) ((119 : Int32))).2.2.2)
        else
          ((0 : Int32), (0 : Int32), (sI (wI u_7 (c + 1) (upd (aI u_7 (c + 1)) ((gI u_7 802 c)).toNatClampNeg (vp_nar .char (99 : Int32)))) 802 c ((gI u_7 802 c) + (1 : Int32))))
      else
        let r_15 := (C9_digit t (wI u_5 (c + 1) (upd (aI u_5 (c + 1)) ((gI u_5 802 c)).toNatClampNeg (vp_nar .char (118 : Int32)))) (c) ).2.2.1;
        let u_15 := (C9_digit t (wI u_5 (c + 1) (upd (aI u_5 (c + 1)) ((gI u_5 802 c)).toNatClampNeg (vp_nar .char (118 : Int32)))) (c) ).2.2.2;
        let r_16 := (C9_skip t (wI u_15 (c + 2) (upd (aI u_15 (c + 2)) ((gI u_5 802 c)).toNatClampNeg r_15)) (c) ((45 : Int32))).1;
        let u_16 := (C9_skip t (wI u_15 (c + 2) (upd (aI u_15 (c + 2)) ((gI u_5 802 c)).toNatClampNeg r_15)) (c) ((45 : Int32))).2;
        if (C9_digit t (wI u_5 (c + 1) (upd (aI u_5 (c + 1)) ((gI u_5 802 c)).toNatClampNeg (vp_nar .char (118 : Int32)))) (c) ).1 = 0 then
          let r_16 := (C9_skip t (wI u_15 (c + 2) (upd (aI u_15 (c + 2)) ((gI u_5 802 c)).toNatClampNeg r_15)) (c) ((45 : Int32))).1;
          let u_16 := (C9_skip t (wI u_15 (c + 2) (upd (aI u_15 (c + 2)) ((gI u_5 802 c)).toNatClampNeg r_15)) (c) ((45 : Int32))).2;
          let x18 := if r_16 = 0 then (1 : Int32) else (0 : Int32);
          if ((upd (aI u_16 (c + 3)) ((gI u_15 802 c)).toNatClampNeg x18) ((gI u_16 802 c)).toNatClampNeg) = (1 : Int32) then
            let u_20 := (C9_must t (wI u_16 (c + 3) (upd (aI u_16 (c + 3)) ((gI u_15 802 c)).toNatClampNeg x18)) (c) ((43 : Int32))).2.2;
            if (C9_must t (wI u_16 (c + 3) (upd (aI u_16 (c + 3)) ((gI u_15 802 c)).toNatClampNeg x18)) (c) ((43 : Int32))).1 = 0 then
              ((0 : Int32), (0 : Int32), (sI u_20 802 c ((gI u_20 802 c) + (1 : Int32))))
            else
              ((C9_must t (wI u_16 (c + 3) (upd (aI u_16 (c + 3)) ((gI u_15 802 c)).toNatClampNeg x18)) (c) ((43 : Int32))).1, (C9_must t (wI u_16 (c + 3) (upd (aI u_16 (c + 3)) ((gI u_15 802 c)).toNatClampNeg x18)) (c) ((43 : Int32))).2.1, (C9_must t (wI u_16 (c + 3) (upd (aI u_16 (c + 3)) ((gI u_15 802 c)).toNatClampNeg x18)) (c) ((43 : Int32))).2.2)
          else
            ((0 : Int32), (0 : Int32), (sI (wI u_16 (c + 3) (upd (aI u_16 (c + 3)) ((gI u_15 802 c)).toNatClampNeg x18)) 802 c ((gI u_16 802 c) + (1 : Int32))))
        else
          ((C9_digit t (wI u_5 (c + 1) (upd (aI u_5 (c + 1)) ((gI u_5 802 c)).toNatClampNeg (vp_nar .char (118 : Int32)))) (c) ).1, (C9_digit t (wI u_5 (c + 1) (upd (aI u_5 (c + 1)) ((gI u_5 802 c)).toNatClampNeg (vp_nar .char (118 : Int32)))) (c) ).2.1, (C9_digit t (wI u_5 (c + 1) (upd (aI u_5 (c + 1)) ((gI u_5 802 c)).toNatClampNeg (vp_nar .char (118 : Int32)))) (c) ).2.2.2)
    else
      let r_21 := (C9_digit t (wI u_3 (c + 1) (upd (aI u_3 (c + 1)) ((gI u_3 802 c)).toNatClampNeg (vp_nar .char (114 : Int32)))) (c) ).2.2.1;
      let u_21 := (C9_digit t (wI u_3 (c + 1) (upd (aI u_3 (c + 1)) ((gI u_3 802 c)).toNatClampNeg (vp_nar .char (114 : Int32)))) (c) ).2.2.2;
      if (C9_digit t (wI u_3 (c + 1) (upd (aI u_3 (c + 1)) ((gI u_3 802 c)).toNatClampNeg (vp_nar .char (114 : Int32)))) (c) ).1 = 0 then
        ((0 : Int32), (0 : Int32), (sI (wI u_21 (c + 2) (upd (aI u_21 (c + 2)) ((gI u_3 802 c)).toNatClampNeg r_21)) 802 c ((gI u_21 802 c) + (1 : Int32))))
      else
        ((C9_digit t (wI u_3 (c + 1) (upd (aI u_3 (c + 1)) ((gI u_3 802 c)).toNatClampNeg (vp_nar .char (114 : Int32)))) (c) ).1, (C9_digit t (wI u_3 (c + 1) (upd (aI u_3 (c + 1)) ((gI u_3 802 c)).toNatClampNeg (vp_nar .char (114 : Int32)))) (c) ).2.1, (C9_digit t (wI u_3 (c + 1) (upd (aI u_3 (c + 1)) ((gI u_3 802 c)).toNatClampNeg (vp_nar .char (114 : Int32)))) (c) ).2.2.2)
  else
    let r_22 := (C9_digit t (wI u_1 (c + 1) (upd (aI u_1 (c + 1)) ((gI u_1 802 c)).toNatClampNeg (vp_nar .char (100 : Int32)))) (c) ).2.2.1;
    let u_22 := (C9_digit t (wI u_1 (c + 1) (upd (aI u_1 (c + 1)) ((gI u_1 802 c)).toNatClampNeg (vp_nar .char (100 : Int32)))) (c) ).2.2.2;
    let u_23 := (C9_must t (wI u_22 (c + 2) (upd (aI u_22 (c + 2)) ((gI u_1 802 c)).toNatClampNeg r_22)) (c) ((64 : Int32))).2.2;
    let r_24 := (C9_number t u_23 (c) ).2.2.1;
    let u_24 := (C9_number t u_23 (c) ).2.2.2;
    if (C9_digit t (wI u_1 (c + 1) (upd (aI u_1 (c + 1)) ((gI u_1 802 c)).toNatClampNeg (vp_nar .char (100 : Int32)))) (c) ).1 = 0 then
      let u_23 := (C9_must t (wI u_22 (c + 2) (upd (aI u_22 (c + 2)) ((gI u_1 802 c)).toNatClampNeg r_22)) (c) ((64 : Int32))).2.2;
      let r_24 := (C9_number t u_23 (c) ).2.2.1;
      let u_24 := (C9_number t u_23 (c) ).2.2.2;
      if (C9_must t (wI u_22 (c + 2) (upd (aI u_22 (c + 2)) ((gI u_1 802 c)).toNatClampNeg r_22)) (c) ((64 : Int32))).1 = 0 then
        let r_24 := (C9_number t u_23 (c) ).2.2.1;
        let u_24 := (C9_number t u_23 (c) ).2.2.2;
        if (C9_number t u_23 (c) ).1 = 0 then
          ((0 : Int32), (0 : Int32), (sI (wI u_24 (c + 3) (upd (aI u_24 (c + 3)) ((gI u_23 802 c)).toNatClampNeg r_24)) 802 c ((gI u_24 802 c) + (1 : Int32))))
        else
          ((C9_number t u_23 (c) ).1, (C9_number t u_23 (c) ).2.1, (C9_number t u_23 (c) ).2.2.2)
      else
        ((C9_must t (wI u_22 (c + 2) (upd (aI u_22 (c + 2)) ((gI u_1 802 c)).toNatClampNeg r_22)) (c) ((64 : Int32))).1, (C9_must t (wI u_22 (c + 2) (upd (aI u_22 (c + 2)) ((gI u_1 802 c)).toNatClampNeg r_22)) (c) ((64 : Int32))).2.1, (C9_must t (wI u_22 (c + 2) (upd (aI u_22 (c + 2)) ((gI u_1 802 c)).toNatClampNeg r_22)) (c) ((64 : Int32))).2.2)
    else
      ((C9_digit t (wI u_1 (c + 1) (upd (aI u_1 (c + 1)) ((gI u_1 802 c)).toNatClampNeg (vp_nar .char (100 : Int32)))) (c) ).1, (C9_digit t (wI u_1 (c + 1) (upd (aI u_1 (c + 1)) ((gI u_1 802 c)).toNatClampNeg (vp_nar .char (100 : Int32)))) (c) ).2.1, (C9_digit t (wI u_1 (c + 1) (upd (aI u_1 (c + 1)) ((gI u_1 802 c)).toNatClampNeg (vp_nar .char (100 : Int32)))) (c) ).2.2.2)
set_option maxHeartbeats 4000000 in
theorem cm9_order0 (l : Launch) (E : mE) (hl9 : l.stackTraces = false) (t : mt) (M : mm) (c : Nat)  (hR : layR t c) (n k mo b : Nat) (hv : rd t M c n k mo b) (hb1 : b ≤ 1) : vx_Met l yX9_order (ws_ yX9_order cX9_order 1 none) ({ frames := 10, cells := 7, slots := 49, locals := 203 }) (va_Pc [.ref c] (wP E t M)) (va_Qv (fun (u : mm) => (C9_order0 t M c ).1 = 0 ∧ u = (C9_order0 t M c ).2.2) (fun u U => mw E t u U.heap) (eA E)) (vx_X (fun (u : mm) => ¬ (C9_order0 t M c ).1 = 0 ∧ u = (C9_order0 t M c ).2.2) (fun En q u U => XF E t (C9_order0 t M c ).2.1 En q u U.heap) (eA E)) 7 49 (eA E) := by
  refine vx_ofW (cc := cX9_order) (maxL := 1) (ret := none) (by decide) rfl ?_
  intro p e s m args below meth c0 s₁ B hml hno hv
  obtain ⟨rfl, hs, hm⟩ := hv
  have hx := B.exec
  have hb := B.bytes
  have hr := B.returns
  have hts := atoms_spec (ws := ws_ yX9_order cX9_order 1 none) B.pre
  have hts : ∀ w ∈ lw_all, w.before _ s = true := fun w h => hts w (List.mem_cons_of_mem _ h)
  have hown : s.vm.findClass RX9 = some m.cls := findClass_of_methodNamed B.named
  have hlocks := B.notSynchronized
  have hout : ∀ pc : Nat, ∀ x ∈ c0.exceptionTable.toList, covers x pc = false := fun _ x h => (hno x h).elim
  have hS : va_S (eA E) s.heap s.heap [] := va_S.rf
  have hl := lv_entry ([.ref c]) (n := 1) (Nat.le_of_ble_eq_true rfl)
  rw [lg_entry_eq]
  generalize (lg_sl ([.ref c]) ++ List.replicate (1 - (lg_sl ([.ref c])).length) Slot.unset).toArray = ls at hl ⊢
  have hl : lv_has ls 1 [(0, .ref (c))] := hl
  refine lv_aload_n hx hb dX9_order_0 rfl (lv_at hl 0 rfl) ?_
  refine lv_bipush (v := (100 : Int32)) hx hb dX9_order_1 (by decide) ?_
  refine k_calli (va_runV (As := [.int ((100 : Int32))]) (rest := []) ⟨hx, hb, hml, hown, hts⟩ (cm9_skip l E t M  (c) ((100 : Int32)) hR n k mo b hv) (cwV 1 hts (lw_V q1365 q1367 qs15 q72 q1368) rfl rfl rfl (by decide +kernel) ⟨Nat.le_of_ble_eq_true rfl, Nat.le_of_ble_eq_true rfl⟩) (k_preV hs hm hS (mw.recv hs hm (mt_ne hR.z (by decide)) (ct8 hR.z) rfl)) rfl rfl hl.1 rfl (lv_room (Nat.le_of_ble_eq_true rfl)) dX9_order_3 ⟨Nat.le_of_ble_eq_true rfl, Nat.le_of_ble_eq_true rfl⟩) hS (fun r_1 u_1 H locs hw_1 hm_1 hS => ?_)
  obtain ⟨hr_1, hu_1⟩ := hw_1
  have hm := hm_1
  refine lv_if_eq (tgt := 55) hx hb dX9_order_6 (by decide) (fun c_2 => ?_) (fun c_2 => ?_)
  · have hb_u_1 : rd t u_1 c n k mo b := by rw [hu_1]; exact (cskip_rd hv hb1 (by decide)).1
    refine lv_aload_n hx hb dX9_order_55 rfl (lv_at hl 0 rfl) ?_
    refine lv_bipush (v := (114 : Int32)) hx hb dX9_order_56 (by decide) ?_
    refine k_calli (va_runV (As := [.int ((114 : Int32))]) (rest := []) ⟨hx, hb, hml, hown, hts⟩ (cm9_skip l E t u_1  (c) ((114 : Int32)) hR n k mo b hb_u_1) (cwV 1 hts (lw_V q1365 q1367 qs15 q72 q1368) rfl rfl rfl (by decide +kernel) ⟨Nat.le_of_ble_eq_true rfl, Nat.le_of_ble_eq_true rfl⟩) (k_preV hs hm hS (mw.recv hs hm (mt_ne hR.z (by decide)) (ct8 hR.z) rfl)) rfl rfl hl.1 rfl (lv_room (Nat.le_of_ble_eq_true rfl)) dX9_order_58 ⟨Nat.le_of_ble_eq_true rfl, Nat.le_of_ble_eq_true rfl⟩) hS (fun r_3 u_3 H locs hw_3 hm_3 hS => ?_)
    obtain ⟨hr_3, hu_3⟩ := hw_3
    have hm := hm_3
    refine lv_if_eq (tgt := 91) hx hb dX9_order_61 (by decide) (fun c_4 => ?_) (fun c_4 => ?_)
    · have hb_u_3 : rd t u_3 c n k mo b := by rw [hu_3]; exact (cskip_rd hb_u_1 hb1 (by decide)).1
      refine lv_aload_n hx hb dX9_order_91 rfl (lv_at hl 0 rfl) ?_
      refine lv_bipush (v := (118 : Int32)) hx hb dX9_order_92 (by decide) ?_
      refine k_calli (va_runV (As := [.int ((118 : Int32))]) (rest := []) ⟨hx, hb, hml, hown, hts⟩ (cm9_skip l E t u_3  (c) ((118 : Int32)) hR n k mo b hb_u_3) (cwV 1 hts (lw_V q1365 q1367 qs15 q72 q1368) rfl rfl rfl (by decide +kernel) ⟨Nat.le_of_ble_eq_true rfl, Nat.le_of_ble_eq_true rfl⟩) (k_preV hs hm hS (mw.recv hs hm (mt_ne hR.z (by decide)) (ct8 hR.z) rfl)) rfl rfl hl.1 rfl (lv_room (Nat.le_of_ble_eq_true rfl)) dX9_order_94 ⟨Nat.le_of_ble_eq_true rfl, Nat.le_of_ble_eq_true rfl⟩) hS (fun r_5 u_5 H locs hw_5 hm_5 hS => ?_)
      obtain ⟨hr_5, hu_5⟩ := hw_5
      have hm := hm_5
      refine lv_if_eq (tgt := 169) hx hb dX9_order_97 (by decide) (fun c_6 => ?_) (fun c_6 => ?_)
      · have hb_u_5 : rd t u_5 c n k mo b := by rw [hu_5]; exact (cskip_rd hb_u_3 hb1 (by decide)).1
        refine lv_aload_n hx hb dX9_order_169 rfl (lv_at hl 0 rfl) ?_
        refine lv_bipush (v := (99 : Int32)) hx hb dX9_order_170 (by decide) ?_
        refine k_calli (va_runV (As := [.int ((99 : Int32))]) (rest := []) ⟨hx, hb, hml, hown, hts⟩ (cm9_skip l E t u_5  (c) ((99 : Int32)) hR n k mo b hb_u_5) (cwV 1 hts (lw_V q1365 q1367 qs15 q72 q1368) rfl rfl rfl (by decide +kernel) ⟨Nat.le_of_ble_eq_true rfl, Nat.le_of_ble_eq_true rfl⟩) (k_preV hs hm hS (mw.recv hs hm (mt_ne hR.z (by decide)) (ct8 hR.z) rfl)) rfl rfl hl.1 rfl (lv_room (Nat.le_of_ble_eq_true rfl)) dX9_order_172 ⟨Nat.le_of_ble_eq_true rfl, Nat.le_of_ble_eq_true rfl⟩) hS (fun r_7 u_7 H locs hw_7 hm_7 hS => ?_)
        obtain ⟨hr_7, hu_7⟩ := hw_7
        have hm := hm_7
        refine lv_if_eq (tgt := 192) hx hb dX9_order_175 (by decide) (fun c_8 => ?_) (fun c_8 => ?_)
        · have hb_u_7 : rd t u_7 c n k mo b := by rw [hu_7]; exact (cskip_rd hb_u_5 hb1 (by decide)).1
          refine lv_aload_n hx hb dX9_order_192 rfl (lv_at hl 0 rfl) ?_
          refine lv_bipush (v := (119 : Int32)) hx hb dX9_order_193 (by decide) ?_
          refine kx_calli (BX := fun En q u H => XF E t (C9_isNumber t u_7 (c) ((119 : Int32))).2.1 En q u H) (vx_runV (As := [.int ((119 : Int32))]) (rest := []) ⟨hx, hb, hml, hown, hts⟩ (cm9_isNumber l E hl9 t u_7  (c) ((119 : Int32)) hR n k mo b hb_u_7 hb1 (by decide)) (cwV 1 hts (lw_V q1418 q1420 qs20 q72 q1421) rfl rfl rfl (by decide +kernel) ⟨Nat.le_of_ble_eq_true rfl, Nat.le_of_ble_eq_true rfl⟩) (k_preV hs hm hS (mw.recv hs hm (mt_ne hR.z (by decide)) (ct8 hR.z) rfl)) rfl rfl hl.1 rfl (lv_room (Nat.le_of_ble_eq_true rfl)) dX9_order_195 ⟨Nat.le_of_ble_eq_true rfl, Nat.le_of_ble_eq_true rfl⟩) hS (fun En_9 ce_9 q_9 u9_9 H locs hp_9 hB_9 hS h1_9 h2_9 h3_9 => ?_) (fun r_9 u_9 H locs hw_9 hm_9 hS => ?_)
          · obtain ⟨c_9, hu9_9⟩ := hp_9
            replace hu9_9 := hu9_9.symm
            subst hu9_9
            subst hu_7
            subst hr_7
            subst hu_5
            subst hr_5
            subst hu_3
            subst hr_3
            subst hu_1
            subst hr_1
            have e9 : C9_order0 t M c  = _ := (if_pos c_2).trans ((if_pos c_4).trans ((if_pos c_6).trans ((if_pos c_8).trans ((if_neg c_9).trans (rfl)))))
            exact kx_out (BX := fun En q u H => XF E t (C9_order0 t M c ).2.1 En q u H) (u := _) (fun x h => (hno x h).elim) hlocks (xf_leafv e9 c_9 hB_9).1 (xf_leafv e9 c_9 hB_9).2 hS h1_9 h2_9 h3_9 (Nat.le_of_ble_eq_true rfl) (Nat.le_of_ble_eq_true rfl)
          · obtain ⟨c_9, hr_9, hu_9⟩ := hw_9
            have hm := hm_9
            refine lv_if_ne (tgt := 240) hx hb dX9_order_198 (by decide) (fun c_10 => ?_) (fun c_10 => ?_)
            · refine lv_aload_n hx hb dX9_order_240 rfl (lv_at hl 0 rfl) ?_
              refine lv_dup hx hb dX9_order_241 rfl ?_
              refine gf_802 hx hb hts hown hs hm hR.z (hts _ q368) dX9_order_242 ?_
              refine lv_iconst (v := (1 : Int32)) hx hb dX9_order_245 (by decide) ?_
              refine lv_iadd hx hb dX9_order_246 ?_
              refine pf_802 hx hb hts hown hs hm hS hR.z (hts _ q368) dX9_order_247 (fun H locs hm hS => ?_)
              have hm : mw E t ((sI u_9 802 c ((gI u_9 802 c) + (1 : Int32)))) H := hm
              subst hu_9
              subst hr_9
              subst hu_7
              subst hr_7
              subst hu_5
              subst hr_5
              subst hu_3
              subst hr_3
              subst hu_1
              subst hr_1
              refine vx_ret ?_
              refine W.widen (k := 7) (n := 49) (Nat.le_of_ble_eq_true rfl) (Nat.le_of_ble_eq_true rfl) ?_
              exact W.vret hx hb hr (fun t9 ht9 _ => ⟨⟨_, rfl, pp4v ((if_pos c_2).trans ((if_pos c_4).trans ((if_pos c_6).trans ((if_pos c_8).trans ((if_pos c_9).trans ((if_neg c_10).trans (rfl))))))), hb9 ht9 hm⟩, hS.F ht9⟩) hS.2.2 dX9_order_250
            · have hb_u_9 : rd t u_9 c n k mo b := by rw [hu_9]; exact (cisNum_rd hb_u_7 hb1 (by decide) c_9).2 (hr_9 ▸ c_10)
              refine lv_aload_n hx hb dX9_order_201 rfl (lv_at hl 0 rfl) ?_
              refine lv_bipush (v := (110 : Int32)) hx hb dX9_order_202 (by decide) ?_
              refine kx_calli (BX := fun En q u H => XF E t (C9_isNumber t u_9 (c) ((110 : Int32))).2.1 En q u H) (vx_runV (As := [.int ((110 : Int32))]) (rest := []) ⟨hx, hb, hml, hown, hts⟩ (cm9_isNumber l E hl9 t u_9  (c) ((110 : Int32)) hR n k mo b hb_u_9 hb1 (by decide)) (cwV 1 hts (lw_V q1418 q1420 qs20 q72 q1421) rfl rfl rfl (by decide +kernel) ⟨Nat.le_of_ble_eq_true rfl, Nat.le_of_ble_eq_true rfl⟩) (k_preV hs hm hS (mw.recv hs hm (mt_ne hR.z (by decide)) (ct8 hR.z) rfl)) rfl rfl hl.1 rfl (lv_room (Nat.le_of_ble_eq_true rfl)) dX9_order_204 ⟨Nat.le_of_ble_eq_true rfl, Nat.le_of_ble_eq_true rfl⟩) hS (fun En_11 ce_11 q_11 u9_11 H locs hp_11 hB_11 hS h1_11 h2_11 h3_11 => ?_) (fun r_11 u_11 H locs hw_11 hm_11 hS => ?_)
              · obtain ⟨c_11, hu9_11⟩ := hp_11
                replace hu9_11 := hu9_11.symm
                subst hu9_11
                subst hu_9
                subst hr_9
                subst hu_7
                subst hr_7
                subst hu_5
                subst hr_5
                subst hu_3
                subst hr_3
                subst hu_1
                subst hr_1
                have e9 : C9_order0 t M c  = _ := (if_pos c_2).trans ((if_pos c_4).trans ((if_pos c_6).trans ((if_pos c_8).trans ((if_pos c_9).trans ((if_pos c_10).trans ((if_neg c_11).trans (rfl)))))))
                exact kx_out (BX := fun En q u H => XF E t (C9_order0 t M c ).2.1 En q u H) (u := _) (fun x h => (hno x h).elim) hlocks (xf_leafv e9 c_11 hB_11).1 (xf_leafv e9 c_11 hB_11).2 hS h1_11 h2_11 h3_11 (Nat.le_of_ble_eq_true rfl) (Nat.le_of_ble_eq_true rfl)
              · obtain ⟨c_11, hr_11, hu_11⟩ := hw_11
                have hm := hm_11
                refine lv_if_ne (tgt := 240) hx hb dX9_order_207 (by decide) (fun c_12 => ?_) (fun c_12 => ?_)
                · refine lv_aload_n hx hb dX9_order_240 rfl (lv_at hl 0 rfl) ?_
                  refine lv_dup hx hb dX9_order_241 rfl ?_
                  refine gf_802 hx hb hts hown hs hm hR.z (hts _ q368) dX9_order_242 ?_
                  refine lv_iconst (v := (1 : Int32)) hx hb dX9_order_245 (by decide) ?_
                  refine lv_iadd hx hb dX9_order_246 ?_
                  refine pf_802 hx hb hts hown hs hm hS hR.z (hts _ q368) dX9_order_247 (fun H locs hm hS => ?_)
                  have hm : mw E t ((sI u_11 802 c ((gI u_11 802 c) + (1 : Int32)))) H := hm
                  subst hu_11
                  subst hr_11
                  subst hu_9
                  subst hr_9
                  subst hu_7
                  subst hr_7
                  subst hu_5
                  subst hr_5
                  subst hu_3
                  subst hr_3
                  subst hu_1
                  subst hr_1
                  refine vx_ret ?_
                  refine W.widen (k := 7) (n := 49) (Nat.le_of_ble_eq_true rfl) (Nat.le_of_ble_eq_true rfl) ?_
                  exact W.vret hx hb hr (fun t9 ht9 _ => ⟨⟨_, rfl, pp4v ((if_pos c_2).trans ((if_pos c_4).trans ((if_pos c_6).trans ((if_pos c_8).trans ((if_pos c_9).trans ((if_pos c_10).trans ((if_pos c_11).trans ((if_neg c_12).trans (rfl))))))))), hb9 ht9 hm⟩, hS.F ht9⟩) hS.2.2 dX9_order_250
                · have hb_u_11 : rd t u_11 c n k mo b := by rw [hu_11]; exact (cisNum_rd hb_u_9 hb1 (by decide) c_11).2 (hr_11 ▸ c_12)
                  refine lv_aload_n hx hb dX9_order_210 rfl (lv_at hl 0 rfl) ?_
                  refine lv_bipush (v := (112 : Int32)) hx hb dX9_order_211 (by decide) ?_
                  refine kx_callv (BX := fun En q u H => XF E t (C9_must t u_11 (c) ((112 : Int32))).2.1 En q u H) (vx_runV (As := [.int ((112 : Int32))]) (rest := []) ⟨hx, hb, hml, hown, hts⟩ (cm9_must l E hl9 t u_11  (c) ((112 : Int32)) hR n k mo b hb_u_11) (cwV 1 hts (lw_V q1410 q1412 qs18 q72 q1413) rfl rfl rfl (by decide +kernel) ⟨Nat.le_of_ble_eq_true rfl, Nat.le_of_ble_eq_true rfl⟩) (k_preV hs hm hS (mw.recv hs hm (mt_ne hR.z (by decide)) (ct8 hR.z) rfl)) rfl rfl hl.1 rfl (lv_room (Nat.le_of_ble_eq_true rfl)) dX9_order_213 ⟨Nat.le_of_ble_eq_true rfl, Nat.le_of_ble_eq_true rfl⟩) hS (fun En_13 ce_13 q_13 u9_13 H locs hp_13 hB_13 hS h1_13 h2_13 h3_13 => ?_) (fun u_13 H locs hw_13 hm_13 hS => ?_)
                  · obtain ⟨c_13, hu9_13⟩ := hp_13
                    replace hu9_13 := hu9_13.symm
                    subst hu9_13
                    subst hu_11
                    subst hr_11
                    subst hu_9
                    subst hr_9
                    subst hu_7
                    subst hr_7
                    subst hu_5
                    subst hr_5
                    subst hu_3
                    subst hr_3
                    subst hu_1
                    subst hr_1
                    have e9 : C9_order0 t M c  = _ := (if_pos c_2).trans ((if_pos c_4).trans ((if_pos c_6).trans ((if_pos c_8).trans ((if_pos c_9).trans ((if_pos c_10).trans ((if_pos c_11).trans ((if_pos c_12).trans ((if_neg c_13).trans (rfl)))))))))
                    exact kx_out (BX := fun En q u H => XF E t (C9_order0 t M c ).2.1 En q u H) (u := _) (fun x h => (hno x h).elim) hlocks (xf_leafv e9 c_13 hB_13).1 (xf_leafv e9 c_13 hB_13).2 hS h1_13 h2_13 h3_13 (Nat.le_of_ble_eq_true rfl) (Nat.le_of_ble_eq_true rfl)
                  · obtain ⟨c_13, hu_13⟩ := hw_13
                    have hm := hm_13
                    have hw_u_13 : rd t u_13 c n k mo 1 := by rw [hu_13]; exact cmust_rd hb_u_11 hb1 (by decide) c_13
                    refine lv_aload_n hx hb dX9_order_216 rfl (lv_at hl 0 rfl) ?_
                    refine gf_803 hx hb hts hown hs hm hR.z (hts _ q370) dX9_order_217 ?_
                    refine lv_aload_n hx hb dX9_order_220 rfl (lv_at hl 0 rfl) ?_
                    refine gf_802 hx hb hts hown hs hm hR.z (hts _ q368) dX9_order_221 ?_
                    refine lv_bipush (v := (112 : Int32)) hx hb dX9_order_224 (by decide) ?_
                    refine k_cast hx hb hs hm hS hR.2.1 (ix.at (B := 60) ((hw_u_13.mx).mono (by decide)) (by decide)) dX9_order_226 (fun H locs hm hS => ?_)
                    have hm : mw E t ((wI u_13 (c + 1) (upd (aI u_13 (c + 1)) ((gI u_13 802 c)).toNatClampNeg (vp_nar .char (112 : Int32))))) H := hm
                    refine lv_aload_n hx hb dX9_order_227 rfl (lv_at hl 0 rfl) ?_
                    refine gf_804 hx hb hts hown hs hm hR.z (hts _ q371) dX9_order_228 ?_
                    refine lv_aload_n hx hb dX9_order_231 rfl (lv_at hl 0 rfl) ?_
                    refine gf_802 hx hb hts hown hs hm hR.z (hts _ q368) dX9_order_232 ?_
                    refine lv_aload_n hx hb dX9_order_235 rfl (lv_at hl 0 rfl) ?_
                    refine kx_calli (BX := fun En q u H => XF E t (C9_number t (wI u_13 (c + 1) (upd (aI u_13 (c + 1)) ((gI u_13 802 c)).toNatClampNeg (vp_nar .char (112 : Int32)))) (c) ).2.1 En q u H) (vx_runV (As := []) (rest := [.int ((gI u_13 802 c)), .ref ((c + 2))]) ⟨hx, hb, hml, hown, hts⟩ (cm9_number l E hl9 t (wI u_13 (c + 1) (upd (aI u_13 (c + 1)) ((gI u_13 802 c)).toNatClampNeg (vp_nar .char (112 : Int32))))  (c)  hR n k mo 1 (show rd t (wI u_13 (c + 1) (upd (aI u_13 (c + 1)) ((gI u_13 802 c)).toNatClampNeg (vp_nar .char (112 : Int32)))) c n k mo 1 from hw_u_13)) (cwV 0 hts (lw_V q1414 q1416 qs19 q72 q1417) rfl rfl rfl (by decide +kernel) ⟨Nat.le_of_ble_eq_true rfl, Nat.le_of_ble_eq_true rfl⟩) (k_preV hs hm hS (mw.recv hs hm (mt_ne hR.z (by decide)) (ct8 hR.z) rfl)) rfl rfl hl.1 rfl (lv_room (Nat.le_of_ble_eq_true rfl)) dX9_order_236 ⟨Nat.le_of_ble_eq_true rfl, Nat.le_of_ble_eq_true rfl⟩) hS (fun En_14 ce_14 q_14 u9_14 H locs hp_14 hB_14 hS h1_14 h2_14 h3_14 => ?_) (fun r_14 u_14 H locs hw_14 hm_14 hS => ?_)
                    · obtain ⟨c_14, hu9_14⟩ := hp_14
                      replace hu9_14 := hu9_14.symm
                      subst hu9_14
                      subst hu_13
                      subst hu_11
                      subst hr_11
                      subst hu_9
                      subst hr_9
                      subst hu_7
                      subst hr_7
                      subst hu_5
                      subst hr_5
                      subst hu_3
                      subst hr_3
                      subst hu_1
                      subst hr_1
                      have e9 : C9_order0 t M c  = _ := (if_pos c_2).trans ((if_pos c_4).trans ((if_pos c_6).trans ((if_pos c_8).trans ((if_pos c_9).trans ((if_pos c_10).trans ((if_pos c_11).trans ((if_pos c_12).trans ((if_pos c_13).trans ((if_neg c_14).trans (rfl))))))))))
                      exact kx_out (BX := fun En q u H => XF E t (C9_order0 t M c ).2.1 En q u H) (u := _) (fun x h => (hno x h).elim) hlocks (xf_leafv e9 c_14 hB_14).1 (xf_leafv e9 c_14 hB_14).2 hS h1_14 h2_14 h3_14 (Nat.le_of_ble_eq_true rfl) (Nat.le_of_ble_eq_true rfl)
                    · obtain ⟨c_14, hr_14, hu_14⟩ := hw_14
                      have hm := hm_14
                      refine k_iast hx hb hs hm hS hR.2.2.1 (ix.at (B := 60) ((hw_u_13.mx).mono (by decide)) (by decide)) dX9_order_239 (fun H locs hm hS => ?_)
                      have hm : mw E t ((wI u_14 (c + 2) (upd (aI u_14 (c + 2)) ((gI u_13 802 c)).toNatClampNeg r_14))) H := hm
                      refine lv_aload_n hx hb dX9_order_240 rfl (lv_at hl 0 rfl) ?_
                      refine lv_dup hx hb dX9_order_241 rfl ?_
                      refine gf_802 hx hb hts hown hs hm hR.z (hts _ q368) dX9_order_242 ?_
                      refine lv_iconst (v := (1 : Int32)) hx hb dX9_order_245 (by decide) ?_
                      refine lv_iadd hx hb dX9_order_246 ?_
                      refine pf_802 hx hb hts hown hs hm hS hR.z (hts _ q368) dX9_order_247 (fun H locs hm hS => ?_)
                      have hm : mw E t ((sI (wI u_14 (c + 2) (upd (aI u_14 (c + 2)) ((gI u_13 802 c)).toNatClampNeg r_14)) 802 c ((gI u_14 802 c) + (1 : Int32)))) H := hm
                      subst hu_14
                      subst hr_14
                      subst hu_13
                      subst hu_11
                      subst hr_11
                      subst hu_9
                      subst hr_9
                      subst hu_7
                      subst hr_7
                      subst hu_5
                      subst hr_5
                      subst hu_3
                      subst hr_3
                      subst hu_1
                      subst hr_1
                      refine vx_ret ?_
                      refine W.widen (k := 7) (n := 49) (Nat.le_of_ble_eq_true rfl) (Nat.le_of_ble_eq_true rfl) ?_
                      exact W.vret hx hb hr (fun t9 ht9 _ => ⟨⟨_, rfl, pp4v ((if_pos c_2).trans ((if_pos c_4).trans ((if_pos c_6).trans ((if_pos c_8).trans ((if_pos c_9).trans ((if_pos c_10).trans ((if_pos c_11).trans ((if_pos c_12).trans ((if_pos c_13).trans ((if_pos c_14).trans (rfl))))))))))), hb9 ht9 hm⟩, hS.F ht9⟩) hS.2.2 dX9_order_250
        · have hw_u_7 : rd t u_7 c n k mo 1 := by rw [hu_7]; exact (cskip_rd hb_u_5 hb1 (by decide)).2 (hr_7 ▸ c_8)
          refine lv_aload_n hx hb dX9_order_178 rfl (lv_at hl 0 rfl) ?_
          refine gf_803 hx hb hts hown hs hm hR.z (hts _ q370) dX9_order_179 ?_
          refine lv_aload_n hx hb dX9_order_182 rfl (lv_at hl 0 rfl) ?_
          refine gf_802 hx hb hts hown hs hm hR.z (hts _ q368) dX9_order_183 ?_
          refine lv_bipush (v := (99 : Int32)) hx hb dX9_order_186 (by decide) ?_
          refine k_cast hx hb hs hm hS hR.2.1 (ix.at (B := 60) ((hw_u_7.mx).mono (by decide)) (by decide)) dX9_order_188 (fun H locs hm hS => ?_)
          have hm : mw E t ((wI u_7 (c + 1) (upd (aI u_7 (c + 1)) ((gI u_7 802 c)).toNatClampNeg (vp_nar .char (99 : Int32))))) H := hm
          refine lv_goto (tgt := 240) hx hb dX9_order_189 (by decide) ?_
          refine lv_aload_n hx hb dX9_order_240 rfl (lv_at hl 0 rfl) ?_
          refine lv_dup hx hb dX9_order_241 rfl ?_
          refine gf_802 hx hb hts hown hs hm hR.z (hts _ q368) dX9_order_242 ?_
          refine lv_iconst (v := (1 : Int32)) hx hb dX9_order_245 (by decide) ?_
          refine lv_iadd hx hb dX9_order_246 ?_
          refine pf_802 hx hb hts hown hs hm hS hR.z (hts _ q368) dX9_order_247 (fun H locs hm hS => ?_)
          have hm : mw E t ((sI (wI u_7 (c + 1) (upd (aI u_7 (c + 1)) ((gI u_7 802 c)).toNatClampNeg (vp_nar .char (99 : Int32)))) 802 c ((gI u_7 802 c) + (1 : Int32)))) H := hm
          subst hu_7
          subst hr_7
          subst hu_5
          subst hr_5
          subst hu_3
          subst hr_3
          subst hu_1
          subst hr_1
          refine vx_ret ?_
          refine W.widen (k := 7) (n := 49) (Nat.le_of_ble_eq_true rfl) (Nat.le_of_ble_eq_true rfl) ?_
          exact W.vret hx hb hr (fun t9 ht9 _ => ⟨⟨_, rfl, pp4v ((if_pos c_2).trans ((if_pos c_4).trans ((if_pos c_6).trans ((if_neg c_8).trans (rfl))))), hb9 ht9 hm⟩, hS.F ht9⟩) hS.2.2 dX9_order_250
      · have hw_u_5 : rd t u_5 c n k mo 1 := by rw [hu_5]; exact (cskip_rd hb_u_3 hb1 (by decide)).2 (hr_5 ▸ c_6)
        refine lv_aload_n hx hb dX9_order_100 rfl (lv_at hl 0 rfl) ?_
        refine gf_803 hx hb hts hown hs hm hR.z (hts _ q370) dX9_order_101 ?_
        refine lv_aload_n hx hb dX9_order_104 rfl (lv_at hl 0 rfl) ?_
        refine gf_802 hx hb hts hown hs hm hR.z (hts _ q368) dX9_order_105 ?_
        refine lv_bipush (v := (118 : Int32)) hx hb dX9_order_108 (by decide) ?_
        refine k_cast hx hb hs hm hS hR.2.1 (ix.at (B := 60) ((hw_u_5.mx).mono (by decide)) (by decide)) dX9_order_110 (fun H locs hm hS => ?_)
        have hm : mw E t ((wI u_5 (c + 1) (upd (aI u_5 (c + 1)) ((gI u_5 802 c)).toNatClampNeg (vp_nar .char (118 : Int32))))) H := hm
        refine lv_aload_n hx hb dX9_order_111 rfl (lv_at hl 0 rfl) ?_
        refine gf_804 hx hb hts hown hs hm hR.z (hts _ q371) dX9_order_112 ?_
        refine lv_aload_n hx hb dX9_order_115 rfl (lv_at hl 0 rfl) ?_
        refine gf_802 hx hb hts hown hs hm hR.z (hts _ q368) dX9_order_116 ?_
        refine lv_aload_n hx hb dX9_order_119 rfl (lv_at hl 0 rfl) ?_
        refine kx_calli (BX := fun En q u H => XF E t (C9_digit t (wI u_5 (c + 1) (upd (aI u_5 (c + 1)) ((gI u_5 802 c)).toNatClampNeg (vp_nar .char (118 : Int32)))) (c) ).2.1 En q u H) (vx_runV (As := []) (rest := [.int ((gI u_5 802 c)), .ref ((c + 2))]) ⟨hx, hb, hml, hown, hts⟩ (cm9_digit l E hl9 t (wI u_5 (c + 1) (upd (aI u_5 (c + 1)) ((gI u_5 802 c)).toNatClampNeg (vp_nar .char (118 : Int32))))  (c)  hR n k mo 1 (show rd t (wI u_5 (c + 1) (upd (aI u_5 (c + 1)) ((gI u_5 802 c)).toNatClampNeg (vp_nar .char (118 : Int32)))) c n k mo 1 from hw_u_5)) (cwV 0 hts (lw_V q1386 q1388 qs17 q72 q1389) rfl rfl rfl (by decide +kernel) ⟨Nat.le_of_ble_eq_true rfl, Nat.le_of_ble_eq_true rfl⟩) (k_preV hs hm hS (mw.recv hs hm (mt_ne hR.z (by decide)) (ct8 hR.z) rfl)) rfl rfl hl.1 rfl (lv_room (Nat.le_of_ble_eq_true rfl)) dX9_order_120 ⟨Nat.le_of_ble_eq_true rfl, Nat.le_of_ble_eq_true rfl⟩) hS (fun En_15 ce_15 q_15 u9_15 H locs hp_15 hB_15 hS h1_15 h2_15 h3_15 => ?_) (fun r_15 u_15 H locs hw_15 hm_15 hS => ?_)
        · obtain ⟨c_15, hu9_15⟩ := hp_15
          replace hu9_15 := hu9_15.symm
          subst hu9_15
          subst hu_5
          subst hr_5
          subst hu_3
          subst hr_3
          subst hu_1
          subst hr_1
          have e9 : C9_order0 t M c  = _ := (if_pos c_2).trans ((if_pos c_4).trans ((if_neg c_6).trans ((if_neg c_15).trans (rfl))))
          exact kx_out (BX := fun En q u H => XF E t (C9_order0 t M c ).2.1 En q u H) (u := _) (fun x h => (hno x h).elim) hlocks (xf_leafv e9 c_15 hB_15).1 (xf_leafv e9 c_15 hB_15).2 hS h1_15 h2_15 h3_15 (Nat.le_of_ble_eq_true rfl) (Nat.le_of_ble_eq_true rfl)
        · obtain ⟨c_15, hr_15, hu_15⟩ := hw_15
          have hm := hm_15
          refine k_iast hx hb hs hm hS hR.2.2.1 (ix.at (B := 60) ((hw_u_5.mx).mono (by decide)) (by decide)) dX9_order_123 (fun H locs hm hS => ?_)
          have hm : mw E t ((wI u_15 (c + 2) (upd (aI u_15 (c + 2)) ((gI u_5 802 c)).toNatClampNeg r_15))) H := hm
          have hw_u_15 : rd t u_15 c n k mo 1 := by rw [hu_15]; exact cdigit_rd (show rd t _ c n k mo 1 from hw_u_5) c_15
          refine lv_aload_n hx hb dX9_order_124 rfl (lv_at hl 0 rfl) ?_
          refine gf_805 hx hb hts hown hs hm hR.z (hts _ q372) dX9_order_125 ?_
          refine lv_aload_n hx hb dX9_order_128 rfl (lv_at hl 0 rfl) ?_
          refine gf_802 hx hb hts hown hs hm hR.z (hts _ q368) dX9_order_129 ?_
          refine lv_aload_n hx hb dX9_order_132 rfl (lv_at hl 0 rfl) ?_
          refine lv_bipush (v := (45 : Int32)) hx hb dX9_order_133 (by decide) ?_
          refine k_calli (va_runV (As := [.int ((45 : Int32))]) (rest := [.int ((gI u_15 802 c)), .ref ((c + 3))]) ⟨hx, hb, hml, hown, hts⟩ (cm9_skip l E t (wI u_15 (c + 2) (upd (aI u_15 (c + 2)) ((gI u_5 802 c)).toNatClampNeg r_15))  (c) ((45 : Int32)) hR n k mo 1 (show rd t (wI u_15 (c + 2) (upd (aI u_15 (c + 2)) ((gI u_5 802 c)).toNatClampNeg r_15)) c n k mo 1 from hw_u_15)) (cwV 1 hts (lw_V q1365 q1367 qs15 q72 q1368) rfl rfl rfl (by decide +kernel) ⟨Nat.le_of_ble_eq_true rfl, Nat.le_of_ble_eq_true rfl⟩) (k_preV hs hm hS (mw.recv hs hm (mt_ne hR.z (by decide)) (ct8 hR.z) rfl)) rfl rfl hl.1 rfl (lv_room (Nat.le_of_ble_eq_true rfl)) dX9_order_135 ⟨Nat.le_of_ble_eq_true rfl, Nat.le_of_ble_eq_true rfl⟩) hS (fun r_16 u_16 H locs hw_16 hm_16 hS => ?_)
          obtain ⟨hr_16, hu_16⟩ := hw_16
          have hm := hm_16
          have hw_u_16 : rd t u_16 c n k mo 1 := by rw [hu_16]; exact (cskip_rd (b := 1) (x := (45 : Int32)) (M := wI u_15 (c + 2) (upd (aI u_15 (c + 2)) ((gI u_5 802 c)).toNatClampNeg r_15)) hw_u_15 (by decide) (by decide)).1
          refine k_join (fun (x18 : Int32) H locs ls => x18 = (if r_16 = 0 then (1 : Int32) else (0 : Int32)) ∧ mw E t (u_16) H ∧ va_S (eA E) s.heap H locs ∧ lv_has ls 1 [(0, .ref (c))]) (fun (x18 : Int32) ls => F0 m 146 ls [.int (x18), .int ((gI u_15 802 c)), .ref ((c + 3))]) (fun x18 H locs ls hJ => ?_) (fun J18 => ?_)
          · obtain ⟨hX18, hm, hS, hl⟩ := hJ
            refine k_iast hx hb hs hm hS hR.2.2.2.1 (ix.at (B := 60) ((hw_u_15.mx).mono (by decide)) (by decide)) dX9_order_146 (fun H locs hm hS => ?_)
            have hm : mw E t ((wI u_16 (c + 3) (upd (aI u_16 (c + 3)) ((gI u_15 802 c)).toNatClampNeg x18))) H := hm
            refine lv_aload_n hx hb dX9_order_147 rfl (lv_at hl 0 rfl) ?_
            refine gf_805 hx hb hts hown hs hm hR.z (hts _ q372) dX9_order_148 ?_
            refine lv_aload_n hx hb dX9_order_151 rfl (lv_at hl 0 rfl) ?_
            refine gf_802 hx hb hts hown hs hm hR.z (hts _ q368) dX9_order_152 ?_
            refine k_iald hx hb hs hm hR.2.2.2.1 (ix.at (B := 60) ((hw_u_16.mx).mono (by decide)) (by decide)) dX9_order_155 ?_
            rw [show aI (wI u_16 (c + 3) (upd (aI u_16 (c + 3)) ((gI u_15 802 c)).toNatClampNeg x18)) (c + 3) = (upd (aI u_16 (c + 3)) ((gI u_15 802 c)).toNatClampNeg x18) from (show aI (wI u_16 (c + 3) (upd (aI u_16 (c + 3)) ((gI u_15 802 c)).toNatClampNeg x18)) (c + 3) = (upd (aI u_16 (c + 3)) ((gI u_15 802 c)).toNatClampNeg x18) from m1_at _ _ _)]
            refine lv_iconst (v := (1 : Int32)) hx hb dX9_order_156 (by decide) ?_
            refine lv_icmp_ne (tgt := 240) hx hb dX9_order_157 (by decide) (fun c_19 => ?_) (fun c_19 => ?_)
            · refine lv_aload_n hx hb dX9_order_240 rfl (lv_at hl 0 rfl) ?_
              refine lv_dup hx hb dX9_order_241 rfl ?_
              refine gf_802 hx hb hts hown hs hm hR.z (hts _ q368) dX9_order_242 ?_
              refine lv_iconst (v := (1 : Int32)) hx hb dX9_order_245 (by decide) ?_
              refine lv_iadd hx hb dX9_order_246 ?_
              refine pf_802 hx hb hts hown hs hm hS hR.z (hts _ q368) dX9_order_247 (fun H locs hm hS => ?_)
              have hm : mw E t ((sI (wI u_16 (c + 3) (upd (aI u_16 (c + 3)) ((gI u_15 802 c)).toNatClampNeg x18)) 802 c ((gI u_16 802 c) + (1 : Int32)))) H := hm
              subst hX18
              subst hu_16
              subst hr_16
              subst hu_15
              subst hr_15
              subst hu_5
              subst hr_5
              subst hu_3
              subst hr_3
              subst hu_1
              subst hr_1
              refine vx_ret ?_
              refine W.widen (k := 7) (n := 49) (Nat.le_of_ble_eq_true rfl) (Nat.le_of_ble_eq_true rfl) ?_
              exact W.vret hx hb hr (fun t9 ht9 _ => ⟨⟨_, rfl, pp4v ((if_pos c_2).trans ((if_pos c_4).trans ((if_neg c_6).trans ((if_pos c_15).trans ((if_neg c_19).trans (rfl)))))), hb9 ht9 hm⟩, hS.F ht9⟩) hS.2.2 dX9_order_250
            · refine lv_aload_n hx hb dX9_order_160 rfl (lv_at hl 0 rfl) ?_
              refine lv_bipush (v := (43 : Int32)) hx hb dX9_order_161 (by decide) ?_
              refine kx_callv (BX := fun En q u H => XF E t (C9_must t (wI u_16 (c + 3) (upd (aI u_16 (c + 3)) ((gI u_15 802 c)).toNatClampNeg x18)) (c) ((43 : Int32))).2.1 En q u H) (vx_runV (As := [.int ((43 : Int32))]) (rest := []) ⟨hx, hb, hml, hown, hts⟩ (cm9_must l E hl9 t (wI u_16 (c + 3) (upd (aI u_16 (c + 3)) ((gI u_15 802 c)).toNatClampNeg x18))  (c) ((43 : Int32)) hR n k mo 1 (show rd t (wI u_16 (c + 3) (upd (aI u_16 (c + 3)) ((gI u_15 802 c)).toNatClampNeg x18)) c n k mo 1 from hw_u_16)) (cwV 1 hts (lw_V q1410 q1412 qs18 q72 q1413) rfl rfl rfl (by decide +kernel) ⟨Nat.le_of_ble_eq_true rfl, Nat.le_of_ble_eq_true rfl⟩) (k_preV hs hm hS (mw.recv hs hm (mt_ne hR.z (by decide)) (ct8 hR.z) rfl)) rfl rfl hl.1 rfl (lv_room (Nat.le_of_ble_eq_true rfl)) dX9_order_163 ⟨Nat.le_of_ble_eq_true rfl, Nat.le_of_ble_eq_true rfl⟩) hS (fun En_20 ce_20 q_20 u9_20 H locs hp_20 hB_20 hS h1_20 h2_20 h3_20 => ?_) (fun u_20 H locs hw_20 hm_20 hS => ?_)
              · obtain ⟨c_20, hu9_20⟩ := hp_20
                replace hu9_20 := hu9_20.symm
                subst hu9_20
                subst hX18
                subst hu_16
                subst hr_16
                subst hu_15
                subst hr_15
                subst hu_5
                subst hr_5
                subst hu_3
                subst hr_3
                subst hu_1
                subst hr_1
                have e9 : C9_order0 t M c  = _ := (if_pos c_2).trans ((if_pos c_4).trans ((if_neg c_6).trans ((if_pos c_15).trans ((if_pos c_19).trans ((if_neg c_20).trans (rfl))))))
                exact kx_out (BX := fun En q u H => XF E t (C9_order0 t M c ).2.1 En q u H) (u := _) (fun x h => (hno x h).elim) hlocks (xf_leafv e9 c_20 hB_20).1 (xf_leafv e9 c_20 hB_20).2 hS h1_20 h2_20 h3_20 (Nat.le_of_ble_eq_true rfl) (Nat.le_of_ble_eq_true rfl)
              · obtain ⟨c_20, hu_20⟩ := hw_20
                have hm := hm_20
                refine lv_goto (tgt := 240) hx hb dX9_order_166 (by decide) ?_
                refine lv_aload_n hx hb dX9_order_240 rfl (lv_at hl 0 rfl) ?_
                refine lv_dup hx hb dX9_order_241 rfl ?_
                refine gf_802 hx hb hts hown hs hm hR.z (hts _ q368) dX9_order_242 ?_
                refine lv_iconst (v := (1 : Int32)) hx hb dX9_order_245 (by decide) ?_
                refine lv_iadd hx hb dX9_order_246 ?_
                refine pf_802 hx hb hts hown hs hm hS hR.z (hts _ q368) dX9_order_247 (fun H locs hm hS => ?_)
                have hm : mw E t ((sI u_20 802 c ((gI u_20 802 c) + (1 : Int32)))) H := hm
                subst hu_20
                subst hX18
                subst hu_16
                subst hr_16
                subst hu_15
                subst hr_15
                subst hu_5
                subst hr_5
                subst hu_3
                subst hr_3
                subst hu_1
                subst hr_1
                refine vx_ret ?_
                refine W.widen (k := 7) (n := 49) (Nat.le_of_ble_eq_true rfl) (Nat.le_of_ble_eq_true rfl) ?_
                exact W.vret hx hb hr (fun t9 ht9 _ => ⟨⟨_, rfl, pp4v ((if_pos c_2).trans ((if_pos c_4).trans ((if_neg c_6).trans ((if_pos c_15).trans ((if_pos c_19).trans ((if_pos c_20).trans (rfl))))))), hb9 ht9 hm⟩, hS.F ht9⟩) hS.2.2 dX9_order_250
          · refine lv_if_eq (tgt := 145) hx hb dX9_order_138 (by decide) (fun c_17 => ?_) (fun c_17 => ?_)
            · refine lv_iconst (v := (1 : Int32)) hx hb dX9_order_145 (by decide) ?_
              exact J18 ((1 : Int32)) _ _ _ ⟨((if_pos c_17).trans (rfl)).symm, hm, hS, lv_sub hl [0] rfl⟩
            · refine lv_iconst (v := (0 : Int32)) hx hb dX9_order_141 (by decide) ?_
              refine lv_goto (tgt := 146) hx hb dX9_order_142 (by decide) ?_
              exact J18 ((0 : Int32)) _ _ _ ⟨((if_neg c_17).trans (rfl)).symm, hm, hS, lv_sub hl [0] rfl⟩
    · have hw_u_3 : rd t u_3 c n k mo 1 := by rw [hu_3]; exact (cskip_rd hb_u_1 hb1 (by decide)).2 (hr_3 ▸ c_4)
      refine lv_aload_n hx hb dX9_order_64 rfl (lv_at hl 0 rfl) ?_
      refine gf_803 hx hb hts hown hs hm hR.z (hts _ q370) dX9_order_65 ?_
      refine lv_aload_n hx hb dX9_order_68 rfl (lv_at hl 0 rfl) ?_
      refine gf_802 hx hb hts hown hs hm hR.z (hts _ q368) dX9_order_69 ?_
      refine lv_bipush (v := (114 : Int32)) hx hb dX9_order_72 (by decide) ?_
      refine k_cast hx hb hs hm hS hR.2.1 (ix.at (B := 60) ((hw_u_3.mx).mono (by decide)) (by decide)) dX9_order_74 (fun H locs hm hS => ?_)
      have hm : mw E t ((wI u_3 (c + 1) (upd (aI u_3 (c + 1)) ((gI u_3 802 c)).toNatClampNeg (vp_nar .char (114 : Int32))))) H := hm
      refine lv_aload_n hx hb dX9_order_75 rfl (lv_at hl 0 rfl) ?_
      refine gf_804 hx hb hts hown hs hm hR.z (hts _ q371) dX9_order_76 ?_
      refine lv_aload_n hx hb dX9_order_79 rfl (lv_at hl 0 rfl) ?_
      refine gf_802 hx hb hts hown hs hm hR.z (hts _ q368) dX9_order_80 ?_
      refine lv_aload_n hx hb dX9_order_83 rfl (lv_at hl 0 rfl) ?_
      refine kx_calli (BX := fun En q u H => XF E t (C9_digit t (wI u_3 (c + 1) (upd (aI u_3 (c + 1)) ((gI u_3 802 c)).toNatClampNeg (vp_nar .char (114 : Int32)))) (c) ).2.1 En q u H) (vx_runV (As := []) (rest := [.int ((gI u_3 802 c)), .ref ((c + 2))]) ⟨hx, hb, hml, hown, hts⟩ (cm9_digit l E hl9 t (wI u_3 (c + 1) (upd (aI u_3 (c + 1)) ((gI u_3 802 c)).toNatClampNeg (vp_nar .char (114 : Int32))))  (c)  hR n k mo 1 (show rd t (wI u_3 (c + 1) (upd (aI u_3 (c + 1)) ((gI u_3 802 c)).toNatClampNeg (vp_nar .char (114 : Int32)))) c n k mo 1 from hw_u_3)) (cwV 0 hts (lw_V q1386 q1388 qs17 q72 q1389) rfl rfl rfl (by decide +kernel) ⟨Nat.le_of_ble_eq_true rfl, Nat.le_of_ble_eq_true rfl⟩) (k_preV hs hm hS (mw.recv hs hm (mt_ne hR.z (by decide)) (ct8 hR.z) rfl)) rfl rfl hl.1 rfl (lv_room (Nat.le_of_ble_eq_true rfl)) dX9_order_84 ⟨Nat.le_of_ble_eq_true rfl, Nat.le_of_ble_eq_true rfl⟩) hS (fun En_21 ce_21 q_21 u9_21 H locs hp_21 hB_21 hS h1_21 h2_21 h3_21 => ?_) (fun r_21 u_21 H locs hw_21 hm_21 hS => ?_)
      · obtain ⟨c_21, hu9_21⟩ := hp_21
        replace hu9_21 := hu9_21.symm
        subst hu9_21
        subst hu_3
        subst hr_3
        subst hu_1
        subst hr_1
        have e9 : C9_order0 t M c  = _ := (if_pos c_2).trans ((if_neg c_4).trans ((if_neg c_21).trans (rfl)))
        exact kx_out (BX := fun En q u H => XF E t (C9_order0 t M c ).2.1 En q u H) (u := _) (fun x h => (hno x h).elim) hlocks (xf_leafv e9 c_21 hB_21).1 (xf_leafv e9 c_21 hB_21).2 hS h1_21 h2_21 h3_21 (Nat.le_of_ble_eq_true rfl) (Nat.le_of_ble_eq_true rfl)
      · obtain ⟨c_21, hr_21, hu_21⟩ := hw_21
        have hm := hm_21
        refine k_iast hx hb hs hm hS hR.2.2.1 (ix.at (B := 60) ((hw_u_3.mx).mono (by decide)) (by decide)) dX9_order_87 (fun H locs hm hS => ?_)
        have hm : mw E t ((wI u_21 (c + 2) (upd (aI u_21 (c + 2)) ((gI u_3 802 c)).toNatClampNeg r_21))) H := hm
        refine lv_goto (tgt := 240) hx hb dX9_order_88 (by decide) ?_
        refine lv_aload_n hx hb dX9_order_240 rfl (lv_at hl 0 rfl) ?_
        refine lv_dup hx hb dX9_order_241 rfl ?_
        refine gf_802 hx hb hts hown hs hm hR.z (hts _ q368) dX9_order_242 ?_
        refine lv_iconst (v := (1 : Int32)) hx hb dX9_order_245 (by decide) ?_
        refine lv_iadd hx hb dX9_order_246 ?_
        refine pf_802 hx hb hts hown hs hm hS hR.z (hts _ q368) dX9_order_247 (fun H locs hm hS => ?_)
        have hm : mw E t ((sI (wI u_21 (c + 2) (upd (aI u_21 (c + 2)) ((gI u_3 802 c)).toNatClampNeg r_21)) 802 c ((gI u_21 802 c) + (1 : Int32)))) H := hm
        subst hu_21
        subst hr_21
        subst hu_3
        subst hr_3
        subst hu_1
        subst hr_1
        refine vx_ret ?_
        refine W.widen (k := 7) (n := 49) (Nat.le_of_ble_eq_true rfl) (Nat.le_of_ble_eq_true rfl) ?_
        exact W.vret hx hb hr (fun t9 ht9 _ => ⟨⟨_, rfl, pp4v ((if_pos c_2).trans ((if_neg c_4).trans ((if_pos c_21).trans (rfl)))), hb9 ht9 hm⟩, hS.F ht9⟩) hS.2.2 dX9_order_250
  · have hw_u_1 : rd t u_1 c n k mo 1 := by rw [hu_1]; exact (cskip_rd hv hb1 (by decide)).2 (hr_1 ▸ c_2)
    refine lv_aload_n hx hb dX9_order_9 rfl (lv_at hl 0 rfl) ?_
    refine gf_803 hx hb hts hown hs hm hR.z (hts _ q370) dX9_order_10 ?_
    refine lv_aload_n hx hb dX9_order_13 rfl (lv_at hl 0 rfl) ?_
    refine gf_802 hx hb hts hown hs hm hR.z (hts _ q368) dX9_order_14 ?_
    refine lv_bipush (v := (100 : Int32)) hx hb dX9_order_17 (by decide) ?_
    refine k_cast hx hb hs hm hS hR.2.1 (ix.at (B := 60) ((hw_u_1.mx).mono (by decide)) (by decide)) dX9_order_19 (fun H locs hm hS => ?_)
    have hm : mw E t ((wI u_1 (c + 1) (upd (aI u_1 (c + 1)) ((gI u_1 802 c)).toNatClampNeg (vp_nar .char (100 : Int32))))) H := hm
    refine lv_aload_n hx hb dX9_order_20 rfl (lv_at hl 0 rfl) ?_
    refine gf_804 hx hb hts hown hs hm hR.z (hts _ q371) dX9_order_21 ?_
    refine lv_aload_n hx hb dX9_order_24 rfl (lv_at hl 0 rfl) ?_
    refine gf_802 hx hb hts hown hs hm hR.z (hts _ q368) dX9_order_25 ?_
    refine lv_aload_n hx hb dX9_order_28 rfl (lv_at hl 0 rfl) ?_
    refine kx_calli (BX := fun En q u H => XF E t (C9_digit t (wI u_1 (c + 1) (upd (aI u_1 (c + 1)) ((gI u_1 802 c)).toNatClampNeg (vp_nar .char (100 : Int32)))) (c) ).2.1 En q u H) (vx_runV (As := []) (rest := [.int ((gI u_1 802 c)), .ref ((c + 2))]) ⟨hx, hb, hml, hown, hts⟩ (cm9_digit l E hl9 t (wI u_1 (c + 1) (upd (aI u_1 (c + 1)) ((gI u_1 802 c)).toNatClampNeg (vp_nar .char (100 : Int32))))  (c)  hR n k mo 1 (show rd t (wI u_1 (c + 1) (upd (aI u_1 (c + 1)) ((gI u_1 802 c)).toNatClampNeg (vp_nar .char (100 : Int32)))) c n k mo 1 from hw_u_1)) (cwV 0 hts (lw_V q1386 q1388 qs17 q72 q1389) rfl rfl rfl (by decide +kernel) ⟨Nat.le_of_ble_eq_true rfl, Nat.le_of_ble_eq_true rfl⟩) (k_preV hs hm hS (mw.recv hs hm (mt_ne hR.z (by decide)) (ct8 hR.z) rfl)) rfl rfl hl.1 rfl (lv_room (Nat.le_of_ble_eq_true rfl)) dX9_order_29 ⟨Nat.le_of_ble_eq_true rfl, Nat.le_of_ble_eq_true rfl⟩) hS (fun En_22 ce_22 q_22 u9_22 H locs hp_22 hB_22 hS h1_22 h2_22 h3_22 => ?_) (fun r_22 u_22 H locs hw_22 hm_22 hS => ?_)
    · obtain ⟨c_22, hu9_22⟩ := hp_22
      replace hu9_22 := hu9_22.symm
      subst hu9_22
      subst hu_1
      subst hr_1
      have e9 : C9_order0 t M c  = _ := (if_neg c_2).trans ((if_neg c_22).trans (rfl))
      exact kx_out (BX := fun En q u H => XF E t (C9_order0 t M c ).2.1 En q u H) (u := _) (fun x h => (hno x h).elim) hlocks (xf_leafv e9 c_22 hB_22).1 (xf_leafv e9 c_22 hB_22).2 hS h1_22 h2_22 h3_22 (Nat.le_of_ble_eq_true rfl) (Nat.le_of_ble_eq_true rfl)
    · obtain ⟨c_22, hr_22, hu_22⟩ := hw_22
      have hm := hm_22
      have hw_u_22 : rd t u_22 c n k mo 1 := by rw [hu_22]; exact cdigit_rd (show rd t _ c n k mo 1 from hw_u_1) c_22
      refine k_iast hx hb hs hm hS hR.2.2.1 (ix.at (B := 60) ((hw_u_1.mx).mono (by decide)) (by decide)) dX9_order_32 (fun H locs hm hS => ?_)
      have hm : mw E t ((wI u_22 (c + 2) (upd (aI u_22 (c + 2)) ((gI u_1 802 c)).toNatClampNeg r_22))) H := hm
      refine lv_aload_n hx hb dX9_order_33 rfl (lv_at hl 0 rfl) ?_
      refine lv_bipush (v := (64 : Int32)) hx hb dX9_order_34 (by decide) ?_
      refine kx_callv (BX := fun En q u H => XF E t (C9_must t (wI u_22 (c + 2) (upd (aI u_22 (c + 2)) ((gI u_1 802 c)).toNatClampNeg r_22)) (c) ((64 : Int32))).2.1 En q u H) (vx_runV (As := [.int ((64 : Int32))]) (rest := []) ⟨hx, hb, hml, hown, hts⟩ (cm9_must l E hl9 t (wI u_22 (c + 2) (upd (aI u_22 (c + 2)) ((gI u_1 802 c)).toNatClampNeg r_22))  (c) ((64 : Int32)) hR n k mo 1 (show rd t (wI u_22 (c + 2) (upd (aI u_22 (c + 2)) ((gI u_1 802 c)).toNatClampNeg r_22)) c n k mo 1 from hw_u_22)) (cwV 1 hts (lw_V q1410 q1412 qs18 q72 q1413) rfl rfl rfl (by decide +kernel) ⟨Nat.le_of_ble_eq_true rfl, Nat.le_of_ble_eq_true rfl⟩) (k_preV hs hm hS (mw.recv hs hm (mt_ne hR.z (by decide)) (ct8 hR.z) rfl)) rfl rfl hl.1 rfl (lv_room (Nat.le_of_ble_eq_true rfl)) dX9_order_36 ⟨Nat.le_of_ble_eq_true rfl, Nat.le_of_ble_eq_true rfl⟩) hS (fun En_23 ce_23 q_23 u9_23 H locs hp_23 hB_23 hS h1_23 h2_23 h3_23 => ?_) (fun u_23 H locs hw_23 hm_23 hS => ?_)
      · obtain ⟨c_23, hu9_23⟩ := hp_23
        replace hu9_23 := hu9_23.symm
        subst hu9_23
        subst hu_22
        subst hr_22
        subst hu_1
        subst hr_1
        have e9 : C9_order0 t M c  = _ := (if_neg c_2).trans ((if_pos c_22).trans ((if_neg c_23).trans (rfl)))
        exact kx_out (BX := fun En q u H => XF E t (C9_order0 t M c ).2.1 En q u H) (u := _) (fun x h => (hno x h).elim) hlocks (xf_leafv e9 c_23 hB_23).1 (xf_leafv e9 c_23 hB_23).2 hS h1_23 h2_23 h3_23 (Nat.le_of_ble_eq_true rfl) (Nat.le_of_ble_eq_true rfl)
      · obtain ⟨c_23, hu_23⟩ := hw_23
        have hm := hm_23
        have hw_u_23 : rd t u_23 c n k mo 1 := by rw [hu_23]; exact cmust_rd (show rd t _ c n k mo 1 from hw_u_22) (by decide) (by decide) c_23
        refine lv_aload_n hx hb dX9_order_39 rfl (lv_at hl 0 rfl) ?_
        refine gf_805 hx hb hts hown hs hm hR.z (hts _ q372) dX9_order_40 ?_
        refine lv_aload_n hx hb dX9_order_43 rfl (lv_at hl 0 rfl) ?_
        refine gf_802 hx hb hts hown hs hm hR.z (hts _ q368) dX9_order_44 ?_
        refine lv_aload_n hx hb dX9_order_47 rfl (lv_at hl 0 rfl) ?_
        refine kx_calli (BX := fun En q u H => XF E t (C9_number t u_23 (c) ).2.1 En q u H) (vx_runV (As := []) (rest := [.int ((gI u_23 802 c)), .ref ((c + 3))]) ⟨hx, hb, hml, hown, hts⟩ (cm9_number l E hl9 t u_23  (c)  hR n k mo 1 (show rd t u_23 c n k mo 1 from hw_u_23)) (cwV 0 hts (lw_V q1414 q1416 qs19 q72 q1417) rfl rfl rfl (by decide +kernel) ⟨Nat.le_of_ble_eq_true rfl, Nat.le_of_ble_eq_true rfl⟩) (k_preV hs hm hS (mw.recv hs hm (mt_ne hR.z (by decide)) (ct8 hR.z) rfl)) rfl rfl hl.1 rfl (lv_room (Nat.le_of_ble_eq_true rfl)) dX9_order_48 ⟨Nat.le_of_ble_eq_true rfl, Nat.le_of_ble_eq_true rfl⟩) hS (fun En_24 ce_24 q_24 u9_24 H locs hp_24 hB_24 hS h1_24 h2_24 h3_24 => ?_) (fun r_24 u_24 H locs hw_24 hm_24 hS => ?_)
        · obtain ⟨c_24, hu9_24⟩ := hp_24
          replace hu9_24 := hu9_24.symm
          subst hu9_24
          subst hu_23
          subst hu_22
          subst hr_22
          subst hu_1
          subst hr_1
          have e9 : C9_order0 t M c  = _ := (if_neg c_2).trans ((if_pos c_22).trans ((if_pos c_23).trans ((if_neg c_24).trans (rfl))))
          exact kx_out (BX := fun En q u H => XF E t (C9_order0 t M c ).2.1 En q u H) (u := _) (fun x h => (hno x h).elim) hlocks (xf_leafv e9 c_24 hB_24).1 (xf_leafv e9 c_24 hB_24).2 hS h1_24 h2_24 h3_24 (Nat.le_of_ble_eq_true rfl) (Nat.le_of_ble_eq_true rfl)
        · obtain ⟨c_24, hr_24, hu_24⟩ := hw_24
          have hm := hm_24
          refine k_iast hx hb hs hm hS hR.2.2.2.1 (ix.at (B := 60) ((hw_u_23.mx).mono (by decide)) (by decide)) dX9_order_51 (fun H locs hm hS => ?_)
          have hm : mw E t ((wI u_24 (c + 3) (upd (aI u_24 (c + 3)) ((gI u_23 802 c)).toNatClampNeg r_24))) H := hm
          refine lv_goto (tgt := 240) hx hb dX9_order_52 (by decide) ?_
          refine lv_aload_n hx hb dX9_order_240 rfl (lv_at hl 0 rfl) ?_
          refine lv_dup hx hb dX9_order_241 rfl ?_
          refine gf_802 hx hb hts hown hs hm hR.z (hts _ q368) dX9_order_242 ?_
          refine lv_iconst (v := (1 : Int32)) hx hb dX9_order_245 (by decide) ?_
          refine lv_iadd hx hb dX9_order_246 ?_
          refine pf_802 hx hb hts hown hs hm hS hR.z (hts _ q368) dX9_order_247 (fun H locs hm hS => ?_)
          have hm : mw E t ((sI (wI u_24 (c + 3) (upd (aI u_24 (c + 3)) ((gI u_23 802 c)).toNatClampNeg r_24)) 802 c ((gI u_24 802 c) + (1 : Int32)))) H := hm
          subst hu_24
          subst hr_24
          subst hu_23
          subst hu_22
          subst hr_22
          subst hu_1
          subst hr_1
          refine vx_ret ?_
          refine W.widen (k := 7) (n := 49) (Nat.le_of_ble_eq_true rfl) (Nat.le_of_ble_eq_true rfl) ?_
          exact W.vret hx hb hr (fun t9 ht9 _ => ⟨⟨_, rfl, pp4v ((if_neg c_2).trans ((if_pos c_22).trans ((if_pos c_23).trans ((if_pos c_24).trans (rfl))))), hb9 ht9 hm⟩, hS.F ht9⟩) hS.2.2 dX9_order_250
def C9_order (t : mt) (M : mm) (c : Nat)   : Int32 × Int32 × mm := irr (fun _ => C9_order0 t M c) 0
theorem C9_order_eq (t : mt) (M : mm) (c : Nat)   : C9_order t M c = C9_order0 t M c := by
  unfold C9_order
  exact irr_0 _
theorem cm9_order (l : Launch) (E : mE) (hl9 : l.stackTraces = false) (t : mt) (M : mm) (c : Nat)  (hR : layR t c) (n k mo b : Nat) (hv : rd t M c n k mo b) (hb1 : b ≤ 1) : vx_Met l yX9_order (ws_ yX9_order cX9_order 1 none) ({ frames := 10, cells := 7, slots := 49, locals := 203 }) (va_Pc [.ref c] (wP E t M)) (va_Qv (fun (u : mm) => (C9_order t M c ).1 = 0 ∧ u = (C9_order t M c ).2.2) (fun u U => mw E t u U.heap) (eA E)) (vx_X (fun (u : mm) => ¬ (C9_order t M c ).1 = 0 ∧ u = (C9_order t M c ).2.2) (fun En q u U => XF E t (C9_order t M c ).2.1 En q u U.heap) (eA E)) 7 49 (eA E) := by
  rw [C9_order_eq]
  exact cm9_order0 l E hl9 t M c hR n k mo b hv hb1
theorem corder_rd {t : mt} {M : mm} {c n k m b : Nat} (h : rd t M c n k m b) (hb : b ≤ 1) (h0 : (C9_order t M c).1 = 0) : rd t (C9_order t M c).2.2 c n k (m + 1) 0 := by
  rw [C9_order_eq] at h0 ⊢
  unfold C9_order0 at h0 ⊢
  dsimp only at h0 ⊢
  have s1 := cskip_rd h hb (x := 100) (by decide)
  by_cases e1 : (C9_skip t M c 100).1 = 0
  · rw [if_pos e1] at h0 ⊢
    have f1 := s1.1
    generalize (C9_skip t M c 100).2 = u1 at h0 f1 ⊢
    have s2 := cskip_rd f1 hb (x := 114) (by decide)
    by_cases e2 : (C9_skip t u1 c 114).1 = 0
    · rw [if_pos e2] at h0 ⊢
      have f2 := s2.1
      generalize (C9_skip t u1 c 114).2 = u2 at h0 f2 ⊢
      have s3 := cskip_rd f2 hb (x := 118) (by decide)
      by_cases e3 : (C9_skip t u2 c 118).1 = 0
      · rw [if_pos e3] at h0 ⊢
        have f3 := s3.1
        generalize (C9_skip t u2 c 118).2 = u3 at h0 f3 ⊢
        have s4 := cskip_rd f3 hb (x := 99) (by decide)
        by_cases e4 : (C9_skip t u3 c 99).1 = 0
        · rw [if_pos e4] at h0 ⊢
          have f4 := s4.1
          generalize (C9_skip t u3 c 99).2 = u4 at h0 f4 ⊢
          by_cases g5 : (C9_isNumber t u4 c 119).1 = 0
          · rw [if_pos g5] at h0 ⊢
            have s5 := cisNum_rd f4 hb (x := 119) (by decide) g5
            by_cases e5 : (C9_isNumber t u4 c 119).2.2.1 = 0
            · rw [if_pos e5] at h0 ⊢
              have f5 := s5.2 e5
              generalize (C9_isNumber t u4 c 119).2.2.2 = u5 at h0 f5 ⊢
              by_cases g6 : (C9_isNumber t u5 c 110).1 = 0
              · rw [if_pos g6] at h0 ⊢
                have s6 := cisNum_rd f5 hb (x := 110) (by decide) g6
                by_cases e6 : (C9_isNumber t u5 c 110).2.2.1 = 0
                · rw [if_pos e6] at h0 ⊢
                  have f6 := s6.2 e6
                  generalize (C9_isNumber t u5 c 110).2.2.2 = u6 at h0 f6 ⊢
                  by_cases g7 : (C9_must t u6 c 112).1 = 0
                  · rw [if_pos g7] at h0 ⊢
                    have f7 := cmust_rd f6 hb (by decide) g7
                    generalize (C9_must t u6 c 112).2.2 = u7 at h0 f7 ⊢
                    have f8 : rd t (wI u7 (c + 1) (upd (aI u7 (c + 1)) ((gI u7 802 c)).toNatClampNeg (vp_nar .char (112 : Int32)))) c n k m 1 := f7
                    generalize wI u7 (c + 1) (upd (aI u7 (c + 1)) ((gI u7 802 c)).toNatClampNeg (vp_nar .char (112 : Int32))) = u8 at h0 f8 ⊢
                    by_cases g8 : (C9_number t u8 c).1 = 0
                    · rw [if_pos g8] at h0 ⊢
                      have f9 := cnumber_rd f8 g8
                      generalize (C9_number t u8 c).2.2.2 = u9 at h0 f9 ⊢
                      exact rd.fin (M := wI u9 (c + 2) (upd (aI u9 (c + 2)) ((gI u7 802 c)).toNatClampNeg (C9_number t u8 c).2.2.1)) f9
                    · rw [if_neg g8] at h0; exact absurd h0 g8
                  · rw [if_neg g7] at h0; exact absurd h0 g7
                · rw [if_neg e6] at h0 ⊢
                  exact (s6.1 e6).fin
              · rw [if_neg g6] at h0; exact absurd h0 g6
            · rw [if_neg e5] at h0 ⊢
              exact (s5.1 e5).fin
          · rw [if_neg g5] at h0; exact absurd h0 g5
        · rw [if_neg e4] at h0 ⊢
          have f4 := s4.2 e4
          generalize (C9_skip t u3 c 99).2 = u4 at h0 f4 ⊢
          exact rd.fin (M := wI u4 (c + 1) (upd (aI u4 (c + 1)) ((gI u4 802 c)).toNatClampNeg (vp_nar .char (99 : Int32)))) f4
      · rw [if_neg e3] at h0 ⊢
        have f3 := s3.2 e3
        generalize (C9_skip t u2 c 118).2 = u3 at h0 f3 ⊢
        have f4 : rd t (wI u3 (c + 1) (upd (aI u3 (c + 1)) ((gI u3 802 c)).toNatClampNeg (vp_nar .char (118 : Int32)))) c n k m 1 := f3
        generalize wI u3 (c + 1) (upd (aI u3 (c + 1)) ((gI u3 802 c)).toNatClampNeg (vp_nar .char (118 : Int32))) = u4 at h0 f4 ⊢
        by_cases g5 : (C9_digit t u4 c).1 = 0
        · rw [if_pos g5] at h0 ⊢
          have f5 := cdigit_rd f4 g5
          generalize (C9_digit t u4 c).2.2.2 = u5 at h0 f5 ⊢
          have f6 : rd t (wI u5 (c + 2) (upd (aI u5 (c + 2)) ((gI u3 802 c)).toNatClampNeg (C9_digit t u4 c).2.2.1)) c n k m 1 := f5
          generalize wI u5 (c + 2) (upd (aI u5 (c + 2)) ((gI u3 802 c)).toNatClampNeg (C9_digit t u4 c).2.2.1) = u6 at h0 f6 ⊢
          have f7 := (cskip_rd f6 (by decide) (x := 45) (by decide)).1
          generalize (if (C9_skip t u6 c 45).1 = 0 then (1 : Int32) else (0 : Int32)) = x7 at h0 ⊢
          generalize (C9_skip t u6 c 45).2 = u7 at h0 f7 ⊢
          have f8 : rd t (wI u7 (c + 3) (upd (aI u7 (c + 3)) ((gI u5 802 c)).toNatClampNeg x7)) c n k m 1 := f7
          by_cases e8 : (upd (aI u7 (c + 3)) ((gI u5 802 c)).toNatClampNeg x7) ((gI u7 802 c)).toNatClampNeg = (1 : Int32)
          · rw [if_pos e8] at h0 ⊢
            generalize wI u7 (c + 3) (upd (aI u7 (c + 3)) ((gI u5 802 c)).toNatClampNeg x7) = u8 at h0 f8 ⊢
            by_cases g9 : (C9_must t u8 c 43).1 = 0
            · rw [if_pos g9] at h0 ⊢
              exact (cmust_rd f8 (by decide) (by decide) g9).fin
            · rw [if_neg g9] at h0; exact absurd h0 g9
          · rw [if_neg e8]
            exact rd.fin (M := wI u7 (c + 3) (upd (aI u7 (c + 3)) ((gI u5 802 c)).toNatClampNeg x7)) f8
        · rw [if_neg g5] at h0; exact absurd h0 g5
    · rw [if_neg e2] at h0 ⊢
      have f2 := s2.2 e2
      generalize (C9_skip t u1 c 114).2 = u2 at h0 f2 ⊢
      have f4 : rd t (wI u2 (c + 1) (upd (aI u2 (c + 1)) ((gI u2 802 c)).toNatClampNeg (vp_nar .char (114 : Int32)))) c n k m 1 := f2
      generalize wI u2 (c + 1) (upd (aI u2 (c + 1)) ((gI u2 802 c)).toNatClampNeg (vp_nar .char (114 : Int32))) = u4 at h0 f4 ⊢
      by_cases g5 : (C9_digit t u4 c).1 = 0
      · rw [if_pos g5]
        have f5 := cdigit_rd f4 g5
        generalize (C9_digit t u4 c).2.2.2 = u5 at h0 f5 ⊢
        exact rd.fin (M := wI u5 (c + 2) (upd (aI u5 (c + 2)) ((gI u2 802 c)).toNatClampNeg (C9_digit t u4 c).2.2.1)) f5
      · rw [if_neg g5] at h0; exact absurd h0 g5
  · rw [if_neg e1] at h0 ⊢
    have f1 := s1.2 e1
    generalize (C9_skip t M c 100).2 = u1 at h0 f1 ⊢
    have f4 : rd t (wI u1 (c + 1) (upd (aI u1 (c + 1)) ((gI u1 802 c)).toNatClampNeg (vp_nar .char (100 : Int32)))) c n k m 1 := f1
    generalize wI u1 (c + 1) (upd (aI u1 (c + 1)) ((gI u1 802 c)).toNatClampNeg (vp_nar .char (100 : Int32))) = u4 at h0 f4 ⊢
    by_cases g5 : (C9_digit t u4 c).1 = 0
    · rw [if_pos g5] at h0 ⊢
      have f5 := cdigit_rd f4 g5
      generalize (C9_digit t u4 c).2.2.2 = u5 at h0 f5 ⊢
      have f6 : rd t (wI u5 (c + 2) (upd (aI u5 (c + 2)) ((gI u1 802 c)).toNatClampNeg (C9_digit t u4 c).2.2.1)) c n k m 1 := f5
      generalize wI u5 (c + 2) (upd (aI u5 (c + 2)) ((gI u1 802 c)).toNatClampNeg (C9_digit t u4 c).2.2.1) = u6 at h0 f6 ⊢
      by_cases g6 : (C9_must t u6 c 64).1 = 0
      · rw [if_pos g6] at h0 ⊢
        have f7 := cmust_rd f6 (by decide) (by decide) g6
        generalize (C9_must t u6 c 64).2.2 = u7 at h0 f7 ⊢
        by_cases g7 : (C9_number t u7 c).1 = 0
        · rw [if_pos g7]
          have f8 := cnumber_rd f7 g7
          generalize (C9_number t u7 c).2.2.2 = u8 at h0 f8 ⊢
          exact rd.fin (M := wI u8 (c + 3) (upd (aI u8 (c + 3)) ((gI u7 802 c)).toNatClampNeg (C9_number t u7 c).2.2.1)) f8
        · rw [if_neg g7] at h0; exact absurd h0 g7
      · rw [if_neg g6] at h0; exact absurd h0 g6
    · rw [if_neg g5] at h0; exact absurd h0 g5
