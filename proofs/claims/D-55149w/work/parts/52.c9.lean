set_option maxRecDepth 100000
/-! the class: a day goes by -/
theorem vfu {f : Nat → UInt32} {k : Nat} {r : UInt32} : vf_upd f k r k = r := if_pos rfl
theorem wfC.setW {t : mt} {M : mm} {c k : Nat} {r : UInt32} (h : wfC t M c) (hr : kd false 12 r) : wfC t (wF M (c + 1) (vf_upd (aF M (c + 1)) k r)) c := by
  obtain ⟨h1, h2, h3, h4, h5, h6, h7, h8⟩ := h
  refine ⟨h1, h2, h3, fun j hj => ?_, h5, h6, h7, h8⟩
  rw [show aF (wF M (c + 1) (vf_upd (aF M (c + 1)) k r)) (c + 1) = _ from m1_at _ _ _]
  exact kdu (h4 j hj) (fun _ => hr)
theorem wfC.setG {t : mt} {M : mm} {c p : Nat} {r : UInt32} (h : wfC t M c) (hr : kd false 7 r) : wfC t (sF M 301 p r) c := by
  obtain ⟨h1, h2, h3, h4, h5, h6, h7, h8⟩ := h
  refine ⟨h1, h2, h3, h4, h5, h6, fun j hj q hq => ?_, h8⟩
  by_cases e : q = p
  · subst e
    rw [show gF (sF M 301 q r) 301 q = r from m2_at _ _ _ _]; exact hr
  · rw [show gF (sF M 301 p r) 301 q = gF M 301 q from m2_ne _ _ e]; exact h7 j hj q hq
theorem wfC.setL {t : mt} {M : mm} {c p : Nat} {r : UInt32} (h : wfC t M c) (hr : kd false 7 r) : wfC t (sF M 603 p r) c := by
  obtain ⟨h1, h2, h3, h4, h5, h6, h7, h8⟩ := h
  refine ⟨h1, h2, h3, h4, h5, h6, h7, fun j hj hn => ⟨(h8 j hj hn).1, ?_⟩⟩
  by_cases e : c + 54 + j = p
  · subst e
    rw [show gF (sF M 603 (c + 54 + j) r) 603 (c + 54 + j) = r from m2_at _ _ _ _]; exact hr
  · rw [show gF (sF M 603 p r) 603 (c + 54 + j) = gF M 603 (c + 54 + j) from m2_ne _ _ e]; exact (h8 j hj hn).2
theorem wfC.setS {t : mt} {M : mm} {c p : Nat} {r : Int32} (h : wfC t M c) : wfC t (sI M 602 p r) c := h
theorem wfC.setD {t : mt} {M : mm} {c p : Nat} {r : Int32} (h : wfC t M c) : wfC t (sI M 216 p r) c := h
theorem mg_all {g : Nat → Int32} (h : ∀ k, k < 12 → ix 10 (g k)) : ∀ n, n ≤ 12 → ∀ k, k < 12 → ix 10 (mgF g n k)
  | 0, _, k, hk => by rw [mgF_0]; exact h k hk
  | n + 1, hn, k, hk => by
    rw [mgF_s]
    by_cases e : k = (n + 1) % 12
    · subst e; rw [pk_us]; exact h n (by omega)
    · rw [pk_un e]; exact mg_all h n (by omega) k hk
theorem wfC.setM {t : mt} {M : mm} {c : Nat} (h : wfC t M c) : wfC t (C2_molesGo t M c) c := by
  obtain ⟨h1, h2, h3, h4, h5, h6, h7, h8⟩ := h
  refine ⟨h1, h2, h3, h4, fun j hj => ?_, h6, h7, h8⟩
  unfold C2_molesGo
  rw [show aI (wI M (c + 2) (mgF (aI M (c + 2)) 12)) (c + 2) = _ from m1_at _ _ _]
  exact mg_all h5 12 (Nat.le_refl _) j hj
theorem cg_kd {t : mt} {M : mm} {p : Nat} {x y : UInt32} {z : Int32} (hx : kd false 7 x) (hy : kd false 12 y) (hz : ix 10 z) : kd false 7 (C3_grown t M p x y z) :=
  (kd_most (kd_least (n := 30) ((kd.add (n := 18) (hx.up (by decide)) ((kd.mul (kd.mul hx (rat4_kd t p)) (kd.div25 hy)).up (by decide))).up (by decide)) ((kd.mul (kd.mul kd_002 (kd_i2f (hz.mono (by decide)))) (kd.add (n := 18) (hx.up (by decide)) ((kd.mul (kd.mul hx (rat4_kd t p)) (kd.div25 hy)).up (by decide)))).up (by decide))) kd_50).up (by decide)
def S_day (t : mt) (M : mm) (c : Nat) (z : mm) (k : Nat) : mm :=
  let r_14 := C2_waterThen t z (c) ((aF z (c + 1) k));
  let x16 := if (aR z (c + 4) k) = none then (wF z (c + 1) (vf_upd (aF z (c + 1)) k r_14)) else let r_17 := C3_grown t (wF z (c + 1) (vf_upd (aF z (c + 1)) k r_14)) (((aR z (c + 4) k).getD 0)) ((gF z 301 ((aR z (c + 4) k).getD 0))) (((vf_upd (aF z (c + 1)) k r_14) k)) ((aI z (c + 2) k)); (sF (wF z (c + 1) (vf_upd (aF z (c + 1)) k r_14)) 301 ((aR z (c + 4) k).getD 0) r_17);
  x16
def L_day (t : mt) (M : mm) (c : Nat) : Nat → mm
  | 0 => M
  | k + 1 => S_day t M c (L_day t M c k) k
  termination_by k => k
theorem L_day_0 (t : mt) (M : mm) (c : Nat) : L_day t M c 0 = M := by rw [L_day]
theorem L_day_s (t : mt) (M : mm) (c : Nat) (k : Nat) : L_day t M c (k + 1) = S_day t M c (L_day t M c k) k := by rw [L_day]
theorem wfC_S {t : mt} {M z : mm} {c k : Nat} (h : wfC t z c) (hk : k < 12) : wfC t (S_day t M c z k) c := by
  have h1 := h.setW (k := k) (cw_kd (t := t) h.wd h.rn (h.wa hk))
  unfold S_day
  dsimp only
  split
  · exact h1
  · rename_i hn
    exact h1.setG (cg_kd (h.we hk hn) (by rw [vfu]; exact cw_kd h.wd h.rn (h.wa hk)) (h.mo hk))
theorem wfC_day {t : mt} {M : mm} {c : Nat} (h : wfC t M c) : ∀ k, k ≤ 12 → wfC t (L_day t M c k) c
  | 0, _ => by rw [L_day_0]; exact h
  | k + 1, hk => by rw [L_day_s]; exact wfC_S (wfC_day h k (by omega)) (by omega)
def S_shd (t : mt) (M : mm) (c : Nat) (z : Int32 × mm) (k : Nat) : Int32 × mm :=
  let x8 := if (gI z.2 602 (c + 54 + k)) = 0 then if (gI z.2 602 (c + 54 + k)) = 0 then (z.1, z.2) else (z.1, (sF z.2 603 (c + 54 + k) (T_most (FP.fadd (gF z.2 603 (c + 54 + k)) (FP.fmul (1075838976 : UInt32) (FP.i2f (gI z.2 215 c)))) (1119092736 : UInt32)))) else let r_10 := C7_holds t z.2 ((c + 54 + k)) ((gI z.2 214 c)); if r_10 = 0 then let u_13 := C7_blowsOff t z.2 ((c + 54 + k)) ; ((z.1 + (1 : Int32)), u_13) else if (gI z.2 602 (c + 54 + k)) = 0 then (z.1, z.2) else (z.1, (sF z.2 603 (c + 54 + k) (T_most (FP.fadd (gF z.2 603 (c + 54 + k)) (FP.fmul (1075838976 : UInt32) (FP.i2f (gI z.2 215 c)))) (1119092736 : UInt32))));
  (x8.1, x8.2)
def L_shd (t : mt) (M : mm) (c : Nat) : Nat → Int32 × mm
  | 0 => ((0 : Int32), M)
  | k + 1 => S_shd t M c (L_shd t M c k) k
  termination_by k => k
theorem L_shd_0 (t : mt) (M : mm) (c : Nat) : L_shd t M c 0 = ((0 : Int32), M) := by rw [L_shd]
theorem L_shd_s (t : mt) (M : mm) (c : Nat) (k : Nat) : L_shd t M c (k + 1) = S_shd t M c (L_shd t M c k) k := by rw [L_shd]
theorem wfC_S2 {t : mt} {M : mm} {z : Int32 × mm} {c k : Nat} (h : wfC t z.2 c) (hk : k < 4) (hn : k < (gI z.2 212 c).toNatClampNeg) : wfC t (S_shd t M c z k).2 c := by
  have hm9 : wfC t (sF z.2 603 (c + 54 + k) (T_most (FP.fadd (gF z.2 603 (c + 54 + k)) (FP.fmul (1075838976 : UInt32) (FP.i2f (gI z.2 215 c)))) (1119092736 : UInt32))) c :=
    h.setL (kd_most (kd.add (n := 12) ((h.li hk hn).up (by decide)) ((kd.mul kd_25h (kd_i2f (h.rn.mono (by decide)))).up (by decide))) kd_90)
  unfold S_shd
  dsimp only
  (repeat' split) <;> first | exact h | exact hm9 | exact (wfC.setS h).setL (kd_0.up (by decide))
theorem S_shd_212 (t : mt) (M : mm) (z : Int32 × mm) (c k : Nat) : gI (S_shd t M c z k).2 212 c = gI z.2 212 c := by
  unfold S_shd
  dsimp only
  (repeat' split) <;> rfl
theorem shd_212 (t : mt) (M : mm) (c : Nat) : ∀ k, gI (L_shd t M c k).2 212 c = gI M 212 c
  | 0 => by rw [L_shd_0]
  | k + 1 => by rw [L_shd_s, S_shd_212]; exact shd_212 t M c k
theorem wfC_shd {t : mt} {M : mm} {c : Nat} (h : wfC t M c) : ∀ k, k ≤ 4 → k ≤ (gI M 212 c).toNatClampNeg → wfC t (L_shd t M c k).2 c
  | 0, _, _ => by rw [L_shd_0]; exact h
  | k + 1, hk, hn => by rw [L_shd_s]; exact wfC_S2 (wfC_shd h k (by omega) (by omega)) (by omega) (by rw [shd_212]; omega)
def C2_goesBy (t : mt) (M : mm) (c : Nat)  : Int32 × mm :=
  if ((gI (L_shd t (L_day t M c 12) c ((gI (L_day t M c 12) 212 c).toNatClampNeg)).2 216 c) - (gI (L_shd t (L_day t M c 12) c ((gI (L_day t M c 12) 212 c).toNatClampNeg)).2 216 c) / (3 : Int32) * (3 : Int32)) = 0 then
    let u_6 := C2_molesGo t (L_shd t (L_day t M c 12) c ((gI (L_day t M c 12) 212 c).toNatClampNeg)).2 (c) ;
    ((L_shd t (L_day t M c 12) c ((gI (L_day t M c 12) 212 c).toNatClampNeg)).1, (sI u_6 216 c ((gI u_6 216 c) + (1 : Int32))))
  else
    ((L_shd t (L_day t M c 12) c ((gI (L_day t M c 12) 212 c).toNatClampNeg)).1, (sI (L_shd t (L_day t M c 12) c ((gI (L_day t M c 12) 212 c).toNatClampNeg)).2 216 c ((gI (L_shd t (L_day t M c 12) c ((gI (L_day t M c 12) 212 c).toNatClampNeg)).2 216 c) + (1 : Int32))))
set_option maxHeartbeats 4000000 in
theorem cm2_goesBy (l : Launch) (E : mE) (t : mt) (M : mm) (c : Nat)  (hL : lay t c) (hW0 : wfC t M c) : Met l yX2_goesBy (ws_ yX2_goesBy cX2_goesBy 4 (some .int)) ({ frames := 2, cells := 1, slots := 12, locals := 62 }) (va_Pc [.ref c] (wP E t M)) (va_Qi (fun (r : Int32) (u : mm) => r = ((C2_goesBy t M c ).1) ∧ u = (C2_goesBy t M c ).2) (fun u U => mw E t u U.heap) (eA E)) 1 12 (eA E) := by
  refine Met.ofW (cc := cX2_goesBy) (maxL := 4) (ret := (some .int)) (by decide) rfl ?_
  intro p e s m args below meth c0 s₁ B hml hv
  obtain ⟨rfl, hs, hm⟩ := hv
  have hx := B.exec
  have hb := B.bytes
  have hr := B.returns
  have hts := atoms_spec (ws := ws_ yX2_goesBy cX2_goesBy 4 (some .int)) B.pre
  have hts : ∀ w ∈ lw_all, w.before _ s = true := fun w h => hts w (List.mem_cons_of_mem _ h)
  have hown : s.vm.findClass RX2 = some m.cls := findClass_of_methodNamed B.named
  have hlocks := B.notSynchronized
  have hS : va_S (eA E) s.heap s.heap [] := va_S.rf
  have hl := lv_entry ([.ref c]) (n := 4) (Nat.le_of_ble_eq_true rfl)
  rw [lg_entry_eq]
  generalize (lg_sl ([.ref c]) ++ List.replicate (4 - (lg_sl ([.ref c])).length) Slot.unset).toArray = ls at hl ⊢
  have hl : lv_has ls 4 [(0, .ref (c))] := hl
  refine lv_iconst (v := (0 : Int32)) hx hb dX2_goesBy_0 (by decide) ?_
  refine lv_istore_n (lv' := [(1, _), (0, _)]) hx hb dX2_goesBy_1 rfl hl (by decide) rfl (fun ls hl => ?_)
  refine k_loop (fun k => 12 - k) (fun (k : Nat) H locs ls => (k ≤ 12) ∧ mw E t ((L_day t M c k)) H ∧ va_S (eA E) s.heap H locs ∧ lv_has ls 4 [(1, .int (nI k)), (0, .ref (c))]) (fun (k : Nat) ls => F0 m 2 ls []) (fun k => (0, 0)) (fun k ih_1 H locs ls hP => ?_) (0) ⟨(Nat.zero_le _), (by rw [L_day_0]; exact hm), hS, lv_sub hl [0, 1] rfl⟩
  obtain ⟨hI_1, hm, hS, hl⟩ := hP
  refine lv_iload_n hx hb dX2_goesBy_2 rfl (lv_at hl 0 rfl) ?_
  refine lv_bipush (v := (12 : Int32)) hx hb dX2_goesBy_3 (by decide) ?_
  refine lv_icmp_ge (tgt := 78) hx hb dX2_goesBy_5 (by decide) (fun c_2 => ?_) (fun c_2 => ?_)
  · have hkN : k = 12 := lp_ge (by decide) hI_1 c_2
    replace hkN := hkN.symm
    subst hkN
    refine lv_iconst (v := (0 : Int32)) hx hb dX2_goesBy_78 (by decide) ?_
    refine lv_istore_n (lv' := [(1, _), (0, _)]) hx hb dX2_goesBy_79 rfl hl (by decide) rfl (fun ls hl => ?_)
    refine lv_iconst (v := (0 : Int32)) hx hb dX2_goesBy_80 (by decide) ?_
    refine lv_istore_n (lv' := [(2, _), (1, _), (0, _)]) hx hb dX2_goesBy_81 rfl hl (by decide) rfl (fun ls hl => ?_)
    refine k_loop (fun k => (gI (L_day t M c 12) 212 c).toNatClampNeg - k) (fun (k : Nat) H locs ls => (k ≤ (gI (L_day t M c 12) 212 c).toNatClampNeg) ∧ mw E t ((L_shd t (L_day t M c 12) c k).2) H ∧ va_S (eA E) s.heap H locs ∧ lv_has ls 4 [(2, .int (nI k)), (1, .int ((L_shd t (L_day t M c 12) c k).1)), (0, .ref (c))]) (fun (k : Nat) ls => F0 m 82 ls []) (fun k => (0, 0)) (fun k ih_3 H locs ls hP => ?_) (0) ⟨(Nat.zero_le _), (by rw [L_shd_0]; exact hm), hS, (by rw [L_shd_0]; exact lv_sub hl [0, 1, 2] rfl)⟩
    obtain ⟨hI_3, hm, hS, hl⟩ := hP
    have hWd := wfC_day hW0 12 (Nat.le_refl _)
    refine lv_iload_n hx hb dX2_goesBy_82 rfl (lv_at hl 0 rfl) ?_
    refine lv_aload_n hx hb dX2_goesBy_83 rfl (lv_at hl 2 rfl) ?_
    refine gf_212 hx hb hts hown hs hm (lay.z hL) (hts _ q247) dX2_goesBy_84 ?_
    refine lv_icmp_ge (tgt := 160) hx hb dX2_goesBy_87 (by decide) (fun c_4 => ?_) (fun c_4 => ?_)
    · have hkN : k = (gI (L_day t M c 12) 212 c).toNatClampNeg := lp_geI hWd.sh (by decide) hI_3 ((shd_212 t (L_day t M c 12) c k) ▸ c_4)
      replace hkN := hkN.symm
      subst hkN
      refine lv_aload_n hx hb dX2_goesBy_160 rfl (lv_at hl 2 rfl) ?_
      refine gf_216 hx hb hts hown hs hm (lay.z hL) (hts _ q257) dX2_goesBy_161 ?_
      refine lv_iconst (v := (3 : Int32)) hx hb dX2_goesBy_164 (by decide) ?_
      refine lv_irem hx hb dX2_goesBy_165 (by decide) ?_
      refine lv_if_ne (tgt := 173) hx hb dX2_goesBy_166 (by decide) (fun c_5 => ?_) (fun c_5 => ?_)
      · refine lv_aload_n hx hb dX2_goesBy_173 rfl (lv_at hl 2 rfl) ?_
        refine lv_dup hx hb dX2_goesBy_174 rfl ?_
        refine gf_216 hx hb hts hown hs hm (lay.z hL) (hts _ q257) dX2_goesBy_175 ?_
        refine lv_iconst (v := (1 : Int32)) hx hb dX2_goesBy_178 (by decide) ?_
        refine lv_iadd hx hb dX2_goesBy_179 ?_
        refine pf_216 hx hb hts hown hs hm hS (lay.z hL) (hts _ q257) dX2_goesBy_180 (fun H locs hm hS => ?_)
        have hm : mw E t ((sI (L_shd t (L_day t M c 12) c ((gI (L_day t M c 12) 212 c).toNatClampNeg)).2 216 c ((gI (L_shd t (L_day t M c 12) c ((gI (L_day t M c 12) 212 c).toNatClampNeg)).2 216 c) + (1 : Int32)))) H := hm
        refine lv_iload_n hx hb dX2_goesBy_183 rfl (lv_at hl 1 rfl) ?_
        refine W.widen (k := 1) (n := 12) (Nat.le_of_ble_eq_true rfl) (Nat.le_of_ble_eq_true rfl) ?_
        exact W.iret (v := _) hx hb hr (fun t9 ht9 _ => ⟨⟨_, _, rfl, pp ((if_neg c_5).trans (rfl)), hb9 ht9 hm⟩, hS.F ht9⟩) hS.2.2 dX2_goesBy_184
      · refine lv_aload_n hx hb dX2_goesBy_169 rfl (lv_at hl 2 rfl) ?_
        refine k_callv (va_runV (As := []) (rest := []) ⟨hx, hb, hml, hown, hts⟩ (cm2_molesGo l E t (L_shd t (L_day t M c 12) c ((gI (L_day t M c 12) 212 c).toNatClampNeg)).2  (c)  hL ) (cwV 0 hts (lw_V q986 q988 qs11 q59 q989) rfl rfl rfl (by decide +kernel) ⟨Nat.le_of_ble_eq_true rfl, Nat.le_of_ble_eq_true rfl⟩) (k_preV hs hm hS (mw.recv hs hm (mt_ne (lay.z hL) (by decide)) (ct2 (lay.z hL)) rfl)) rfl rfl hl.1 rfl (lv_room (Nat.le_of_ble_eq_true rfl)) dX2_goesBy_170 ⟨Nat.le_of_ble_eq_true rfl, Nat.le_of_ble_eq_true rfl⟩) hS (fun u_6 H locs hw_6 hm_6 hS => ?_)
        have hu_6 := hw_6
        have hm := hm_6
        refine lv_aload_n hx hb dX2_goesBy_173 rfl (lv_at hl 2 rfl) ?_
        refine lv_dup hx hb dX2_goesBy_174 rfl ?_
        refine gf_216 hx hb hts hown hs hm (lay.z hL) (hts _ q257) dX2_goesBy_175 ?_
        refine lv_iconst (v := (1 : Int32)) hx hb dX2_goesBy_178 (by decide) ?_
        refine lv_iadd hx hb dX2_goesBy_179 ?_
        refine pf_216 hx hb hts hown hs hm hS (lay.z hL) (hts _ q257) dX2_goesBy_180 (fun H locs hm hS => ?_)
        have hm : mw E t ((sI u_6 216 c ((gI u_6 216 c) + (1 : Int32)))) H := hm
        refine lv_iload_n hx hb dX2_goesBy_183 rfl (lv_at hl 1 rfl) ?_
        subst hu_6
        refine W.widen (k := 1) (n := 12) (Nat.le_of_ble_eq_true rfl) (Nat.le_of_ble_eq_true rfl) ?_
        exact W.iret (v := _) hx hb hr (fun t9 ht9 _ => ⟨⟨_, _, rfl, pp ((if_pos c_5).trans (rfl)), hb9 ht9 hm⟩, hS.F ht9⟩) hS.2.2 dX2_goesBy_184
    · have hk : k < (gI (L_day t M c 12) 212 c).toNatClampNeg := lp_ltI hWd.sh (by decide) hI_3 ((shd_212 t (L_day t M c 12) c k) ▸ c_4)
      have hk4 : k < 4 := Nat.lt_of_lt_of_le hk (Nat.le_of_lt_succ (hWd.sh.nat (by decide)).1)
      have hW := wfC_shd hWd k (by omega) (by omega)
      have hkN : k < (gI (L_shd t (L_day t M c 12) c k).2 212 c).toNatClampNeg := by rw [shd_212]; exact hk
      refine lv_aload_n hx hb dX2_goesBy_90 rfl (lv_at hl 2 rfl) ?_
      refine gf_209 hx hb hts hown hs hm (lay.z hL) (hts _ q241) dX2_goesBy_91 ?_
      refine lv_iload_n hx hb dX2_goesBy_94 rfl (lv_at hl 0 rfl) ?_
      refine k_shd hx hb hs hm (lay.a10 hL) (k := k) (cl_nI (by omega)).symm (ix.at (B := 4) (⟨k, hk4, rfl⟩) (by decide)) dX2_goesBy_95 ?_
      refine lv_astore_n (lv' := [(3, _), (2, _), (1, _), (0, _)]) hx hb dX2_goesBy_96 rfl hl (by decide) rfl (fun ls hl => ?_)
      refine lv_aload_n hx hb dX2_goesBy_97 rfl (lv_at hl 0 rfl) ?_
      refine gfN_602 hx hb hts hown hs hm (lay.shd hL (by omega)) q190 dX2_goesBy_98 ?_
      refine k_join (fun (x8 : Int32 × mm) H locs ls => x8 = (if (gI (L_shd t (L_day t M c 12) c k).2 602 (c + 54 + k)) = 0 then if (gI (L_shd t (L_day t M c 12) c k).2 602 (c + 54 + k)) = 0 then ((L_shd t (L_day t M c 12) c k).1, (L_shd t (L_day t M c 12) c k).2) else ((L_shd t (L_day t M c 12) c k).1, (sF (L_shd t (L_day t M c 12) c k).2 603 (c + 54 + k) (T_most (FP.fadd (gF (L_shd t (L_day t M c 12) c k).2 603 (c + 54 + k)) (FP.fmul (1075838976 : UInt32) (FP.i2f (gI (L_shd t (L_day t M c 12) c k).2 215 c)))) (1119092736 : UInt32)))) else let r_10 := C7_holds t (L_shd t (L_day t M c 12) c k).2 ((c + 54 + k)) ((gI (L_shd t (L_day t M c 12) c k).2 214 c)); if r_10 = 0 then let u_13 := C7_blowsOff t (L_shd t (L_day t M c 12) c k).2 ((c + 54 + k)) ; (((L_shd t (L_day t M c 12) c k).1 + (1 : Int32)), u_13) else if (gI (L_shd t (L_day t M c 12) c k).2 602 (c + 54 + k)) = 0 then ((L_shd t (L_day t M c 12) c k).1, (L_shd t (L_day t M c 12) c k).2) else ((L_shd t (L_day t M c 12) c k).1, (sF (L_shd t (L_day t M c 12) c k).2 603 (c + 54 + k) (T_most (FP.fadd (gF (L_shd t (L_day t M c 12) c k).2 603 (c + 54 + k)) (FP.fmul (1075838976 : UInt32) (FP.i2f (gI (L_shd t (L_day t M c 12) c k).2 215 c)))) (1119092736 : UInt32))))) ∧ mw E t (x8.2) H ∧ va_S (eA E) s.heap H locs ∧ lv_has ls 4 [(3, .ref ((c + 54 + k))), (2, .int (nI k)), (1, .int (x8.1)), (0, .ref (c))]) (fun (x8 : Int32 × mm) ls => F0 m 154 ls []) (fun x8 H locs ls hJ => ?_) (fun J8 => ?_)
      · obtain ⟨hX8, hm, hS, hl⟩ := hJ
        refine lv_iinc (v := nI (k + 1)) (lv' := [(2, _), (3, _), (1, _), (0, _)]) hx hb dX2_goesBy_154 hl (k := 1) rfl (nI_succ k).symm (by decide) rfl (fun ls hl => ?_)
        refine lv_goto (tgt := 82) hx hb dX2_goesBy_157 (by decide) ?_
        subst hX8
        have hE : L_shd t (L_day t M c 12) c (k + 1) = _ := (L_shd_s t _ c k).trans (rfl)
        exact ih_3 (k + 1) (by omega) _ _ _ ⟨(by omega), (by rw [hE]; exact hm), hS, (by rw [hE]; exact lv_sub hl [0, 2, 3] rfl)⟩
      · refine lv_if_eq (tgt := 125) hx hb dX2_goesBy_101 (by decide) (fun c_7 => ?_) (fun c_7 => ?_)
        · refine lv_aload_n hx hb dX2_goesBy_125 rfl (lv_at hl 0 rfl) ?_
          refine gfN_602 hx hb hts hown hs hm (lay.shd hL (by omega)) q190 dX2_goesBy_126 ?_
          refine lv_if_eq (tgt := 154) hx hb dX2_goesBy_129 (by decide) (fun c_9 => ?_) (fun c_9 => ?_)
          · exact J8 (((L_shd t (L_day t M c 12) c k).1, (L_shd t (L_day t M c 12) c k).2)) _ _ _ ⟨((if_pos c_7).trans ((if_pos c_9).trans (rfl))).symm, hm, hS, lv_sub hl [0, 1, 2, 3] rfl⟩
          · refine lv_aload_n hx hb dX2_goesBy_132 rfl (lv_at hl 0 rfl) ?_
            refine lv_ldcf (v := 1119092736) hx hb hown (hts _ q984) dX2_goesBy_133 ?_
            refine lv_aload_n hx hb dX2_goesBy_135 rfl (lv_at hl 0 rfl) ?_
            refine gfN_603 hx hb hts hown hs hm (lay.shd hL (by omega)) q193 dX2_goesBy_136 ?_
            refine lv_ldcf (v := 1075838976) hx hb hown (hts _ q985) dX2_goesBy_139 ?_
            refine lv_aload_n hx hb dX2_goesBy_141 rfl (lv_at hl 3 rfl) ?_
            refine gf_215 hx hb hts hown hs hm (lay.z hL) (hts _ q254) dX2_goesBy_142 ?_
            refine lv_i2f hx hb dX2_goesBy_145 ?_
            refine lv_fmul hx hb dX2_goesBy_146 ((kd.mul (kd_25h) ((kd_i2f ((hW.rn).mono (by decide)))))).nan ?_
            refine lv_fadd hx hb dX2_goesBy_147 ((kd.add (n := 10) (((hW.li hk4 hkN)).up (by decide)) (((kd.mul (kd_25h) ((kd_i2f ((hW.rn).mono (by decide)))))).up (by decide)))).nan ?_
            refine k_fpick false (x := (1119092736 : UInt32)) (y := (FP.fadd (gF (L_shd t (L_day t M c 12) c k).2 603 (c + 54 + k)) (FP.fmul (1075838976 : UInt32) (FP.i2f (gI (L_shd t (L_day t M c 12) c k).2 215 c))))) hx hb (hml.trans hl.1.symm) hown (hts _ q917) (hts _ q918) (hts _ q78) (hts _ q919) (kd.nn (kd_90)) ((kd.nn ((kd.add (n := 10) (((hW.li hk4 hkN)).up (by decide)) (((kd.mul (kd_25h) ((kd_i2f ((hW.rn).mono (by decide)))))).up (by decide)))))) (Nat.le_of_ble_eq_true rfl) (Nat.le_of_ble_eq_true rfl) (Nat.le_of_ble_eq_true rfl) (Nat.le_of_ble_eq_true rfl) dX2_goesBy_148 ?_
            rw [pq_most ((kd.nn ((kd.add (n := 10) (((hW.li hk4 hkN)).up (by decide)) (((kd.mul (kd_25h) ((kd_i2f ((hW.rn).mono (by decide)))))).up (by decide)))))) (kd.nn (kd_90)) (by decide)]
            refine pfN_603 hx hb hts hown hs hm hS (lay.shd hL (by omega)) q193 dX2_goesBy_151 (fun H locs hm hS => ?_)
            have hm : mw E t ((sF (L_shd t (L_day t M c 12) c k).2 603 (c + 54 + k) (T_most (FP.fadd (gF (L_shd t (L_day t M c 12) c k).2 603 (c + 54 + k)) (FP.fmul (1075838976 : UInt32) (FP.i2f (gI (L_shd t (L_day t M c 12) c k).2 215 c)))) (1119092736 : UInt32)))) H := hm
            exact J8 (((L_shd t (L_day t M c 12) c k).1, (sF (L_shd t (L_day t M c 12) c k).2 603 (c + 54 + k) (T_most (FP.fadd (gF (L_shd t (L_day t M c 12) c k).2 603 (c + 54 + k)) (FP.fmul (1075838976 : UInt32) (FP.i2f (gI (L_shd t (L_day t M c 12) c k).2 215 c)))) (1119092736 : UInt32))))) _ _ _ ⟨((if_pos c_7).trans ((if_neg c_9).trans (rfl))).symm, hm, hS, lv_sub hl [0, 1, 2, 3] rfl⟩
        · refine lv_aload_n hx hb dX2_goesBy_104 rfl (lv_at hl 0 rfl) ?_
          refine lv_aload_n hx hb dX2_goesBy_105 rfl (lv_at hl 3 rfl) ?_
          refine gf_214 hx hb hts hown hs hm (lay.z hL) (hts _ q251) dX2_goesBy_106 ?_
          refine k_calli (va_runV (As := [.int ((gI (L_shd t (L_day t M c 12) c k).2 214 c))]) (rest := []) ⟨hx, hb, hml, hown, hts⟩ (cm7_holds l E t (L_shd t (L_day t M c 12) c k).2  ((c + 54 + k)) ((gI (L_shd t (L_day t M c 12) c k).2 214 c)) (lay.shd hL (by omega)) hW.wd (hW.rp hk4 hkN)) (cwV 1 hts (lw_V q975 q976 q977 q64 q978) rfl rfl rfl (by decide +kernel) ⟨Nat.le_of_ble_eq_true rfl, Nat.le_of_ble_eq_true rfl⟩) (k_preV hs hm hS (mw.recv hs hm (mt_ne (lay.shd hL (by omega)) (by decide)) (ct6 (lay.shd hL (by omega))) rfl)) rfl rfl hl.1 rfl (lv_room (Nat.le_of_ble_eq_true rfl)) dX2_goesBy_109 ⟨Nat.le_of_ble_eq_true rfl, Nat.le_of_ble_eq_true rfl⟩) hS (fun r_10 u_10 H locs hw_10 hm_10 hS => ?_)
          obtain ⟨hr_10, hu_10⟩ := hw_10
          replace hu_10 := hu_10.symm
          subst hu_10
          have hm := hm_10
          refine lv_if_ne (tgt := 125) hx hb dX2_goesBy_112 (by decide) (fun c_11 => ?_) (fun c_11 => ?_)
          · refine lv_aload_n hx hb dX2_goesBy_125 rfl (lv_at hl 0 rfl) ?_
            refine gfN_602 hx hb hts hown hs hm (lay.shd hL (by omega)) q190 dX2_goesBy_126 ?_
            refine lv_if_eq (tgt := 154) hx hb dX2_goesBy_129 (by decide) (fun c_12 => ?_) (fun c_12 => ?_)
            · subst hr_10
              exact J8 (_) _ _ _ ⟨((if_neg c_7).trans ((if_neg c_11).trans ((if_pos c_12).trans (rfl)))).symm, hm, hS, lv_sub hl [0, 1, 2, 3] rfl⟩
            · refine lv_aload_n hx hb dX2_goesBy_132 rfl (lv_at hl 0 rfl) ?_
              refine lv_ldcf (v := 1119092736) hx hb hown (hts _ q984) dX2_goesBy_133 ?_
              refine lv_aload_n hx hb dX2_goesBy_135 rfl (lv_at hl 0 rfl) ?_
              refine gfN_603 hx hb hts hown hs hm (lay.shd hL (by omega)) q193 dX2_goesBy_136 ?_
              refine lv_ldcf (v := 1075838976) hx hb hown (hts _ q985) dX2_goesBy_139 ?_
              refine lv_aload_n hx hb dX2_goesBy_141 rfl (lv_at hl 3 rfl) ?_
              refine gf_215 hx hb hts hown hs hm (lay.z hL) (hts _ q254) dX2_goesBy_142 ?_
              refine lv_i2f hx hb dX2_goesBy_145 ?_
              refine lv_fmul hx hb dX2_goesBy_146 ((kd.mul (kd_25h) ((kd_i2f ((hW.rn).mono (by decide)))))).nan ?_
              refine lv_fadd hx hb dX2_goesBy_147 ((kd.add (n := 10) (((hW.li hk4 hkN)).up (by decide)) (((kd.mul (kd_25h) ((kd_i2f ((hW.rn).mono (by decide)))))).up (by decide)))).nan ?_
              refine k_fpick false (x := (1119092736 : UInt32)) (y := (FP.fadd (gF (L_shd t (L_day t M c 12) c k).2 603 (c + 54 + k)) (FP.fmul (1075838976 : UInt32) (FP.i2f (gI (L_shd t (L_day t M c 12) c k).2 215 c))))) hx hb (hml.trans hl.1.symm) hown (hts _ q917) (hts _ q918) (hts _ q78) (hts _ q919) (kd.nn (kd_90)) ((kd.nn ((kd.add (n := 10) (((hW.li hk4 hkN)).up (by decide)) (((kd.mul (kd_25h) ((kd_i2f ((hW.rn).mono (by decide)))))).up (by decide)))))) (Nat.le_of_ble_eq_true rfl) (Nat.le_of_ble_eq_true rfl) (Nat.le_of_ble_eq_true rfl) (Nat.le_of_ble_eq_true rfl) dX2_goesBy_148 ?_
              rw [pq_most ((kd.nn ((kd.add (n := 10) (((hW.li hk4 hkN)).up (by decide)) (((kd.mul (kd_25h) ((kd_i2f ((hW.rn).mono (by decide)))))).up (by decide)))))) (kd.nn (kd_90)) (by decide)]
              refine pfN_603 hx hb hts hown hs hm hS (lay.shd hL (by omega)) q193 dX2_goesBy_151 (fun H locs hm hS => ?_)
              have hm : mw E t ((sF (L_shd t (L_day t M c 12) c k).2 603 (c + 54 + k) (T_most (FP.fadd (gF (L_shd t (L_day t M c 12) c k).2 603 (c + 54 + k)) (FP.fmul (1075838976 : UInt32) (FP.i2f (gI (L_shd t (L_day t M c 12) c k).2 215 c)))) (1119092736 : UInt32)))) H := hm
              subst hr_10
              exact J8 (_) _ _ _ ⟨((if_neg c_7).trans ((if_neg c_11).trans ((if_neg c_12).trans (rfl)))).symm, hm, hS, lv_sub hl [0, 1, 2, 3] rfl⟩
          · refine lv_aload_n hx hb dX2_goesBy_115 rfl (lv_at hl 0 rfl) ?_
            refine k_callv (va_runV (As := []) (rest := []) ⟨hx, hb, hml, hown, hts⟩ (cm7_blowsOff l E t (L_shd t (L_day t M c 12) c k).2  ((c + 54 + k))  (lay.shd hL (by omega)) ) (cwV 0 hts (lw_V q980 q981 q982 q64 q983) rfl rfl rfl (by decide +kernel) ⟨Nat.le_of_ble_eq_true rfl, Nat.le_of_ble_eq_true rfl⟩) (k_preV hs hm hS (mw.recv hs hm (mt_ne (lay.shd hL (by omega)) (by decide)) (ct6 (lay.shd hL (by omega))) rfl)) rfl rfl hl.1 rfl (lv_room (Nat.le_of_ble_eq_true rfl)) dX2_goesBy_116 ⟨Nat.le_of_ble_eq_true rfl, Nat.le_of_ble_eq_true rfl⟩) hS (fun u_13 H locs hw_13 hm_13 hS => ?_)
            have hu_13 := hw_13
            have hm := hm_13
            refine lv_iinc (v := ((L_shd t (L_day t M c 12) c k).1 + (1 : Int32))) (lv' := [(1, _), (3, _), (2, _), (0, _)]) hx hb dX2_goesBy_119 hl (k := 2) rfl rfl (by decide) rfl (fun ls hl => ?_)
            refine lv_goto (tgt := 154) hx hb dX2_goesBy_122 (by decide) ?_
            subst hu_13
            subst hr_10
            exact J8 (_) _ _ _ ⟨((if_neg c_7).trans ((if_pos c_11).trans (rfl))).symm, hm, hS, lv_sub hl [1, 2, 0, 3] rfl⟩
  · have hk : k < 12 := lp_lt (by decide) hI_1 c_2
    have hW := wfC_day hW0 k (by omega)
    refine lv_aload_n hx hb dX2_goesBy_8 rfl (lv_at hl 1 rfl) ?_
    refine gf_200 hx hb hts hown hs hm (lay.z hL) (hts _ q227) dX2_goesBy_9 ?_
    refine lv_iload_n hx hb dX2_goesBy_12 rfl (lv_at hl 0 rfl) ?_
    refine lv_aload_n hx hb dX2_goesBy_13 rfl (lv_at hl 1 rfl) ?_
    refine lv_aload_n hx hb dX2_goesBy_14 rfl (lv_at hl 1 rfl) ?_
    refine gf_200 hx hb hts hown hs hm (lay.z hL) (hts _ q227) dX2_goesBy_15 ?_
    refine lv_iload_n hx hb dX2_goesBy_18 rfl (lv_at hl 0 rfl) ?_
    refine k_fald hx hb hs hm (lay.a1 hL) (ix.at (B := 12) (⟨k, hk, rfl⟩) (by decide)) dX2_goesBy_19 ?_
    rw [show (nI k).toNatClampNeg = k from (cl_nI (by omega))]
    refine k_callf (va_runV (As := [.float ((aF (L_day t M c k) (c + 1) k))]) (rest := [.int (nI k), .ref ((c + 1))]) ⟨hx, hb, hml, hown, hts⟩ (cm2_waterThen l E t (L_day t M c k)  (c) ((aF (L_day t M c k) (c + 1) k)) hL hW.wd hW.rn (hW.wa hk)) (cwV 1 hts (lw_V q912 q914 qs10 q59 q915) rfl rfl rfl (by decide +kernel) ⟨Nat.le_of_ble_eq_true rfl, Nat.le_of_ble_eq_true rfl⟩) (k_preV hs hm hS (mw.recv hs hm (mt_ne (lay.z hL) (by decide)) (ct2 (lay.z hL)) rfl)) rfl rfl hl.1 rfl (lv_room (Nat.le_of_ble_eq_true rfl)) dX2_goesBy_20 ⟨Nat.le_of_ble_eq_true rfl, Nat.le_of_ble_eq_true rfl⟩) hS (fun r_14 u_14 H locs hw_14 hm_14 hS => ?_)
    obtain ⟨hr_14, hu_14⟩ := hw_14
    replace hu_14 := hu_14.symm
    subst hu_14
    have hm := hm_14
    refine k_fast hx hb hs hm hS (lay.a1 hL) (ix.at (B := 12) (⟨k, hk, rfl⟩) (by decide)) dX2_goesBy_23 (fun H locs hm hS => ?_)
    rw [show (nI k).toNatClampNeg = k from cl_nI (by omega)] at hm
    have hm : mw E t ((wF (L_day t M c k) (c + 1) (vf_upd (aF (L_day t M c k) (c + 1)) k r_14))) H := hm
    refine lv_aload_n hx hb dX2_goesBy_24 rfl (lv_at hl 1 rfl) ?_
    refine gf_203 hx hb hts hown hs hm (lay.z hL) (hts _ q233) dX2_goesBy_25 ?_
    refine lv_iload_n hx hb dX2_goesBy_28 rfl (lv_at hl 0 rfl) ?_
    refine k_aald24 hx hb hs hm (lay.a4 hL) (ix.at (B := 12) (⟨k, hk, rfl⟩) (by decide)) dX2_goesBy_29 ?_
    rw [show (nI k).toNatClampNeg = k from cl_nI (by omega)]
    refine k_join (fun (x16 : mm) H locs ls => x16 = (if (aR (L_day t M c k) (c + 4) k) = none then (wF (L_day t M c k) (c + 1) (vf_upd (aF (L_day t M c k) (c + 1)) k r_14)) else let r_17 := C3_grown t (wF (L_day t M c k) (c + 1) (vf_upd (aF (L_day t M c k) (c + 1)) k r_14)) (((aR (L_day t M c k) (c + 4) k).getD 0)) ((gF (L_day t M c k) 301 ((aR (L_day t M c k) (c + 4) k).getD 0))) (((vf_upd (aF (L_day t M c k) (c + 1)) k r_14) k)) ((aI (L_day t M c k) (c + 2) k)); (sF (wF (L_day t M c k) (c + 1) (vf_upd (aF (L_day t M c k) (c + 1)) k r_14)) 301 ((aR (L_day t M c k) (c + 4) k).getD 0) r_17)) ∧ mw E t (x16) H ∧ va_S (eA E) s.heap H locs ∧ lv_has ls 4 [(1, .int (nI k)), (0, .ref (c))]) (fun (x16 : mm) ls => F0 m 72 ls []) (fun x16 H locs ls hJ => ?_) (fun J16 => ?_)
    · obtain ⟨hX16, hm, hS, hl⟩ := hJ
      refine lv_iinc (v := nI (k + 1)) (lv' := [(1, _), (0, _)]) hx hb dX2_goesBy_72 hl (k := 0) rfl (nI_succ k).symm (by decide) rfl (fun ls hl => ?_)
      refine lv_goto (tgt := 2) hx hb dX2_goesBy_75 (by decide) ?_
      subst hX16
      subst hr_14
      have hE : L_day t M c (k + 1) = _ := (L_day_s t M c k).trans (rfl)
      exact ih_1 (k + 1) (by omega) _ _ _ ⟨(by omega), (by rw [hE]; exact hm), hS, lv_sub hl [0, 1] rfl⟩
    · refine lv_ifnullQ (tgt := 72) hx hb dX2_goesBy_30 (by decide) (fun c_15 => ?_) (fun c_15 => ?_)
      · exact J16 ((wF (L_day t M c k) (c + 1) (vf_upd (aF (L_day t M c k) (c + 1)) k r_14))) _ _ _ ⟨((if_pos c_15).trans (rfl)).symm, hm, hS, lv_sub hl [0, 1] rfl⟩
      · refine lv_aload_n hx hb dX2_goesBy_33 rfl (lv_at hl 1 rfl) ?_
        refine gf_203 hx hb hts hown hs hm (lay.z hL) (hts _ q233) dX2_goesBy_34 ?_
        refine lv_iload_n hx hb dX2_goesBy_37 rfl (lv_at hl 0 rfl) ?_
        refine k_aald24 hx hb hs hm (lay.a4 hL) (ix.at (B := 12) (⟨k, hk, rfl⟩) (by decide)) dX2_goesBy_38 ?_
        rw [show (nI k).toNatClampNeg = k from cl_nI (by omega)]
        refine k_nn c_15 ?_
        refine lv_aload_n hx hb dX2_goesBy_39 rfl (lv_at hl 1 rfl) ?_
        refine gf_203 hx hb hts hown hs hm (lay.z hL) (hts _ q233) dX2_goesBy_40 ?_
        refine lv_iload_n hx hb dX2_goesBy_43 rfl (lv_at hl 0 rfl) ?_
        refine k_aald24 hx hb hs hm (lay.a4 hL) (ix.at (B := 12) (⟨k, hk, rfl⟩) (by decide)) dX2_goesBy_44 ?_
        rw [show (nI k).toNatClampNeg = k from cl_nI (by omega)]
        refine k_nn c_15 ?_
        refine lv_aload_n hx hb dX2_goesBy_45 rfl (lv_at hl 1 rfl) ?_
        refine gf_203 hx hb hts hown hs hm (lay.z hL) (hts _ q233) dX2_goesBy_46 ?_
        refine lv_iload_n hx hb dX2_goesBy_49 rfl (lv_at hl 0 rfl) ?_
        refine k_aald24 hx hb hs hm (lay.a4 hL) (ix.at (B := 12) (⟨k, hk, rfl⟩) (by decide)) dX2_goesBy_50 ?_
        rw [show (nI k).toNatClampNeg = k from cl_nI (by omega)]
        refine k_nn c_15 ?_
        refine gfN_301 hx hb hts hown hs hm ((hW.cr hk).get c_15) q135 dX2_goesBy_51 ?_
        refine lv_aload_n hx hb dX2_goesBy_54 rfl (lv_at hl 1 rfl) ?_
        refine gf_200 hx hb hts hown hs hm (lay.z hL) (hts _ q227) dX2_goesBy_55 ?_
        refine lv_iload_n hx hb dX2_goesBy_58 rfl (lv_at hl 0 rfl) ?_
        refine k_fald hx hb hs hm (lay.a1 hL) (ix.at (B := 12) (⟨k, hk, rfl⟩) (by decide)) dX2_goesBy_59 ?_
        rw [show aF (wF (L_day t M c k) (c + 1) (vf_upd (aF (L_day t M c k) (c + 1)) k r_14)) (c + 1) = (vf_upd (aF (L_day t M c k) (c + 1)) k r_14) from (show aF (wF (L_day t M c k) (c + 1) (vf_upd (aF (L_day t M c k) (c + 1)) k r_14)) (c + 1) = (vf_upd (aF (L_day t M c k) (c + 1)) k r_14) from m1_at _ _ _)]
        rw [show (nI k).toNatClampNeg = k from (cl_nI (by omega))]
        refine lv_aload_n hx hb dX2_goesBy_60 rfl (lv_at hl 1 rfl) ?_
        refine gf_201 hx hb hts hown hs hm (lay.z hL) (hts _ q229) dX2_goesBy_61 ?_
        refine lv_iload_n hx hb dX2_goesBy_64 rfl (lv_at hl 0 rfl) ?_
        refine k_iald hx hb hs hm (lay.a2 hL) (ix.at (B := 12) (⟨k, hk, rfl⟩) (by decide)) dX2_goesBy_65 ?_
        rw [show (nI k).toNatClampNeg = k from (cl_nI (by omega))]
        refine k_callf (((hW.cr hk).get c_15).elim (fun h9 => va_runU (As := [.float ((gF (L_day t M c k) 301 ((aR (L_day t M c k) (c + 4) k).getD 0))), .float (((vf_upd (aF (L_day t M c k) (c + 1)) k r_14) k)), .int ((aI (L_day t M c k) (c + 2) k))]) (rest := [.ref (((aR (L_day t M c k) (c + 4) k).getD 0))]) ⟨hx, hb, hml, hown, hts⟩ (cm3_grown l E t (wF (L_day t M c k) (c + 1) (vf_upd (aF (L_day t M c k) (c + 1)) k r_14))  (((aR (L_day t M c k) (c + 4) k).getD 0)) ((gF (L_day t M c k) 301 ((aR (L_day t M c k) (c + 4) k).getD 0))) (((vf_upd (aF (L_day t M c k) (c + 1)) k r_14) k)) ((aI (L_day t M c k) (c + 2) k)) ((hW.cr hk).get c_15) (hW.we hk c_15) (by rw [vfu, hr_14]; exact cw_kd hW.wd hW.rn (hW.wa hk)) (hW.mo hk)) (va_cwU 3 hts (lw_U q953 q955 q957 q954 q60 q958) rfl rfl rfl rfl (by decide +kernel) ⟨Nat.le_of_ble_eq_true rfl, Nat.le_of_ble_eq_true rfl⟩) (k_preV hs hm hS (mw.recv hs hm (mt_ne h9 (by decide)) (ct3 h9) rfl)) rfl rfl hl.1 rfl (lv_room (Nat.le_of_ble_eq_true rfl)) dX2_goesBy_66 ⟨Nat.le_of_ble_eq_true rfl, Nat.le_of_ble_eq_true rfl⟩) (fun h9 => va_runU (As := [.float ((gF (L_day t M c k) 301 ((aR (L_day t M c k) (c + 4) k).getD 0))), .float (((vf_upd (aF (L_day t M c k) (c + 1)) k r_14) k)), .int ((aI (L_day t M c k) (c + 2) k))]) (rest := [.ref (((aR (L_day t M c k) (c + 4) k).getD 0))]) ⟨hx, hb, hml, hown, hts⟩ (cm3_grown l E t (wF (L_day t M c k) (c + 1) (vf_upd (aF (L_day t M c k) (c + 1)) k r_14))  (((aR (L_day t M c k) (c + 4) k).getD 0)) ((gF (L_day t M c k) 301 ((aR (L_day t M c k) (c + 4) k).getD 0))) (((vf_upd (aF (L_day t M c k) (c + 1)) k r_14) k)) ((aI (L_day t M c k) (c + 2) k)) ((hW.cr hk).get c_15) (hW.we hk c_15) (by rw [vfu, hr_14]; exact cw_kd hW.wd hW.rn (hW.wa hk)) (hW.mo hk)) (va_cwU 3 hts (lw_U q953 q955 q956 q954 q60 q958) rfl rfl rfl rfl (by decide +kernel) ⟨Nat.le_of_ble_eq_true rfl, Nat.le_of_ble_eq_true rfl⟩) (k_preV hs hm hS (mw.recv hs hm (mt_ne h9 (by decide)) (ct4 h9) rfl)) rfl rfl hl.1 rfl (lv_room (Nat.le_of_ble_eq_true rfl)) dX2_goesBy_66 ⟨Nat.le_of_ble_eq_true rfl, Nat.le_of_ble_eq_true rfl⟩)) hS (fun r_17 u_17 H locs hw_17 hm_17 hS => ?_)
        obtain ⟨hr_17, hu_17⟩ := hw_17
        replace hu_17 := hu_17.symm
        subst hu_17
        have hm := hm_17
        refine pfN_301 hx hb hts hown hs hm hS ((hW.cr hk).get c_15) q135 dX2_goesBy_69 (fun H locs hm hS => ?_)
        have hm : mw E t ((sF (wF (L_day t M c k) (c + 1) (vf_upd (aF (L_day t M c k) (c + 1)) k r_14)) 301 ((aR (L_day t M c k) (c + 4) k).getD 0) r_17)) H := hm
        subst hr_17
        exact J16 (_) _ _ _ ⟨((if_neg c_15).trans (rfl)).symm, hm, hS, lv_sub hl [0, 1] rfl⟩
