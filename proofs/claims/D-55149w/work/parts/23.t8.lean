set_option maxRecDepth 100000
/-! the reference, method by method: what it computes (T_..), and that it does (tm_..) -/
theorem kd_grow {n m : Int} {a b : UInt32} (ha : kd false n a) (hb : kd false m b) (h1 : n ≤ 60 := by decide) (h2 : m ≤ 60 := by decide) (h3 : -120 ≤ n := by decide) (h4 : -120 ≤ m := by decide) : kd false 7 (T_most (T_least (FP.fsub a b)) (1112014848 : UInt32)) :=
  (kd_most (kd_least (n := max n m) (ha.up (by omega)) (hb.up (by omega)) (by omega) (by omega)) kd_50).up (by decide)
theorem kd_grows {g : Int32} {x w : UInt32} {r : Int32} {ml : Int32} (hw : kd false 7 w) (hx : kd false 12 x) (hm : ix 10 ml) : kd false 7 (T_most (T_least (FP.fsub (FP.fadd w (FP.fmul (FP.fmul w (if g = 0 then (1039516303 : UInt32) else (1031127695 : UInt32))) (FP.fdiv x (FP.fadd x (1103626240 : UInt32))))) (FP.fmul (FP.fmul (1017370378 : UInt32) (FP.i2f ml)) (FP.fadd w (FP.fmul (FP.fmul w (if g = 0 then (1039516303 : UInt32) else (1031127695 : UInt32))) (FP.fdiv x (FP.fadd x (1103626240 : UInt32)))))))) (1112014848 : UInt32)) := by
  have hb : kd false 0 (if g = 0 then (1039516303 : UInt32) else (1031127695 : UInt32)) := kd_by rfl
  have h1 : kd false 20 (FP.fadd w (FP.fmul (FP.fmul w (if g = 0 then (1039516303 : UInt32) else (1031127695 : UInt32))) (FP.fdiv x (FP.fadd x (1103626240 : UInt32))))) := kd.add (n := 18) (hw.up (by decide)) ((kd.mul (kd.mul hw hb) (kd.div25 hx)).up (by decide))
  exact kd_grow h1 (kd.mul (kd.mul kd_002 (kd_i2f (hm.mono (by decide)))) h1)
theorem wf_grows {v : tw} {x : Int32} (hw : wf (t0 v) (t1 v)) (hx : ix 12 x) : wf (t0 (T_grows v x)) (t1 (T_grows v x)) := by
  obtain ⟨k, h1, h2, -⟩ := hx.cl 12 (by decide)
  exact hw.fG (kd_grows (r := 0) (hw.wgt hx) (hw.wat hx) (hw.mol hx)) (by rw [show ((12 : Int32) + x).toNatClampNeg = _ from h2]; omega) (by rw [show ((12 : Int32) + x).toNatClampNeg = _ from h2]; omega)
theorem wf_wets {v : tw} {x : Int32} (hw : wf (t0 v) (t1 v)) (hx : ix 12 x) : wf (t0 (u1 v (vf_upd (t1 v) ((0 : Int32) + x).toNatClampNeg (T_wetter v (t1 v ((0 : Int32) + x).toNatClampNeg))))) (t1 (u1 v (vf_upd (t1 v) ((0 : Int32) + x).toNatClampNeg (T_wetter v (t1 v ((0 : Int32) + x).toNatClampNeg))))) := by
  obtain ⟨k, h1, h2, -⟩ := hx.cl 0 (by decide)
  exact hw.fW (kd_wetter hw (hw.wat hx)) (by rw [show ((0 : Int32) + x).toNatClampNeg = _ from h2]; omega)
def mvF (g : Nat → Int32) (k : Nat) : Nat → Int32 := fun j => if 3 + k < j ∧ j ≤ 14 then g (j - 1) else g j
theorem mv_0 (g : Nat → Int32) : mvF g 11 = g := by funext j; unfold mvF; rw [if_neg (by omega)]
theorem mv_s (g : Nat → Int32) (k : Nat) (hk : 0 < k) (hk2 : k ≤ 11) : mvF g (k - 1) = upd (mvF g k) (((3 : Int32) + nI k)).toNatClampNeg (mvF g k ((((3 : Int32) + nI k) - (1 : Int32))).toNatClampNeg) := by
  have e1 : ((3 : Int32) + nI k).toNatClampNeg = 3 + k := cl_add 3 (by omega)
  have e2 : (((3 : Int32) + nI k) - (1 : Int32)).toNatClampNeg = 3 + (k - 1) := by
    rw [show ((3 : Int32) + nI k) = nI (3 + k) from nI_add 3 k, show 3 + k = (3 + (k - 1)) + 1 by omega, show nI (3 + (k - 1) + 1) - (1 : Int32) = nI (3 + (k - 1)) from nI_pred _, cl_nI (by omega)]
  rw [e1, e2]
  funext j
  unfold mvF upd
  dsimp only
  by_cases h : j = 3 + k
  · rw [if_pos h, if_pos (by omega), if_neg (by omega), h, show 3 + k - 1 = 3 + (k - 1) by omega]
  · rw [if_neg h]
    by_cases h2 : 3 + k < j ∧ j ≤ 14
    · rw [if_pos h2, if_pos (by omega)]
    · rw [if_neg h2, if_neg (by omega)]
theorem mv_ge {k : Nat} (hk : k ≤ 100) (c : nI k ≤ 0) : k = 0 := by
  rw [i_le, nI_toInt (by omega)] at c
  have : (0 : Int32).toInt = 0 := rfl
  omega
theorem mv_lt {k : Nat} (hk : k ≤ 100) (c : ¬ nI k ≤ 0) : 0 < k := by
  rw [i_le, nI_toInt (by omega)] at c
  have : (0 : Int32).toInt = 0 := rfl
  omega
theorem mv_pred {k : Nat} (hk : 0 < k) : nI k + (-1 : Int32) = nI (k - 1) := by
  obtain ⟨j, rfl⟩ : ∃ j, k = j + 1 := ⟨k - 1, by omega⟩
  have : nI (j + 1) - (1 : Int32) = nI j := nI_pred j
  rw [show j + 1 - 1 = j from rfl, ← this, Int32.sub_eq_add_neg]
theorem mv_in {k : Nat} (K n : Nat) (hk : 0 < k) (h : K + k ≤ n) (hn : n ≤ 2 ^ 20) : vp_in (((nI K + nI k) - (1 : Int32))) n := by
  rw [nI_add, show K + k = (K + (k - 1)) + 1 by omega, show nI (K + (k - 1) + 1) - (1 : Int32) = nI (K + (k - 1)) from nI_pred _]
  exact vp_in_nI (by omega) (by omega)
theorem updk {g : Nat → Int32} {i j : Nat} {r : Int32} {P : Int32 → Prop} (h : P (g j)) (hr : j = i → P r) : P (upd g i r j) := by
  by_cases hij : j = i
  · rw [show upd g i r j = r from if_pos hij]; exact hr hij
  · rw [show upd g i r j = g j from if_neg hij]; exact h
theorem wf.gO {g : Nat → Int32} {f : Nat → UInt32} {i : Nat} {r : Int32} (h : wf g f) (hi : 89 ≤ i) (hi2 : i < 96) : wf (upd g i r) f := by
  obtain ⟨h1, h2, h3, h4, h5, h6, h7, h8, h9, h10, h11⟩ := h
  exact ⟨updk h1 (fun e => by omega), updk h2 (fun e => by omega), updk h3 (fun e => by omega), updk h4 (fun e => by omega), updk h5 (fun e => by omega), fun k hk => updk (h6 k hk) (fun e => by omega), fun k hk => updk (P := fun z => z = -1 ∨ ix 12 z) (h7 k hk) (fun e => by omega), fun k hk => updk (h8 k hk) (fun e => by omega), h9, h10, h11⟩
def T_movesMoles (v : tw)  : tw :=
  (u0 v (upd (mvF (t0 v) 0) ((3 : Int32)).toNatClampNeg (t0 v ((14 : Int32)).toNatClampNeg)))
set_option maxHeartbeats 4000000 in
theorem tm_movesMoles (l : Launch) (E : mE) (h : Nat) (v : tw)   : Met l yX10_movesMoles (ws_ yX10_movesMoles cX10_movesMoles 3 none) ({ frames := 0, cells := 0, slots := 0, locals := 0 }) (va_Pc [.ref h] (tP E h v)) (va_Qv (fun (u : tw) => u = T_movesMoles v ) (fun u U => tW E h u U.heap) (eA E)) 0 0 (eA E) := by
  refine Met.ofW (cc := cX10_movesMoles) (maxL := 3) (ret := none) (by decide) rfl ?_
  intro p e s m args below meth c s₁ B hml hv
  obtain ⟨rfl, hs, hm⟩ := hv
  have hx := B.exec
  have hb := B.bytes
  have hr := B.returns
  have hts := atoms_spec (ws := ws_ yX10_movesMoles cX10_movesMoles 3 none) B.pre
  have hts : ∀ w ∈ lw_all, w.before _ s = true := fun w h => hts w (List.mem_cons_of_mem _ h)
  have hown : s.vm.findClass RX10 = some m.cls := findClass_of_methodNamed B.named
  have hlocks := B.notSynchronized
  have hS : va_S (eA E) s.heap s.heap [] := va_S.rf
  have hl := lv_entry ([.ref h]) (n := 3) (Nat.le_of_ble_eq_true rfl)
  rw [lg_entry_eq]
  generalize (lg_sl ([.ref h]) ++ List.replicate (3 - (lg_sl ([.ref h])).length) Slot.unset).toArray = ls at hl ⊢
  have hl : lv_has ls 3 [(0, .ref (h))] := hl
  refine lv_aload_n hx hb dX10_movesMoles_0 rfl (lv_at hl 0 rfl) ?_
  refine tg_0 hx hb hts hown hs hm (hts _ q1674) dX10_movesMoles_1 ?_
  refine lv_bipush (v := (14 : Int32)) hx hb dX10_movesMoles_4 (by decide) ?_
  refine tl_0 hx hb hs hm (vi 14 (by decide) (by decide)) dX10_movesMoles_6 ?_
  refine lv_istore_n (lv' := [(1, _), (0, _)]) hx hb dX10_movesMoles_7 rfl hl (by decide) rfl (fun ls hl => ?_)
  refine lv_bipush (v := (11 : Int32)) hx hb dX10_movesMoles_8 (by decide) ?_
  refine lv_istore_n (lv' := [(2, _), (1, _), (0, _)]) hx hb dX10_movesMoles_10 rfl hl (by decide) rfl (fun ls hl => ?_)
  refine k_loop (fun k => k) (fun (k : Nat) H locs ls => (k ≤ 11) ∧ tW E h ((u0 v (mvF (t0 v) k))) H ∧ va_S (eA E) s.heap H locs ∧ lv_has ls 3 [(2, .int (nI k)), (1, .int ((t0 v ((14 : Int32)).toNatClampNeg))), (0, .ref (h))]) (fun (k : Nat) ls => F0 m 11 ls []) (fun k => (0, 0)) (fun k ih_1 H locs ls hP => ?_) (11) ⟨(Nat.le_refl _), (by rw [mv_0]; exact hm), hS, lv_sub hl [0, 1, 2] rfl⟩
  obtain ⟨hI_1, hm, hS, hl⟩ := hP
  refine lv_iload_n hx hb dX10_movesMoles_11 rfl (lv_at hl 0 rfl) ?_
  refine lv_if_le (tgt := 39) hx hb dX10_movesMoles_12 (by decide) (fun c_2 => ?_) (fun c_2 => ?_)
  · have hkN : k = 0 := mv_ge (by omega) c_2
    replace hkN := hkN.symm
    subst hkN
    refine lv_aload_n hx hb dX10_movesMoles_39 rfl (lv_at hl 2 rfl) ?_
    refine tg_0 hx hb hts hown hs hm (hts _ q1674) dX10_movesMoles_40 ?_
    refine lv_iconst (v := (3 : Int32)) hx hb dX10_movesMoles_43 (by decide) ?_
    refine lv_iload_n hx hb dX10_movesMoles_44 rfl (lv_at hl 1 rfl) ?_
    refine ts_0 hx hb hs hm hS (vi 3 (by decide) (by decide)) dX10_movesMoles_45 (fun H locs hm hS => ?_)
    have hm : tW E h (u0 v (upd (mvF (t0 v) 0) ((3 : Int32)).toNatClampNeg (t0 v ((14 : Int32)).toNatClampNeg))) H := hm
    exact W.vret hx hb hr (fun t9 ht9 _ => ⟨⟨_, rfl, (rfl).symm, hb9 ht9 hm⟩, hS.F ht9⟩) hS.2.2 dX10_movesMoles_46
  · have hk : 0 < k := mv_lt (by omega) c_2
    refine lv_aload_n hx hb dX10_movesMoles_15 rfl (lv_at hl 2 rfl) ?_
    refine tg_0 hx hb hts hown hs hm (hts _ q1674) dX10_movesMoles_16 ?_
    refine lv_iconst (v := (3 : Int32)) hx hb dX10_movesMoles_19 (by decide) ?_
    refine lv_iload_n hx hb dX10_movesMoles_20 rfl (lv_at hl 0 rfl) ?_
    refine lv_iadd hx hb dX10_movesMoles_21 ?_
    refine lv_aload_n hx hb dX10_movesMoles_22 rfl (lv_at hl 2 rfl) ?_
    refine tg_0 hx hb hts hown hs hm (hts _ q1674) dX10_movesMoles_23 ?_
    refine lv_iconst (v := (3 : Int32)) hx hb dX10_movesMoles_26 (by decide) ?_
    refine lv_iload_n hx hb dX10_movesMoles_27 rfl (lv_at hl 0 rfl) ?_
    refine lv_iadd hx hb dX10_movesMoles_28 ?_
    refine lv_iconst (v := (1 : Int32)) hx hb dX10_movesMoles_29 (by decide) ?_
    refine lv_isub hx hb dX10_movesMoles_30 ?_
    refine tl_0 hx hb hs hm (mv_in 3 112 hk (by omega) (by decide)) dX10_movesMoles_31 ?_
    refine ts_0 hx hb hs hm hS (ix.add 3 112 (⟨k, (by omega : k < 12), rfl⟩) (by decide) (by decide)) dX10_movesMoles_32 (fun H locs hm hS => ?_)
    have hm : tW E h (u0 v (upd (mvF (t0 v) k) (((3 : Int32) + nI k)).toNatClampNeg ((mvF (t0 v) k) ((((3 : Int32) + nI k) - (1 : Int32))).toNatClampNeg))) H := hm
    refine lv_iinc (v := nI (k - 1)) (lv' := [(2, _), (1, _), (0, _)]) hx hb dX10_movesMoles_33 hl (k := 0) rfl (mv_pred hk) (by decide) rfl (fun ls hl => ?_)
    refine lv_goto (tgt := 11) hx hb dX10_movesMoles_36 (by decide) ?_
    exact ih_1 (k - 1) (by omega) _ _ _ ⟨(by omega), (by rw [mv_s _ k hk hI_1]; exact hm), hS, lv_sub hl [0, 1, 2] rfl⟩

def stepS (z : Int32 × tw) (k : Nat) : Int32 × tw :=
  let x8 := if (t0 z.2 (((89 : Int32) + nI k)).toNatClampNeg) = (1 : Int32) then (1 : Int32) else (0 : Int32);
  let x10 := if x8 = 0 then (0 : Int32) else let r_19 := T_holds z.2 (nI k) ((t0 z.2 ((1 : Int32)).toNatClampNeg)); if r_19 = 0 then (0 : Int32) else (1 : Int32);
  let x12 := if x8 = 0 then (0 : Int32) else if x10 = 0 then (1 : Int32) else (0 : Int32);
  let x14 := if x10 = 0 then (0 : Int32) else (1 : Int32);
  let x16 := if x10 = 0 then FP.fconst0 else let r_17 := T_most ((FP.fadd (t1 z.2 (((24 : Int32) + nI k)).toNatClampNeg) (FP.fmul (1075838976 : UInt32) (FP.i2f ((upd (t0 z.2) (((89 : Int32) + nI k)).toNatClampNeg x14) ((2 : Int32)).toNatClampNeg))))) ((1119092736 : UInt32)); r_17;
  ((z.1 + x12), (u1 (u0 z.2 (upd (t0 z.2) (((89 : Int32) + nI k)).toNatClampNeg x14)) (vf_upd (t1 z.2) (((24 : Int32) + nI k)).toNatClampNeg x16)))
def shedP (v : tw) : Nat → Int32 × tw
  | 0 => (0, v)
  | k + 1 => stepS (shedP v k) k
  termination_by k => k
theorem kd_ite {c : Prop} [Decidable c] {s : Bool} {n : Int} {a b : UInt32} (ha : kd s n a) (hb : kd s n b) : kd s n (if c then a else b) := by
  split
  · exact ha
  · exact hb
theorem stepS_ex {z : Int32 × tw} (hw : wf (t0 z.2) (t1 z.2)) {k : Nat} (hk : k < 4) : ∃ (x15 : Int32) (x17 : UInt32), (stepS z k).2 = u1 (u0 z.2 (upd (t0 z.2) ((89 : Int32) + nI k).toNatClampNeg x15)) (vf_upd (t1 z.2) ((24 : Int32) + nI k).toNatClampNeg x17) ∧ kd false 7 x17 := by
  have e1 : ((89 : Int32) + nI k).toNatClampNeg = 89 + k := cl_add 89 (by omega)
  have hx : ix 4 (nI k) := ⟨k, hk, rfl⟩
  refine ⟨_, _, rfl, kd_ite (kd_0.up (by decide)) ((kd_most (n := 14) (kd.add (n := 12) ((hw.but hx).up (by decide)) ((kd.mul kd_25h (kd_i2f (wf.rain (f := t1 z.2) (hw.gO (by omega) (by omega)) |>.mono (by decide)))).up (by decide))) kd_90).up (by decide))⟩
theorem wf_stepS {z : Int32 × tw} (hw : wf (t0 z.2) (t1 z.2)) {k : Nat} (hk : k < 4) : wf (t0 (stepS z k).2) (t1 (stepS z k).2) := by
  have e1 : ((89 : Int32) + nI k).toNatClampNeg = 89 + k := cl_add 89 (by omega)
  have e2 : ((24 : Int32) + nI k).toNatClampNeg = 24 + k := cl_add 24 (by omega)
  obtain ⟨x15, x17, h1, h2⟩ := stepS_ex hw hk
  rw [h1]
  exact wf.fB (g := upd (t0 z.2) ((89 : Int32) + nI k).toNatClampNeg x15) (f := t1 z.2) (hw.gO (by omega) (by omega)) h2 (by omega)
theorem shedP_0 (v : tw) : shedP v 0 = (0, v) := by rw [shedP]
theorem shedP_s (v : tw) (k : Nat) : shedP v (k + 1) = stepS (shedP v k) k := by rw [shedP]
theorem stepS_c (z : Int32 × tw) {k : Nat} (hk : k < 4) {j : Nat} (hj : j < 89) : t0 (stepS z k).2 j = t0 z.2 j := by
  have e1 : ((89 : Int32) + nI k).toNatClampNeg = 89 + k := cl_add 89 (by omega)
  obtain ⟨x15, x17, h1⟩ : ∃ (x15 : Int32) (x17 : UInt32), (stepS z k).2 = u1 (u0 z.2 (upd (t0 z.2) ((89 : Int32) + nI k).toNatClampNeg x15)) (vf_upd (t1 z.2) ((24 : Int32) + nI k).toNatClampNeg x17) := ⟨_, _, rfl⟩
  rw [h1]
  exact upd_off (by omega)
theorem shedP_c (v : tw) {j : Nat} (hj : j < 89) : ∀ k, k ≤ 4 → t0 (shedP v k).2 j = t0 v j
  | 0, _ => by rw [shedP_0]
  | k + 1, hk => by rw [shedP_s]; exact (stepS_c _ (by omega) hj).trans (shedP_c v hj k (by omega))
theorem wf_shedP {v : tw} (hw : wf (t0 v) (t1 v)) : ∀ k, k ≤ 4 → wf (t0 (shedP v k).2) (t1 (shedP v k).2)
  | 0, _ => by rw [shedP_0]; exact hw
  | k + 1, hk => by rw [shedP_s]; exact wf_stepS (wf_shedP hw k (by omega)) (by omega)
theorem shed_le {v : tw} {k : Nat} {x : Int32} (hk : k ≤ 4) (c : t0 (shedP v k).2 ((80 : Int32)).toNatClampNeg ≤ x) : t0 v ((80 : Int32)).toNatClampNeg ≤ x := (shedP_c v (j := ((80 : Int32)).toNatClampNeg) (by decide) k hk) ▸ c
theorem shed_nle {v : tw} {k : Nat} {x : Int32} (hk : k ≤ 4) (c : ¬ t0 (shedP v k).2 ((80 : Int32)).toNatClampNeg ≤ x) : ¬ t0 v ((80 : Int32)).toNatClampNeg ≤ x := (shedP_c v (j := ((80 : Int32)).toNatClampNeg) (by decide) k hk) ▸ c
def stepP (z : tw) (k : Nat) : tw :=
  let r_23 := T_wetter z ((t1 z (((0 : Int32) + nI k)).toNatClampNeg));
  let x25 := if (t0 z (((27 : Int32) + nI k)).toNatClampNeg) = (-1 : Int32) then (u1 z (vf_upd (t1 z) (((0 : Int32) + nI k)).toNatClampNeg r_23)) else let u_26 := T_grows (u1 z (vf_upd (t1 z) (((0 : Int32) + nI k)).toNatClampNeg r_23)) (nI k); u_26;
  x25
def dayP (v : tw) : Nat → tw
  | 0 => v
  | k + 1 => stepP (dayP v k) k
  termination_by k => k
theorem dayP_0 (v : tw) : dayP v 0 = v := by rw [dayP]
theorem dayP_s (v : tw) (k : Nat) : dayP v (k + 1) = stepP (dayP v k) k := by rw [dayP]
theorem wf_stepP {v : tw} (hw : wf (t0 v) (t1 v)) {k : Nat} (hk : k < 12) : wf (t0 (stepP v k)) (t1 (stepP v k)) := by
  have hx : ix 12 (nI k) := ⟨k, hk, rfl⟩
  have h1 := wf_wets hw hx
  unfold stepP
  dsimp only
  split
  · exact h1
  · exact wf_grows h1 hx
theorem wf_dayP {v : tw} (hw : wf (t0 v) (t1 v)) : ∀ k, k ≤ 12 → wf (t0 (dayP v k)) (t1 (dayP v k))
  | 0, _ => by rw [dayP_0]; exact hw
  | k + 1, hk => by rw [dayP_s]; exact wf_stepP (wf_dayP hw k (by omega)) (by omega)
def T_goesDay (v : tw)  : Int32 × tw :=
  let x1 := (dayP v 12);
  let x5 := if ((t0 (shedP x1 ((t0 x1 ((80 : Int32)).toNatClampNeg).toNatClampNeg)).2 ((0 : Int32)).toNatClampNeg) - (t0 (shedP x1 ((t0 x1 ((80 : Int32)).toNatClampNeg).toNatClampNeg)).2 ((0 : Int32)).toNatClampNeg) / (3 : Int32) * (3 : Int32)) = 0 then let u_6 := T_movesMoles (shedP x1 ((t0 x1 ((80 : Int32)).toNatClampNeg).toNatClampNeg)).2 ; u_6 else (shedP x1 ((t0 x1 ((80 : Int32)).toNatClampNeg).toNatClampNeg)).2;
  ((shedP x1 ((t0 x1 ((80 : Int32)).toNatClampNeg).toNatClampNeg)).1, (u0 x5 (upd (t0 x5) ((0 : Int32)).toNatClampNeg ((t0 x5 ((0 : Int32)).toNatClampNeg) + (1 : Int32)))))
set_option maxHeartbeats 4000000 in
theorem tm_goesDay (l : Launch) (E : mE) (h : Nat) (v : tw)  (hw : wf (t0 v) (t1 v)) : Met l yX10_goesDay (ws_ yX10_goesDay cX10_goesDay 5 (some .int)) ({ frames := 2, cells := 0, slots := 0, locals := 45 }) (va_Pc [.ref h] (tP E h v)) (va_Qi (fun (r : Int32) (u : tw) => r = (T_goesDay v ).1 ∧ u = (T_goesDay v ).2) (fun u U => tW E h u U.heap) (eA E)) 0 0 (eA E) := by
  refine Met.ofW (cc := cX10_goesDay) (maxL := 5) (ret := (some .int)) (by decide) rfl ?_
  intro p e s m args below meth c s₁ B hml hv
  obtain ⟨rfl, hs, hm⟩ := hv
  have hx := B.exec
  have hb := B.bytes
  have hr := B.returns
  have hts := atoms_spec (ws := ws_ yX10_goesDay cX10_goesDay 5 (some .int)) B.pre
  have hts : ∀ w ∈ lw_all, w.before _ s = true := fun w h => hts w (List.mem_cons_of_mem _ h)
  have hown : s.vm.findClass RX10 = some m.cls := findClass_of_methodNamed B.named
  have hlocks := B.notSynchronized
  have hS : va_S (eA E) s.heap s.heap [] := va_S.rf
  have hl := lv_entry ([.ref h]) (n := 5) (Nat.le_of_ble_eq_true rfl)
  rw [lg_entry_eq]
  generalize (lg_sl ([.ref h]) ++ List.replicate (5 - (lg_sl ([.ref h])).length) Slot.unset).toArray = ls at hl ⊢
  have hl : lv_has ls 5 [(0, .ref (h))] := hl
  refine lv_iconst (v := (0 : Int32)) hx hb dX10_goesDay_0 (by decide) ?_
  refine lv_istore_n (lv' := [(1, _), (0, _)]) hx hb dX10_goesDay_1 rfl hl (by decide) rfl (fun ls hl => ?_)
  refine lv_iconst (v := (0 : Int32)) hx hb dX10_goesDay_2 (by decide) ?_
  refine lv_istore_n (lv' := [(2, _), (1, _), (0, _)]) hx hb dX10_goesDay_3 rfl hl (by decide) rfl (fun ls hl => ?_)
  refine k_join (fun (x1 : tw) H locs ls => x1 = (dayP v 12) ∧ tW E h (x1) H ∧ va_S (eA E) s.heap H locs ∧ lv_has ls 5 [(1, .int ((0 : Int32))), (0, .ref (h))]) (fun (_ : tw) ls => F0 m 54 ls []) (fun x1 H locs ls hJ => ?_) (fun J1 => ?_)
  · obtain ⟨hX1, hm, hS, hl⟩ := hJ
    have hw := wf_dayP hw 12 (by decide)
    rw [← hX1] at hw
    refine lv_iconst (v := (0 : Int32)) hx hb dX10_goesDay_54 (by decide) ?_
    refine lv_istore_n (lv' := [(2, _), (1, _), (0, _)]) hx hb dX10_goesDay_55 rfl hl (by decide) rfl (fun ls hl => ?_)
    refine k_loop (fun k => (t0 x1 ((80 : Int32)).toNatClampNeg).toNatClampNeg - k) (fun (k : Nat) H locs ls => (k ≤ (t0 x1 ((80 : Int32)).toNatClampNeg).toNatClampNeg) ∧ tW E h ((shedP x1 k).2) H ∧ va_S (eA E) s.heap H locs ∧ lv_has ls 5 [(2, .int (nI k)), (1, .int ((shedP x1 k).1)), (0, .ref (h))]) (fun (k : Nat) ls => F0 m 56 ls []) (fun k => (0, 0)) (fun k ih_2 H locs ls hP => ?_) (0) ⟨(Nat.zero_le _), (by rw [shedP_0]; exact hm), hS, (by rw [shedP_0]; exact lv_sub hl [0, 1, 2] rfl)⟩
    obtain ⟨hI_2, hm, hS, hl⟩ := hP
    have hn5 := (hw.shd.nat (by decide)).1
    have hk4 : k ≤ 4 := Nat.le_trans hI_2 (Nat.le_of_lt_succ hn5)
    refine lv_iload_n hx hb dX10_goesDay_56 rfl (lv_at hl 0 rfl) ?_
    refine lv_aload_n hx hb dX10_goesDay_57 rfl (lv_at hl 2 rfl) ?_
    refine tg_0 hx hb hts hown hs hm (hts _ q1674) dX10_goesDay_58 ?_
    refine lv_bipush (v := (80 : Int32)) hx hb dX10_goesDay_61 (by decide) ?_
    refine tl_0 hx hb hs hm (vi 80 (by decide) (by decide)) dX10_goesDay_63 ?_
    refine lv_icmp_ge (tgt := 196) hx hb dX10_goesDay_64 (by decide) (fun c_3 => ?_) (fun c_3 => ?_)
    · have hkN : k = (t0 x1 ((80 : Int32)).toNatClampNeg).toNatClampNeg := lp_geI hw.shd (by decide) hI_2 (shed_le (by omega) c_3)
      replace hkN := hkN.symm
      subst hkN
      refine lv_aload_n hx hb dX10_goesDay_196 rfl (lv_at hl 2 rfl) ?_
      refine tg_0 hx hb hts hown hs hm (hts _ q1674) dX10_goesDay_197 ?_
      refine lv_iconst (v := (0 : Int32)) hx hb dX10_goesDay_200 (by decide) ?_
      refine tl_0 hx hb hs hm (vi 0 (by decide) (by decide)) dX10_goesDay_201 ?_
      refine lv_iconst (v := (3 : Int32)) hx hb dX10_goesDay_202 (by decide) ?_
      refine lv_irem hx hb dX10_goesDay_203 (by decide) ?_
      refine k_join (fun (x5 : tw) H locs ls => x5 = (if ((t0 (shedP x1 ((t0 x1 ((80 : Int32)).toNatClampNeg).toNatClampNeg)).2 ((0 : Int32)).toNatClampNeg) - (t0 (shedP x1 ((t0 x1 ((80 : Int32)).toNatClampNeg).toNatClampNeg)).2 ((0 : Int32)).toNatClampNeg) / (3 : Int32) * (3 : Int32)) = 0 then let u_6 := T_movesMoles (shedP x1 ((t0 x1 ((80 : Int32)).toNatClampNeg).toNatClampNeg)).2 ; u_6 else (shedP x1 ((t0 x1 ((80 : Int32)).toNatClampNeg).toNatClampNeg)).2) ∧ tW E h (x5) H ∧ va_S (eA E) s.heap H locs ∧ lv_has ls 5 [(2, .int (nI ((t0 x1 ((80 : Int32)).toNatClampNeg).toNatClampNeg))), (1, .int ((shedP x1 ((t0 x1 ((80 : Int32)).toNatClampNeg).toNatClampNeg)).1)), (0, .ref (h))]) (fun (x5 : tw) ls => F0 m 211 ls []) (fun x5 H locs ls hJ => ?_) (fun J5 => ?_)
      · obtain ⟨hX5, hm, hS, hl⟩ := hJ
        refine lv_aload_n hx hb dX10_goesDay_211 rfl (lv_at hl 2 rfl) ?_
        refine tg_0 hx hb hts hown hs hm (hts _ q1674) dX10_goesDay_212 ?_
        refine lv_iconst (v := (0 : Int32)) hx hb dX10_goesDay_215 (by decide) ?_
        refine lv_dup2_11 hx hb dX10_goesDay_216 rfl rfl ?_
        refine tl_0 hx hb hs hm (vi 0 (by decide) (by decide)) dX10_goesDay_217 ?_
        refine lv_iconst (v := (1 : Int32)) hx hb dX10_goesDay_218 (by decide) ?_
        refine lv_iadd hx hb dX10_goesDay_219 ?_
        refine ts_0 hx hb hs hm hS (vi 0 (by decide) (by decide)) dX10_goesDay_220 (fun H locs hm hS => ?_)
        have hm : tW E h (u0 x5 (upd (t0 x5) ((0 : Int32)).toNatClampNeg ((t0 x5 ((0 : Int32)).toNatClampNeg) + (1 : Int32)))) H := hm
        refine lv_iload_n hx hb dX10_goesDay_221 rfl (lv_at hl 1 rfl) ?_
        subst hX5
        subst hX1
        exact W.iret (v := _) hx hb hr (fun t9 ht9 _ => ⟨⟨_, _, rfl, pp (rfl), hb9 ht9 hm⟩, hS.F ht9⟩) hS.2.2 dX10_goesDay_222
      · refine lv_if_ne (tgt := 211) hx hb dX10_goesDay_204 (by decide) (fun c_4 => ?_) (fun c_4 => ?_)
        · exact J5 ((shedP x1 ((t0 x1 ((80 : Int32)).toNatClampNeg).toNatClampNeg)).2) _ _ _ ⟨((if_neg c_4).trans (rfl)).symm, hm, hS, lv_sub hl [0, 1, 2] rfl⟩
        · refine lv_aload_n hx hb dX10_goesDay_207 rfl (lv_at hl 2 rfl) ?_
          refine k_callv (va_runV (As := []) (rest := []) ⟨hx, hb, hml, hown, hts⟩ (tm_movesMoles l E h (shedP x1 ((t0 x1 ((80 : Int32)).toNatClampNeg).toNatClampNeg)).2  ) (cwV 0 hts (lw_V q1884 q1886 qs38 q80 q1887) rfl rfl rfl (by decide +kernel) ⟨Nat.le_of_ble_eq_true rfl, Nat.le_of_ble_eq_true rfl⟩) (k_preVt hs hm hS) rfl rfl hl.1 rfl (lv_room (Nat.le_of_ble_eq_true rfl)) dX10_goesDay_208 ⟨Nat.le_of_ble_eq_true rfl, Nat.le_of_ble_eq_true rfl⟩) hS (fun u_6 H9 locs hw_6 hm_6 hS => ?_)
          have hu_6 := hw_6
          have hm := hm_6
          subst hu_6
          exact J5 (_) _ _ _ ⟨((if_pos c_4).trans (rfl)).symm, hm, hS, lv_sub hl [0, 1, 2] rfl⟩
    · have hk : k < (t0 x1 ((80 : Int32)).toNatClampNeg).toNatClampNeg := lp_ltI hw.shd (by decide) hI_2 (shed_nle (by omega) c_3)
      have hk4 : k < 4 := Nat.lt_of_lt_of_le hk (Nat.le_of_lt_succ hn5)
      have hw := wf_shedP hw k (by omega)
      have e89 : ((89 : Int32) + nI k).toNatClampNeg = 89 + k := cl_add 89 (by omega)
      refine lv_aload_n hx hb dX10_goesDay_67 rfl (lv_at hl 2 rfl) ?_
      refine tg_0 hx hb hts hown hs hm (hts _ q1674) dX10_goesDay_68 ?_
      refine lv_bipush (v := (89 : Int32)) hx hb dX10_goesDay_71 (by decide) ?_
      refine lv_iload_n hx hb dX10_goesDay_73 rfl (lv_at hl 0 rfl) ?_
      refine lv_iadd hx hb dX10_goesDay_74 ?_
      refine tl_0 hx hb hs hm (ix.add 89 112 (⟨k, hk4, rfl⟩) (by decide) (by decide)) dX10_goesDay_75 ?_
      refine lv_iconst (v := (1 : Int32)) hx hb dX10_goesDay_76 (by decide) ?_
      refine k_join (fun (x8 : Int32) H locs ls => x8 = (if (t0 (shedP x1 k).2 (((89 : Int32) + nI k)).toNatClampNeg) = (1 : Int32) then (1 : Int32) else (0 : Int32)) ∧ tW E h ((shedP x1 k).2) H ∧ va_S (eA E) s.heap H locs ∧ lv_has ls 5 [(2, .int (nI k)), (1, .int ((shedP x1 k).1)), (0, .ref (h))]) (fun (x8 : Int32) ls => F0 m 85 ls [.int (x8)]) (fun x8 H locs ls hJ => ?_) (fun J8 => ?_)
      · obtain ⟨hX8, hm, hS, hl⟩ := hJ
        refine lv_istore_n (lv' := [(3, _), (2, _), (1, _), (0, _)]) hx hb dX10_goesDay_85 rfl hl (by decide) rfl (fun ls hl => ?_)
        refine lv_iload_n hx hb dX10_goesDay_86 rfl (lv_at hl 0 rfl) ?_
        refine k_join (fun (x10 : Int32) H locs ls => x10 = (if x8 = 0 then (0 : Int32) else let r_19 := T_holds (shedP x1 k).2 (nI k) ((t0 (shedP x1 k).2 ((1 : Int32)).toNatClampNeg)); if r_19 = 0 then (0 : Int32) else (1 : Int32)) ∧ tW E h ((shedP x1 k).2) H ∧ va_S (eA E) s.heap H locs ∧ lv_has ls 5 [(3, .int (x8)), (2, .int (nI k)), (1, .int ((shedP x1 k).1)), (0, .ref (h))]) (fun (x10 : Int32) ls => F0 m 109 ls [.int (x10)]) (fun x10 H locs ls hJ => ?_) (fun J10 => ?_)
        · obtain ⟨hX10, hm, hS, hl⟩ := hJ
          refine lv_istore (lv' := [(4, _), (3, _), (2, _), (1, _), (0, _)]) hx hb dX10_goesDay_109 hl (by decide) rfl (fun ls hl => ?_)
          refine lv_iload_n hx hb dX10_goesDay_111 rfl (lv_at hl 3 rfl) ?_
          refine lv_iload_n hx hb dX10_goesDay_112 rfl (lv_at hl 1 rfl) ?_
          refine k_join (fun (x12 : Int32) H locs ls => x12 = (if x8 = 0 then (0 : Int32) else if x10 = 0 then (1 : Int32) else (0 : Int32)) ∧ tW E h ((shedP x1 k).2) H ∧ va_S (eA E) s.heap H locs ∧ lv_has ls 5 [(4, .int (x10)), (3, .int (x8)), (2, .int (nI k)), (1, .int ((shedP x1 k).1)), (0, .ref (h))]) (fun (x12 : Int32) ls => F0 m 126 ls [.int (x12), .int ((shedP x1 k).1)]) (fun x12 H locs ls hJ => ?_) (fun J12 => ?_)
          · obtain ⟨hX12, hm, hS, hl⟩ := hJ
            refine lv_iadd hx hb dX10_goesDay_126 ?_
            refine lv_istore_n (lv' := [(1, _), (4, _), (3, _), (2, _), (0, _)]) hx hb dX10_goesDay_127 rfl hl (by decide) rfl (fun ls hl => ?_)
            refine lv_aload_n hx hb dX10_goesDay_128 rfl (lv_at hl 4 rfl) ?_
            refine tg_0 hx hb hts hown hs hm (hts _ q1674) dX10_goesDay_129 ?_
            refine lv_bipush (v := (89 : Int32)) hx hb dX10_goesDay_132 (by decide) ?_
            refine lv_iload_n hx hb dX10_goesDay_134 rfl (lv_at hl 3 rfl) ?_
            refine lv_iadd hx hb dX10_goesDay_135 ?_
            refine lv_iload hx hb dX10_goesDay_136 (lv_at hl 1 rfl) ?_
            refine k_join (fun (x14 : Int32) H locs ls => x14 = (if x10 = 0 then (0 : Int32) else (1 : Int32)) ∧ tW E h ((shedP x1 k).2) H ∧ va_S (eA E) s.heap H locs ∧ lv_has ls 5 [(1, .int (((shedP x1 k).1 + x12))), (4, .int (x10)), (3, .int (x8)), (2, .int (nI k)), (0, .ref (h))]) (fun (x14 : Int32) ls => F0 m 146 ls [.int (x14), .int (((89 : Int32) + nI k)), .ref (h + 1)]) (fun x14 H locs ls hJ => ?_) (fun J14 => ?_)
            · obtain ⟨hX14, hm, hS, hl⟩ := hJ
              refine ts_0 hx hb hs hm hS (ix.add 89 112 (⟨k, hk4, rfl⟩) (by decide) (by decide)) dX10_goesDay_146 (fun H locs hm hS => ?_)
              have hm : tW E h (u0 (shedP x1 k).2 (upd (t0 (shedP x1 k).2) (((89 : Int32) + nI k)).toNatClampNeg x14)) H := hm
              refine lv_aload_n hx hb dX10_goesDay_147 rfl (lv_at hl 4 rfl) ?_
              refine tg_1 hx hb hts hown hs hm (hts _ q1675) dX10_goesDay_148 ?_
              refine lv_bipush (v := (24 : Int32)) hx hb dX10_goesDay_151 (by decide) ?_
              refine lv_iload_n hx hb dX10_goesDay_153 rfl (lv_at hl 3 rfl) ?_
              refine lv_iadd hx hb dX10_goesDay_154 ?_
              refine lv_iload hx hb dX10_goesDay_155 (lv_at hl 1 rfl) ?_
              refine k_join (fun (x16 : UInt32) H locs ls => x16 = (if x10 = 0 then FP.fconst0 else let r_17 := T_most ((FP.fadd (t1 (shedP x1 k).2 (((24 : Int32) + nI k)).toNatClampNeg) (FP.fmul (1075838976 : UInt32) (FP.i2f ((upd (t0 (shedP x1 k).2) (((89 : Int32) + nI k)).toNatClampNeg x14) ((2 : Int32)).toNatClampNeg))))) ((1119092736 : UInt32)); r_17) ∧ tW E h ((u0 (shedP x1 k).2 (upd (t0 (shedP x1 k).2) (((89 : Int32) + nI k)).toNatClampNeg x14))) H ∧ va_S (eA E) s.heap H locs ∧ lv_has ls 5 [(1, .int (((shedP x1 k).1 + x12))), (4, .int (x10)), (3, .int (x8)), (2, .int (nI k)), (0, .ref (h))]) (fun (x16 : UInt32) ls => F0 m 189 ls [.float (x16), .int (((24 : Int32) + nI k)), .ref (h + 2)]) (fun x16 H locs ls hJ => ?_) (fun J16 => ?_)
              · obtain ⟨hX16, hm, hS, hl⟩ := hJ
                refine ts_1 hx hb hs hm hS (ix.add 24 33 (⟨k, hk4, rfl⟩) (by decide) (by decide)) dX10_goesDay_189 (fun H locs hm hS => ?_)
                have hm : tW E h (u1 (u0 (shedP x1 k).2 (upd (t0 (shedP x1 k).2) (((89 : Int32) + nI k)).toNatClampNeg x14)) (vf_upd (t1 (shedP x1 k).2) (((24 : Int32) + nI k)).toNatClampNeg x16)) H := hm
                refine lv_iinc (v := nI (k + 1)) (lv' := [(2, _), (1, _), (4, _), (3, _), (0, _)]) hx hb dX10_goesDay_190 hl (k := 3) rfl (nI_succ k).symm (by decide) rfl (fun ls hl => ?_)
                refine lv_goto (tgt := 56) hx hb dX10_goesDay_193 (by decide) ?_
                subst hX16
                subst hX14
                subst hX12
                subst hX10
                subst hX8
                have hE : shedP x1 (k + 1) = _ := (shedP_s _ k).trans (rfl)
                exact ih_2 (k + 1) (by omega) _ _ _ ⟨(by omega), (by rw [hE]; exact hm), hS, (by rw [hE]; exact lv_sub hl [0, 1, 4] rfl)⟩
              · refine lv_if_eq (tgt := 188) hx hb dX10_goesDay_157 (by decide) (fun c_15 => ?_) (fun c_15 => ?_)
                · refine lv_fconst0 hx hb dX10_goesDay_188 ?_
                  exact J16 (FP.fconst0) _ _ _ ⟨((if_pos c_15).trans (rfl)).symm, hm, hS, lv_sub hl [0, 1, 2, 3, 4] rfl⟩
                · refine lv_aload_n hx hb dX10_goesDay_160 rfl (lv_at hl 4 rfl) ?_
                  refine tg_1 hx hb hts hown hs hm (hts _ q1675) dX10_goesDay_161 ?_
                  refine lv_bipush (v := (24 : Int32)) hx hb dX10_goesDay_164 (by decide) ?_
                  refine lv_iload_n hx hb dX10_goesDay_166 rfl (lv_at hl 3 rfl) ?_
                  refine lv_iadd hx hb dX10_goesDay_167 ?_
                  refine tl_1 hx hb hs hm (ix.add 24 33 (⟨k, hk4, rfl⟩) (by decide) (by decide)) dX10_goesDay_168 ?_
                  refine lv_ldcf (v := 1075838976) hx hb hown (hts _ q1882) dX10_goesDay_169 ?_
                  refine lv_aload_n hx hb dX10_goesDay_171 rfl (lv_at hl 4 rfl) ?_
                  refine tg_0 hx hb hts hown hs hm (hts _ q1674) dX10_goesDay_172 ?_
                  refine lv_iconst (v := (2 : Int32)) hx hb dX10_goesDay_175 (by decide) ?_
                  refine tl_0 hx hb hs hm (vi 2 (by decide) (by decide)) dX10_goesDay_176 ?_
                  refine lv_i2f hx hb dX10_goesDay_177 ?_
                  refine lv_fmul hx hb dX10_goesDay_178 ((kd.mul (kd_25h) ((kd_i2f (((wf.rain (f := t1 (shedP x1 k).2) (hw.gO (by rw [e89]; omega) (by rw [e89]; omega)))).mono (by decide)))))).nan ?_
                  refine lv_fadd hx hb dX10_goesDay_179 ((kd.add (n := 10) (((hw).but (⟨k, hk4, rfl⟩)).up (by decide)) (((kd.mul (kd_25h) ((kd_i2f (((wf.rain (f := t1 (shedP x1 k).2) (hw.gO (by rw [e89]; omega) (by rw [e89]; omega)))).mono (by decide)))))).up (by decide)))).nan ?_
                  refine lv_ldcf (v := 1119092736) hx hb hown (hts _ q1883) dX10_goesDay_180 ?_
                  refine k_callf (va_runS (As := [.float ((FP.fadd (t1 (shedP x1 k).2 (((24 : Int32) + nI k)).toNatClampNeg) (FP.fmul (1075838976 : UInt32) (FP.i2f ((upd (t0 (shedP x1 k).2) (((89 : Int32) + nI k)).toNatClampNeg x14) ((2 : Int32)).toNatClampNeg))))), .float ((1119092736 : UInt32))]) (rest := [.int (((24 : Int32) + nI k)), .ref (h + 2)]) ⟨hx, hb, hml, hown, hts⟩ (tm_most l E ((FP.fadd (t1 (shedP x1 k).2 (((24 : Int32) + nI k)).toNatClampNeg) (FP.fmul (1075838976 : UInt32) (FP.i2f ((upd (t0 (shedP x1 k).2) (((89 : Int32) + nI k)).toNatClampNeg x14) ((2 : Int32)).toNatClampNeg))))) ((1119092736 : UInt32)) _) (va_cwS 2 hts (lw_S q1847 q1848 q80 q1849) rfl rfl rfl (by decide +kernel) ⟨Nat.le_of_ble_eq_true rfl, Nat.le_of_ble_eq_true rfl⟩) (k_pure hs hS) rfl rfl hl.1 rfl (lv_room (Nat.le_of_ble_eq_true rfl)) dX10_goesDay_182 ⟨Nat.le_of_ble_eq_true rfl, Nat.le_of_ble_eq_true rfl⟩) hS (fun r_17 u_17 H9 locs hw_17 hm_17 hS => ?_)
                  replace hm_17 : _ = H9 := Eq.symm hm_17
                  subst hm_17
                  have hr_17 := hw_17
                  refine lv_goto (tgt := 189) hx hb dX10_goesDay_185 (by decide) ?_
                  subst hr_17
                  exact J16 (_) _ _ _ ⟨((if_neg c_15).trans (rfl)).symm, hm, hS, lv_sub hl [0, 1, 2, 3, 4] rfl⟩
            · refine lv_if_eq (tgt := 145) hx hb dX10_goesDay_138 (by decide) (fun c_13 => ?_) (fun c_13 => ?_)
              · refine lv_iconst (v := (0 : Int32)) hx hb dX10_goesDay_145 (by decide) ?_
                exact J14 ((0 : Int32)) _ _ _ ⟨((if_pos c_13).trans (rfl)).symm, hm, hS, lv_sub hl [0, 1, 2, 3, 4] rfl⟩
              · refine lv_iconst (v := (1 : Int32)) hx hb dX10_goesDay_141 (by decide) ?_
                refine lv_goto (tgt := 146) hx hb dX10_goesDay_142 (by decide) ?_
                exact J14 ((1 : Int32)) _ _ _ ⟨((if_neg c_13).trans (rfl)).symm, hm, hS, lv_sub hl [0, 1, 2, 3, 4] rfl⟩
          · refine lv_if_eq (tgt := 125) hx hb dX10_goesDay_113 (by decide) (fun c_11 => ?_) (fun c_11 => ?_)
            · refine lv_iconst (v := (0 : Int32)) hx hb dX10_goesDay_125 (by decide) ?_
              exact J12 ((0 : Int32)) _ _ _ ⟨((if_pos c_11).trans (rfl)).symm, hm, hS, lv_sub hl [0, 1, 2, 3, 4] rfl⟩
            · refine lv_iload hx hb dX10_goesDay_116 (lv_at hl 0 rfl) ?_
              refine lv_if_ne (tgt := 125) hx hb dX10_goesDay_118 (by decide) (fun c_18 => ?_) (fun c_18 => ?_)
              · refine lv_iconst (v := (0 : Int32)) hx hb dX10_goesDay_125 (by decide) ?_
                exact J12 ((0 : Int32)) _ _ _ ⟨((if_neg c_11).trans ((if_neg c_18).trans (rfl))).symm, hm, hS, lv_sub hl [0, 1, 2, 3, 4] rfl⟩
              · refine lv_iconst (v := (1 : Int32)) hx hb dX10_goesDay_121 (by decide) ?_
                refine lv_goto (tgt := 126) hx hb dX10_goesDay_122 (by decide) ?_
                exact J12 ((1 : Int32)) _ _ _ ⟨((if_neg c_11).trans ((if_pos c_18).trans (rfl))).symm, hm, hS, lv_sub hl [0, 1, 2, 3, 4] rfl⟩
        · refine lv_if_eq (tgt := 108) hx hb dX10_goesDay_87 (by decide) (fun c_9 => ?_) (fun c_9 => ?_)
          · refine lv_iconst (v := (0 : Int32)) hx hb dX10_goesDay_108 (by decide) ?_
            exact J10 ((0 : Int32)) _ _ _ ⟨((if_pos c_9).trans (rfl)).symm, hm, hS, lv_sub hl [0, 1, 2, 3] rfl⟩
          · refine lv_aload_n hx hb dX10_goesDay_90 rfl (lv_at hl 3 rfl) ?_
            refine lv_iload_n hx hb dX10_goesDay_91 rfl (lv_at hl 1 rfl) ?_
            refine lv_aload_n hx hb dX10_goesDay_92 rfl (lv_at hl 3 rfl) ?_
            refine tg_0 hx hb hts hown hs hm (hts _ q1674) dX10_goesDay_93 ?_
            refine lv_iconst (v := (1 : Int32)) hx hb dX10_goesDay_96 (by decide) ?_
            refine tl_0 hx hb hs hm (vi 1 (by decide) (by decide)) dX10_goesDay_97 ?_
            refine k_calli (va_runV (As := [.int (nI k), .int ((t0 (shedP x1 k).2 ((1 : Int32)).toNatClampNeg))]) (rest := []) ⟨hx, hb, hml, hown, hts⟩ (tm_holds l E h (shedP x1 k).2 (nI k) ((t0 (shedP x1 k).2 ((1 : Int32)).toNatClampNeg)) hw ⟨k, hk4, rfl⟩) (cwV 2 hts (lw_V q1877 q1879 qs37 q80 q1880) rfl rfl rfl (by decide +kernel) ⟨Nat.le_of_ble_eq_true rfl, Nat.le_of_ble_eq_true rfl⟩) (k_preVt hs hm hS) rfl rfl hl.1 rfl (lv_room (Nat.le_of_ble_eq_true rfl)) dX10_goesDay_98 ⟨Nat.le_of_ble_eq_true rfl, Nat.le_of_ble_eq_true rfl⟩) hS (fun r_19 u_19 H9 locs hw_19 hm_19 hS => ?_)
            obtain ⟨hr_19, hu_19⟩ := hw_19
            replace hu_19 := hu_19.symm
            subst hu_19
            have hm := hm_19
            refine lv_if_eq (tgt := 108) hx hb dX10_goesDay_101 (by decide) (fun c_20 => ?_) (fun c_20 => ?_)
            · refine lv_iconst (v := (0 : Int32)) hx hb dX10_goesDay_108 (by decide) ?_
              subst hr_19
              exact J10 (_) _ _ _ ⟨((if_neg c_9).trans ((if_pos c_20).trans (rfl))).symm, hm, hS, lv_sub hl [0, 1, 2, 3] rfl⟩
            · refine lv_iconst (v := (1 : Int32)) hx hb dX10_goesDay_104 (by decide) ?_
              refine lv_goto (tgt := 109) hx hb dX10_goesDay_105 (by decide) ?_
              subst hr_19
              exact J10 (_) _ _ _ ⟨((if_neg c_9).trans ((if_neg c_20).trans (rfl))).symm, hm, hS, lv_sub hl [0, 1, 2, 3] rfl⟩
      · refine lv_icmp_ne (tgt := 84) hx hb dX10_goesDay_77 (by decide) (fun c_7 => ?_) (fun c_7 => ?_)
        · refine lv_iconst (v := (0 : Int32)) hx hb dX10_goesDay_84 (by decide) ?_
          exact J8 ((0 : Int32)) _ _ _ ⟨((if_neg c_7).trans (rfl)).symm, hm, hS, lv_sub hl [0, 1, 2] rfl⟩
        · refine lv_iconst (v := (1 : Int32)) hx hb dX10_goesDay_80 (by decide) ?_
          refine lv_goto (tgt := 85) hx hb dX10_goesDay_81 (by decide) ?_
          exact J8 ((1 : Int32)) _ _ _ ⟨((if_pos c_7).trans (rfl)).symm, hm, hS, lv_sub hl [0, 1, 2] rfl⟩
  · refine k_loop (fun k => 12 - k) (fun (k : Nat) H locs ls => (k ≤ 12) ∧ tW E h ((dayP v k)) H ∧ va_S (eA E) s.heap H locs ∧ lv_has ls 5 [(2, .int (nI k)), (1, .int ((0 : Int32))), (0, .ref (h))]) (fun (k : Nat) ls => F0 m 4 ls []) (fun k => (0, 0)) (fun k ih_21 H locs ls hP => ?_) (0) ⟨(Nat.zero_le _), (by rw [dayP_0]; exact hm), hS, lv_sub hl [0, 1, 2] rfl⟩
    obtain ⟨hI_21, hm, hS, hl⟩ := hP
    refine lv_iload_n hx hb dX10_goesDay_4 rfl (lv_at hl 0 rfl) ?_
    refine lv_bipush (v := (12 : Int32)) hx hb dX10_goesDay_5 (by decide) ?_
    refine lv_icmp_ge (tgt := 54) hx hb dX10_goesDay_7 (by decide) (fun c_22 => ?_) (fun c_22 => ?_)
    · have hkN : k = 12 := lp_ge (by decide) hI_21 c_22
      replace hkN := hkN.symm
      subst hkN
      exact J1 ((dayP v 12)) _ _ _ ⟨rfl, hm, hS, lv_sub hl [1, 2] rfl⟩
    · have hk : k < 12 := lp_lt (by decide) hI_21 c_22
      have hw := wf_dayP hw k (by omega)
      refine lv_aload_n hx hb dX10_goesDay_10 rfl (lv_at hl 2 rfl) ?_
      refine tg_1 hx hb hts hown hs hm (hts _ q1675) dX10_goesDay_11 ?_
      refine lv_iconst (v := (0 : Int32)) hx hb dX10_goesDay_14 (by decide) ?_
      refine lv_iload_n hx hb dX10_goesDay_15 rfl (lv_at hl 0 rfl) ?_
      refine lv_iadd hx hb dX10_goesDay_16 ?_
      refine lv_aload_n hx hb dX10_goesDay_17 rfl (lv_at hl 2 rfl) ?_
      refine lv_aload_n hx hb dX10_goesDay_18 rfl (lv_at hl 2 rfl) ?_
      refine tg_1 hx hb hts hown hs hm (hts _ q1675) dX10_goesDay_19 ?_
      refine lv_iconst (v := (0 : Int32)) hx hb dX10_goesDay_22 (by decide) ?_
      refine lv_iload_n hx hb dX10_goesDay_23 rfl (lv_at hl 0 rfl) ?_
      refine lv_iadd hx hb dX10_goesDay_24 ?_
      refine tl_1 hx hb hs hm (ix.add 0 33 (⟨k, hk, rfl⟩) (by decide) (by decide)) dX10_goesDay_25 ?_
      refine k_callf (va_runV (As := [.float ((t1 (dayP v k) (((0 : Int32) + nI k)).toNatClampNeg))]) (rest := [.int (((0 : Int32) + nI k)), .ref (h + 2)]) ⟨hx, hb, hml, hown, hts⟩ (tm_wetter l E h (dayP v k) ((t1 (dayP v k) (((0 : Int32) + nI k)).toNatClampNeg)) hw (hw.wat ⟨k, hk, rfl⟩)) (cwV 1 hts (lw_V q1841 q1843 qs33 q80 q1844) rfl rfl rfl (by decide +kernel) ⟨Nat.le_of_ble_eq_true rfl, Nat.le_of_ble_eq_true rfl⟩) (k_preVt hs hm hS) rfl rfl hl.1 rfl (lv_room (Nat.le_of_ble_eq_true rfl)) dX10_goesDay_26 ⟨Nat.le_of_ble_eq_true rfl, Nat.le_of_ble_eq_true rfl⟩) hS (fun r_23 u_23 H9 locs hw_23 hm_23 hS => ?_)
      obtain ⟨hr_23, hu_23⟩ := hw_23
      replace hu_23 := hu_23.symm
      subst hu_23
      have hm := hm_23
      refine ts_1 hx hb hs hm hS (ix.add 0 33 (⟨k, hk, rfl⟩) (by decide) (by decide)) dX10_goesDay_29 (fun H locs hm hS => ?_)
      have hm : tW E h (u1 (dayP v k) (vf_upd (t1 (dayP v k)) (((0 : Int32) + nI k)).toNatClampNeg r_23)) H := hm
      refine lv_aload_n hx hb dX10_goesDay_30 rfl (lv_at hl 2 rfl) ?_
      refine tg_0 hx hb hts hown hs hm (hts _ q1674) dX10_goesDay_31 ?_
      refine lv_bipush (v := (27 : Int32)) hx hb dX10_goesDay_34 (by decide) ?_
      refine lv_iload_n hx hb dX10_goesDay_36 rfl (lv_at hl 0 rfl) ?_
      refine lv_iadd hx hb dX10_goesDay_37 ?_
      refine tl_0 hx hb hs hm (ix.add 27 112 (⟨k, hk, rfl⟩) (by decide) (by decide)) dX10_goesDay_38 ?_
      refine lv_iconst (v := (-1 : Int32)) hx hb dX10_goesDay_39 (by decide) ?_
      refine k_join (fun (x25 : tw) H locs ls => x25 = (if (t0 (dayP v k) (((27 : Int32) + nI k)).toNatClampNeg) = (-1 : Int32) then (u1 (dayP v k) (vf_upd (t1 (dayP v k)) (((0 : Int32) + nI k)).toNatClampNeg r_23)) else let u_26 := T_grows (u1 (dayP v k) (vf_upd (t1 (dayP v k)) (((0 : Int32) + nI k)).toNatClampNeg r_23)) (nI k); u_26) ∧ tW E h (x25) H ∧ va_S (eA E) s.heap H locs ∧ lv_has ls 5 [(2, .int (nI k)), (1, .int ((0 : Int32))), (0, .ref (h))]) (fun (x25 : tw) ls => F0 m 48 ls []) (fun x25 H locs ls hJ => ?_) (fun J25 => ?_)
      · obtain ⟨hX25, hm, hS, hl⟩ := hJ
        refine lv_iinc (v := nI (k + 1)) (lv' := [(2, _), (1, _), (0, _)]) hx hb dX10_goesDay_48 hl (k := 0) rfl (nI_succ k).symm (by decide) rfl (fun ls hl => ?_)
        refine lv_goto (tgt := 4) hx hb dX10_goesDay_51 (by decide) ?_
        subst hX25
        subst hr_23
        have hE : dayP v (k + 1) = _ := (dayP_s v k).trans (rfl)
        exact ih_21 (k + 1) (by omega) _ _ _ ⟨(by omega), (by rw [hE]; exact hm), hS, lv_sub hl [0, 1, 2] rfl⟩
      · refine lv_icmp_eq (tgt := 48) hx hb dX10_goesDay_40 (by decide) (fun c_24 => ?_) (fun c_24 => ?_)
        · exact J25 ((u1 (dayP v k) (vf_upd (t1 (dayP v k)) (((0 : Int32) + nI k)).toNatClampNeg r_23))) _ _ _ ⟨((if_pos c_24).trans (rfl)).symm, hm, hS, lv_sub hl [0, 1, 2] rfl⟩
        · refine lv_aload_n hx hb dX10_goesDay_43 rfl (lv_at hl 2 rfl) ?_
          refine lv_iload_n hx hb dX10_goesDay_44 rfl (lv_at hl 0 rfl) ?_
          refine k_callv (va_runV (As := [.int (nI k)]) (rest := []) ⟨hx, hb, hml, hown, hts⟩ (tm_grows l E h (u1 (dayP v k) (vf_upd (t1 (dayP v k)) (((0 : Int32) + nI k)).toNatClampNeg r_23)) (nI k) (by rw [hr_23]; exact wf_wets hw ⟨k, hk, rfl⟩) ⟨k, hk, rfl⟩) (cwV 1 hts (lw_V q1868 q1870 qs36 q80 q1871) rfl rfl rfl (by decide +kernel) ⟨Nat.le_of_ble_eq_true rfl, Nat.le_of_ble_eq_true rfl⟩) (k_preVt hs hm hS) rfl rfl hl.1 rfl (lv_room (Nat.le_of_ble_eq_true rfl)) dX10_goesDay_45 ⟨Nat.le_of_ble_eq_true rfl, Nat.le_of_ble_eq_true rfl⟩) hS (fun u_26 H9 locs hw_26 hm_26 hS => ?_)
          have hu_26 := hw_26
          have hm := hm_26
          subst hu_26
          exact J25 (_) _ _ _ ⟨((if_neg c_24).trans (rfl)).symm, hm, hS, lv_sub hl [0, 1, 2] rfl⟩
