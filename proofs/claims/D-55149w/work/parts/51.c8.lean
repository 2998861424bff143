set_option maxRecDepth 100000
/-! the class: days -/
/-- the cliff's numbers are in their bounds -/
def wfC (t : mt) (M : mm) (c : Nat) : Prop := ix 13 (gI M 214 c) ∧ ix 21 (gI M 215 c) ∧ ix 5 (gI M 212 c) ∧ (∀ k, k < 12 → kd false 12 (aF M (c + 1) k)) ∧ (∀ k, k < 12 → ix 10 (aI M (c + 2) k)) ∧ (∀ k, k < 12 → plO t (aR M (c + 4) k)) ∧ (∀ k, k < 12 → ∀ p, aR M (c + 4) k = some p → kd false 7 (gF M 301 p)) ∧ (∀ k, k < 4 → k < (gI M 212 c).toNatClampNeg → ix 7 (gI M 601 (c + 54 + k)) ∧ kd false 7 (gF M 603 (c + 54 + k)))
section WFC
variable {t : mt} {M : mm} {c : Nat}
theorem wfC.wd (h : wfC t M c) : ix 13 (gI M 214 c) := h.1
theorem wfC.rn (h : wfC t M c) : ix 21 (gI M 215 c) := h.2.1
theorem wfC.sh (h : wfC t M c) : ix 5 (gI M 212 c) := h.2.2.1
theorem wfC.wa (h : wfC t M c) {k : Nat} (hk : k < 12) : kd false 12 (aF M (c + 1) k) := h.2.2.2.1 k hk
theorem wfC.mo (h : wfC t M c) {k : Nat} (hk : k < 12) : ix 10 (aI M (c + 2) k) := h.2.2.2.2.1 k hk
theorem wfC.cr (h : wfC t M c) {k : Nat} (hk : k < 12) : plO t (aR M (c + 4) k) := h.2.2.2.2.2.1 k hk
theorem wfC.we (h : wfC t M c) {k : Nat} (hk : k < 12) (hn : ¬ aR M (c + 4) k = none) : kd false 7 (gF M 301 ((aR M (c + 4) k).getD 0)) := by
  cases hq : aR M (c + 4) k with
  | none => exact absurd hq hn
  | some p => exact h.2.2.2.2.2.2.1 k hk p hq
theorem wfC.rp (h : wfC t M c) {k : Nat} (hk : k < 4) (hn : k < (gI M 212 c).toNatClampNeg) : ix 7 (gI M 601 (c + 54 + k)) := (h.2.2.2.2.2.2.2 k hk hn).1
theorem wfC.li (h : wfC t M c) {k : Nat} (hk : k < 4) (hn : k < (gI M 212 c).toNatClampNeg) : kd false 7 (gF M 603 (c + 54 + k)) := (h.2.2.2.2.2.2.2 k hk hn).2
end WFC
/-- the moles one plot on -/
def mgF (g : Nat → Int32) : Nat → Nat → Int32
  | 0 => g
  | k + 1 => upd (mgF g k) ((k + 1) % 12) (g k)
  termination_by k => k
theorem mgF_0 (g : Nat → Int32) : mgF g 0 = g := by rw [mgF]
theorem mgF_s (g : Nat → Int32) (k : Nat) : mgF g (k + 1) = upd (mgF g k) ((k + 1) % 12) (g k) := by rw [mgF]
theorem wI_self (M : mm) (a : Nat) : wI M a (aI M a) = M := by
  unfold wI aI
  have : m1 M.2.2.2.2.1 a (M.2.2.2.2.1 a) = M.2.2.2.2.1 := by
    funext x
    by_cases h : x = a
    · subst h; exact m1_at _ _ _
    · exact m1_ne _ _ h
  rw [this]
theorem wI_wI (M : mm) (a : Nat) (f g : Nat → Int32) : wI (wI M a f) a g = wI M a g := by
  unfold wI
  have : m1 (m1 M.2.2.2.2.1 a f) a g = m1 M.2.2.2.2.1 a g := by
    funext x
    by_cases h : x = a
    · subst h; rw [m1_at, m1_at]
    · rw [m1_ne _ _ h, m1_ne _ _ h, m1_ne _ _ h]
  simp only [this]
theorem mg_init (M : mm) (c q : Nat) (h : ¬ c + 2 = q) : wI (wI M q (aI M (c + 2))) (c + 2) (mgF (aI M (c + 2)) 0) = wI M q (aI M (c + 2)) := by
  rw [mgF_0]
  have e : aI (wI M q (aI M (c + 2))) (c + 2) = aI M (c + 2) := m1_ne _ _ h
  have h2 := wI_self (wI M q (aI M (c + 2))) (c + 2)
  rw [e] at h2
  exact h2
theorem mg_was (M : mm) (c q : Nat) (h : ¬ c + 2 = q) (f w : Nat → Int32) : aI (wI (wI M q w) (c + 2) f) q = w := by
  show m1 (m1 M.2.2.2.2.1 q w) (c + 2) f q = w
  rw [m1_ne _ _ (fun e => h e.symm), m1_at]
theorem mg_step {M : mm} {c q k : Nat} (hk : k < 12) (w : Nat → Int32) : wI (wI (wI M q w) (c + 2) (mgF w k)) (c + 2) (upd (mgF w k) ((nI (k + 1) - nI (k + 1) / (12 : Int32) * (12 : Int32)).toNatClampNeg) (w k)) = wI (wI M q w) (c + 2) (mgF w (k + 1)) := by
  rw [wI_wI, mgF_s]
  have e : (nI (k + 1) - nI (k + 1) / (12 : Int32) * (12 : Int32)).toNatClampNeg = (k + 1) % 12 := by
    rw [show (nI (k + 1) - nI (k + 1) / (12 : Int32) * (12 : Int32)) = nI ((k + 1) % 12) from pk_rem (by omega) (by decide) (by decide), cl_nI (by omega)]
  rw [e]
theorem mg_ix {k : Nat} (hk : k < 12) : ix 12 (nI (k + 1) - nI (k + 1) / (12 : Int32) * (12 : Int32)) := ⟨(k + 1) % 12, by omega, pk_rem (by omega) (by decide) (by decide)⟩
theorem mg_end {E : mE} {t : mt} {M : mm} {c q : Nat} {H : Heap} {w f : Nat → Int32} (h : mw E (m1 t q (20, 12)) (wI (wI M q w) (c + 2) f) H) (hq : (t q).1 = 0) : mw E t (wI M (c + 2) f) H := by
  refine (h.drop hq).eqv (fun b hb => ?_)
  have hbq : b ≠ q := fun e => hb (by rw [e]; exact hq)
  unfold ct
  by_cases hbc : b = c + 2
  · subst hbc
    simp only [gI, gF, gN, gR, aI, aF, aR, aL, aD, wI, m1_at]
  · simp only [gI, gF, gN, gR, aI, aF, aR, aL, aD, wI, m1_ne _ _ hbc, m1_ne _ _ hbq]
section KR8
variable {p : Program} {l : Launch} {e : Env} {R : Room} {s : State} {m : MethodId} {args : Array Value} {below : List Frame} {meth : Method} {c : Code} {H : Heap} {locs : List Loc} {cells slots : Nat} {Q : State → Prop}
variable {cc : ByteArray} {pc : Nat} {ls : Array Slot} {rest : List Value} {a : Nat} {E : mE} {t : mt} {M : mm}
theorem k_castI {n : Nat} {own : String} {index : Nat} (hexec : p.tables.exec = Jvm.exec) (hb : c.code = cc) (hown : s.vm.findClass own = some m.cls) (hlink : (Cond.classLink own index "[I").before args s = true) (hs : sP E s) (hm : mw E t M H) (ht : t a = (20, n)) (hdg : decode cc pc = .ok (.checkcast index, 3))
    (kk : W p l e R s m args below meth c H locs cells slots Q (F0 m (pc + 3) ls (.ref a :: rest))) : W p l e R s m args below meth c H locs cells slots Q (F0 m pc ls (.ref a :: rest)) := by
  obtain ⟨L, hL, hP, hD⟩ := hm
  obtain ⟨q0, hq⟩ := mw.at (E := E) (t := t) (M := M) (hL a (mt_ne ht (by decide)))
  rw [show ct E t M a = .inl (E.2.1 0, n, .inl (aI M a)) from ct_k ht] at hq
  exact va_castA hexec hb hown hlink hP q0 hq (hs.2.1.2 0 _ rfl).2 hdg kk
end KR8
def C2_molesGo (t : mt) (M : mm) (c : Nat) : mm := wI M (c + 2) (mgF (aI M (c + 2)) 12)
set_option maxHeartbeats 4000000 in
theorem cm2_molesGo (l : Launch) (E : mE) (t : mt) (M : mm) (c : Nat)  (hL : lay t c)  : Met l yX2_molesGo (ws_ yX2_molesGo cX2_molesGo 3 none) ({ frames := 1, cells := 1, slots := 12, locals := 40 }) (va_Pc [.ref c] (wP E t M)) (va_Qv (fun (u : mm) => u = C2_molesGo t M c ) (fun u U => mw E t u U.heap) (eA E)) 1 12 (eA E) := by
  refine Met.ofW (cc := cX2_molesGo) (maxL := 3) (ret := none) (by decide) rfl ?_
  intro p e s m args below meth c0 s₁ B hml hv
  obtain ⟨rfl, hs, hm⟩ := hv
  have hx := B.exec
  have hb := B.bytes
  have hr := B.returns
  have hts := atoms_spec (ws := ws_ yX2_molesGo cX2_molesGo 3 none) B.pre
  have hts : ∀ w ∈ lw_all, w.before _ s = true := fun w h => hts w (List.mem_cons_of_mem _ h)
  have hown : s.vm.findClass RX2 = some m.cls := findClass_of_methodNamed B.named
  have hlocks := B.notSynchronized
  have hS : va_S (eA E) s.heap s.heap [] := va_S.rf
  have hl := lv_entry ([.ref c]) (n := 3) (Nat.le_of_ble_eq_true rfl)
  rw [lg_entry_eq]
  generalize (lg_sl ([.ref c]) ++ List.replicate (3 - (lg_sl ([.ref c])).length) Slot.unset).toArray = ls at hl ⊢
  have hl : lv_has ls 3 [(0, .ref (c))] := hl
  refine lv_aload_n hx hb dX2_molesGo_0 rfl (lv_at hl 0 rfl) ?_
  refine gf_201 hx hb hts hown hs hm (lay.z hL) (hts _ q229) dX2_molesGo_1 ?_
  refine k_cloneI hx hb (hml.trans hl.1.symm) hown (hts _ q990) (hts _ q991) (hts _ q992) (hts _ q993) (hts _ q994) hs hm hS (lay.a2 hL) (Nat.le_of_ble_eq_true rfl) (Nat.le_of_ble_eq_true rfl) (Nat.le_of_ble_eq_true rfl) (Nat.le_of_ble_eq_true rfl) dX2_molesGo_4 (fun q H hq0 hm hS => ?_)
  have hcq : ¬ c + 2 = q := fun e9 => by have h9 := hL.a2; rw [e9] at h9; rw [h9] at hq0; cases hq0
  have hL0 := hL
  replace hL := hL.push (x := (20, 12)) hq0
  refine k_castI hx hb hown (hts _ q996) hs hm (m1_at t q (20, 12)) dX2_molesGo_7 ?_
  refine lv_astore_n (lv' := [(1, _), (0, _)]) hx hb dX2_molesGo_10 rfl hl (by decide) rfl (fun ls hl => ?_)
  refine lv_iconst (v := (0 : Int32)) hx hb dX2_molesGo_11 (by decide) ?_
  refine lv_istore_n (lv' := [(2, _), (1, _), (0, _)]) hx hb dX2_molesGo_12 rfl hl (by decide) rfl (fun ls hl => ?_)
  refine k_loop (fun k => 12 - k) (fun (k : Nat) H locs ls => (k ≤ 12) ∧ mw E (m1 t q (20, 12)) ((wI (wI M q (aI M (c + 2))) (c + 2) (mgF (aI M (c + 2)) k))) H ∧ va_S (eA E) s.heap H locs ∧ lv_has ls 3 [(2, .int (nI k)), (1, .ref (q)), (0, .ref (c))]) (fun (k : Nat) ls => F0 m 13 ls []) (fun k => (1, 12)) (fun k ih_1 H locs ls hP => ?_) (0) ⟨(Nat.zero_le _), (by rw [mg_init M c q hcq]; exact hm), hS, lv_sub hl [0, 1, 2] rfl⟩
  obtain ⟨hI_1, hm, hS, hl⟩ := hP
  refine lv_iload_n hx hb dX2_molesGo_13 rfl (lv_at hl 0 rfl) ?_
  refine lv_bipush (v := (12 : Int32)) hx hb dX2_molesGo_14 (by decide) ?_
  refine lv_icmp_ge (tgt := 39) hx hb dX2_molesGo_16 (by decide) (fun c_2 => ?_) (fun c_2 => ?_)
  · have hkN : k = 12 := lp_ge (by decide) hI_1 c_2
    replace hkN := hkN.symm
    subst hkN
    replace hm := mg_end hm hq0
    refine W.widen (k := 1) (n := 12) (Nat.le_of_ble_eq_true rfl) (Nat.le_of_ble_eq_true rfl) ?_
    exact W.vret hx hb hr (fun t9 ht9 _ => ⟨⟨_, rfl, (rfl).symm, hb9 ht9 hm⟩, hS.F ht9⟩) hS.2.2 dX2_molesGo_39
  · have hk : k < 12 := lp_lt (by decide) hI_1 c_2
    refine lv_aload_n hx hb dX2_molesGo_19 rfl (lv_at hl 2 rfl) ?_
    refine gf_201 hx hb hts hown hs hm (lay.z hL) (hts _ q229) dX2_molesGo_20 ?_
    refine lv_iload_n hx hb dX2_molesGo_23 rfl (lv_at hl 0 rfl) ?_
    refine lv_iconst (v := (1 : Int32)) hx hb dX2_molesGo_24 (by decide) ?_
    refine lv_iadd hx hb dX2_molesGo_25 ?_
    rw [show (nI k + (1 : Int32)) = (nI (k + 1)) from (nI_succ k).symm]
    refine lv_bipush (v := (12 : Int32)) hx hb dX2_molesGo_26 (by decide) ?_
    refine lv_irem hx hb dX2_molesGo_28 (by decide) ?_
    refine lv_aload_n hx hb dX2_molesGo_29 rfl (lv_at hl 1 rfl) ?_
    refine lv_iload_n hx hb dX2_molesGo_30 rfl (lv_at hl 0 rfl) ?_
    refine k_iald hx hb hs hm (m1_at t q (20, 12)) (ix.at (B := 12) (⟨k, hk, rfl⟩) (by decide)) dX2_molesGo_31 ?_
    rw [mg_was M c q hcq]
    rw [show (nI k).toNatClampNeg = k from (cl_nI (by omega))]
    refine k_iast hx hb hs hm hS (lay.a2 hL) (ix.at (B := 12) (((mg_ix hk)).mono (by decide)) (by decide)) dX2_molesGo_32 (fun H locs hm hS => ?_)
    rw [show aI (wI (wI M q (aI M (c + 2))) (c + 2) (mgF (aI M (c + 2)) k)) (c + 2) = (mgF (aI M (c + 2)) k) from (show aI (wI (wI M q (aI M (c + 2))) (c + 2) (mgF (aI M (c + 2)) k)) (c + 2) = (mgF (aI M (c + 2)) k) from m1_at _ _ _)] at hm
    have hm : mw E (m1 t q (20, 12)) ((wI (wI (wI M q (aI M (c + 2))) (c + 2) (mgF (aI M (c + 2)) k)) (c + 2) (upd (mgF (aI M (c + 2)) k) (((nI (k + 1)) - (nI (k + 1)) / (12 : Int32) * (12 : Int32))).toNatClampNeg (aI M (c + 2) k)))) H := hm
    refine lv_iinc (v := nI (k + 1)) (lv' := [(2, _), (1, _), (0, _)]) hx hb dX2_molesGo_33 hl (k := 0) rfl (nI_succ k).symm (by decide) rfl (fun ls hl => ?_)
    refine lv_goto (tgt := 13) hx hb dX2_molesGo_36 (by decide) ?_
    exact ih_1 (k + 1) (by omega) _ _ _ ⟨(by omega), (by rw [← mg_step hk (aI M (c + 2))]; exact hm), hS, lv_sub hl [0, 1, 2] rfl⟩
