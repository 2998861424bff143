set_option maxRecDepth 100000
/-! StringBuilder: length, charAt -/
section KGS
variable {p : Program} {l : Launch} {e : Env} {R : Room} {s : State} {m : MethodId} {args : Array Value} {below : List Frame} {meth : Method} {c : Code} {H : Heap} {locs : List Loc} {cells slots : Nat} {Q : State → Prop}
variable {cc : ByteArray} {pc : Nat} {ls : Array Slot} {rest : List Value} {a : Nat} {E : mE} {t : mt} {M : mm}
theorem k_gsio {own : String} {index : Nat} (hexec : p.tables.exec = Jvm.exec) (hb : c.code = cc) (hs : sP E s) (hS : va_S (eA E) s.heap H locs) (hown : s.vm.findClass own = some m.cls) (hlink : (Cond.fieldLink own index "jdk/internal/util/Preconditions" "SIOOBE_FORMATTER" "Ljava/util/function/BiFunction;").before args s = true) (hdg : decode cc pc = .ok (.getstatic index, 3))
    (kk : ∀ fm : Option Nat, W p l e R s m args below meth c H locs cells slots Q (F0 m (pc + 3) ls (va_rf fm :: rest))) : W p l e R s m args below meth c H locs cells slots Q (F0 m pc ls rest) := by
  rcases hs.2.2.2.2.2.2.1 with h | ⟨z, h⟩
  · exact va_gets hexec hb h hS hown hlink (fun _ h9 => h9) hdg (kk none)
  · exact va_gets hexec hb h hS hown hlink (fun _ h9 => h9) hdg (kk (some z))
end KGS
theorem lw_SU {own : String} {idx : Nat} {y : MethodName} {b : ByteArray} {L : Nat} {r : Option FieldType} (h1 : Cond.methodLink own idx y ∈ lw_all) (h2 : Cond.sameMethod y.cls y.cls y.name y.desc ∈ lw_all) (h3 : Cond.superclass own y.cls ∈ lw_all) (h4 : Cond.instanceMethod y ∈ lw_all) (h5 : Cond.initialized y.cls ∈ lw_all) (h6 : Cond.code y b L r ∈ lw_all) : GoodIn lw_all (va_wsSU own idx y (ws_ y b L r)) := by
  refine lw_app ?_ (lw_meth h6)
  intro w hw
  simp only [List.mem_cons, List.not_mem_nil, or_false] at hw
  rcases hw with e | e | e | e | e
  · rw [e]; exact h1
  · rw [e]; exact h2
  · rw [e]; exact h3
  · rw [e]; exact h4
  · rw [e]; exact h5
/-- a private method of a superclass is the one that is run -/
theorem selP {args : Array Value} {s : State} {y z : MethodName} {C : String} (hy : y.cls ≠ "java/lang/invoke/MethodHandle" ∧ y.cls ≠ "java/lang/invoke/VarHandle") (hz : z.cls = y.cls) (hsel : (Cond.selects C z z).before args s = true) (hpriv : (Cond.privateMethod y).before args s = true) (hinst : (Cond.instanceMethod y).before args s = true) : (Cond.selects C y y).before args s = true := by
  obtain ⟨c2, r2, m2, h1, h2, q3, h4, kP, hkP, hkPi⟩ := Cond.selects_spec hsel
  obtain ⟨mk, methM, hnamed, hmethM, -, -⟩ := Cond.instanceMethod_spec hinst
  have hfound := State.methodFound?_of_named hnamed hy
  have hz2 := findClass_of_methodNamed q3
  rw [hz] at hz2
  have hcls : mk.cls = m2.cls := Option.some.inj ((findClass_of_methodNamed hnamed).symm.trans hz2)
  have hsel := selectMethod_private (p := {}) (c := c2) hmethM (Cond.privateMethod_at hpriv mk methM hnamed hmethM)
  simp only [Cond.before, Cond.holds, Cond.value, h1, hfound, hnamed, hsel, hcls, hkP]
  simp
  exact hkPi
theorem cwP {R : Room} {s : State} {args : Array Value} {own C : String} {index maxL mc ms : Nat} {y : MethodName} {bytes : ByteArray} {ret : Option FieldType} {Ts ws ws' : List Cond} {rm : Room} (n : Nat) (ht : ∀ w ∈ Ts, w.before args s = true) (hG : GoodIn Ts ws) (hw : ws = Cond.code y bytes maxL ret :: ws') (hrc : rm.cells = mc) (hrs : rm.slots = ms)
    (hl : (Cond.methodLink own index y).before args s = true) (hsm : (Cond.sameMethod y.cls y.cls y.name y.desc).before args s = true) (hsel : (Cond.selects C y y).before args s = true) (hinst : (Cond.instanceMethod y).before args s = true) (hini : (Cond.initialized y.cls).before args s = true)
    (hd : y.cls ≠ "java/lang/invoke/MethodHandle" ∧ y.cls ≠ "java/lang/invoke/VarHandle" ∧ (parseMethodDescriptor y.desc).map (fun d => d.parameters.length) = some n) (hR : rm.frames + 1 ≤ R.frames ∧ 8 + (maxL + 11) + rm.locals ≤ R.locals) : va_CU R s args own C y.cls index y y bytes maxL ret ws rm mc ms n := by
  have hc : Cond.code y bytes maxL ret ∈ ws := by rw [hw]; exact List.mem_cons_self
  refine ⟨⟨hrc, hrs, hR.1, hR.2, pay_in ht hG, hc⟩, ht _ (hG _ hc).1, hini, ⟨hd.1, hd.2.1⟩, fun sig h => ?_, hl, hsm, va_Decl.of hinst (ht _ (hG _ hc).1), hsel, hinst⟩
  have h2 := hd.2.2
  rw [h] at h2
  exact (Option.some.inj h2).symm
theorem shl1 {x : Int32} (h : ix 40000 x) : x <<< ((1 : Int32) &&& 31) = nI (2 * x.toNatClampNeg) := by
  obtain ⟨k, hk, rfl⟩ := h
  rw [cl_nI (by omega), pk_shlN ((1 : Int32) &&& 31) 1 (by decide) (by omega), Nat.mul_comm]
/-- a builder's cells: an array of n bytes, k letters in it -/
def sbP (t : mt) (M : mm) (c n k : Nat) : Prop := t c = (11, 0) ∧ t (gN M 1100 c) = (23, n) ∧ n ≤ 60000 ∧ gI M 1103 c = nI k ∧ ((gI M 1101 c = 0 ∧ k ≤ n) ∨ (gI M 1101 c = 1 ∧ 2 * k ≤ n))
theorem ix.nneg {B : Nat} {x : Int32} (h : ix B x) (hB : B ≤ 2 ^ 30) : ¬ x < 0 := by
  obtain ⟨k, hk, rfl⟩ := h
  exact nI_pos (by omega)
theorem csb_cap {t : mt} {M : mm} {c n k : Nat} {x : Int32} (h : sbP t M c n k) (hx : ix k x) : x < (if (nI n >>> ((gI M 1101 c) &&& 31)) < (gI M 1103 c) then (nI n >>> ((gI M 1101 c) &&& 31)) else (gI M 1103 c)) := by
  obtain ⟨-, -, hn, hk, hz⟩ := h
  obtain ⟨j, hj, rfl⟩ := hx
  rw [hk]
  rcases hz with ⟨hz, hkn⟩ | ⟨hz, hkn⟩
  · rw [hz, pk_shrN (by omega) ((0 : Int32) &&& 31) 0 (by decide)]
    split
    · exact nI_lt (by omega) (by omega)
    · exact nI_lt (by omega) (by omega)
  · rw [hz, pk_shrN (by omega) ((1 : Int32) &&& 31) 1 (by decide)]
    split
    · exact nI_lt (by omega) (by omega)
    · exact nI_lt (by omega) (by omega)
theorem csb_ix {t : mt} {M : mm} {c n k : Nat} {x : Int32} (h : sbP t M c n k) (hx : ix k x) (hz : gI M 1101 c = 0) : ix n x := by
  refine hx.mono ?_
  rcases h.2.2.2.2 with ⟨h1, h2⟩ | ⟨h1, h2⟩
  · exact h2
  · rw [hz] at h1; exact absurd h1 (by decide)
theorem csb_ix2 {t : mt} {M : mm} {c n k : Nat} {x : Int32} (h : sbP t M c n k) (hx : ix k x) (hz : ¬ gI M 1101 c = 0) : ix 40000 x ∧ 2 * x.toNatClampNeg + 1 < n := by
  have h3 := h.2.2.1
  rcases h.2.2.2.2 with ⟨h1, h2⟩ | ⟨h1, h2⟩
  · exact absurd h1 hz
  · have := hx.nlt (by omega)
    exact ⟨hx.mono (by omega), by omega⟩
def CJ21_checkIndex (t : mt) (M : mm) (x : Int32) (y : Int32) (f : Option Nat) : Int32 :=
  x
set_option maxHeartbeats 4000000 in
theorem cmJ21_checkIndex (l : Launch) (E : mE) (t : mt) (M : mm) (x : Int32) (y : Int32) (f : Option Nat) (h0 : ¬ x < 0) (h1 : x < y) : Met l yJ21_checkIndex (ws_ yJ21_checkIndex cJ21_checkIndex 3 (some .int)) ({ frames := 0, cells := 0, slots := 0, locals := 0 }) (va_Pc [.int x, .int y, va_rf f] (wP E t M)) (va_Qi (fun (r : Int32) (u : mm) => r = (CJ21_checkIndex t M x y f) ∧ u = M) (fun u U => mw E t u U.heap) (eA E)) 0 0 (eA E) := by
  refine Met.ofW (cc := cJ21_checkIndex) (maxL := 3) (ret := (some .int)) (by decide) rfl ?_
  intro p e s m args below meth c0 s₁ B hml hv
  obtain ⟨rfl, hs, hm⟩ := hv
  have hx := B.exec
  have hb := B.bytes
  have hr := B.returns
  have hts := atoms_spec (ws := ws_ yJ21_checkIndex cJ21_checkIndex 3 (some .int)) B.pre
  have hts : ∀ w ∈ lw_all, w.before _ s = true := fun w h => hts w (List.mem_cons_of_mem _ h)
  have hown : s.vm.findClass RJ21 = some m.cls := findClass_of_methodNamed B.named
  have hlocks := B.notSynchronized
  have hS : va_S (eA E) s.heap s.heap [] := va_S.rf
  have hl := lv_entry ([.int x, .int y, va_rf f]) (n := 3) (by cases f <;> exact Nat.le_of_ble_eq_true rfl)
  rw [lg_entry_eq]
  generalize (lg_sl ([.int x, .int y, va_rf f]) ++ List.replicate (3 - (lg_sl ([.int x, .int y, va_rf f])).length) Slot.unset).toArray = ls at hl ⊢
  have hl : lv_has ls 3 [(0, .int (x)), (1, .int (y)), (2, va_rf (f))] := hl
  refine lv_iload_n hx hb dJ21_checkIndex_0 rfl (lv_at hl 0 rfl) ?_
  refine lv_if_lt (tgt := 9) hx hb dJ21_checkIndex_1 (by decide) (fun c_1 => (h0 c_1).elim) (fun c_1 => ?_)
  refine lv_iload_n hx hb dJ21_checkIndex_4 rfl (lv_at hl 0 rfl) ?_
  refine lv_iload_n hx hb dJ21_checkIndex_5 rfl (lv_at hl 1 rfl) ?_
  refine lv_icmp_lt (tgt := 16) hx hb dJ21_checkIndex_6 (by decide) (fun c_2 => ?_) (fun c_2 => (c_2 h1).elim)
  refine lv_iload_n hx hb dJ21_checkIndex_16 rfl (lv_at hl 0 rfl) ?_
  exact W.iret (v := _) hx hb hr (fun t9 ht9 _ => ⟨⟨_, _, rfl, ⟨(rfl).symm, rfl⟩, hb9 ht9 hm⟩, hS.F ht9⟩) hS.2.2 dJ21_checkIndex_17
abbrev CJ4_checkIndex (t : mt) (M : mm) (x : Int32) (y : Int32) : mm := M
set_option maxHeartbeats 4000000 in
theorem cmJ4_checkIndex (l : Launch) (E : mE) (t : mt) (M : mm) (x : Int32) (y : Int32) (h0 : ¬ x < 0) (h1 : x < y) : Met l yJ4_checkIndex (ws_ yJ4_checkIndex cJ4_checkIndex 2 none) ({ frames := 1, cells := 0, slots := 0, locals := 22 }) (va_Pc [.int x, .int y] (wP E t M)) (va_Qv (fun (u : mm) => u = CJ4_checkIndex t M x y) (fun u U => mw E t u U.heap) (eA E)) 0 0 (eA E) := by
  refine Met.ofW (cc := cJ4_checkIndex) (maxL := 2) (ret := none) (by decide) rfl ?_
  intro p e s m args below meth c0 s₁ B hml hv
  obtain ⟨rfl, hs, hm⟩ := hv
  have hx := B.exec
  have hb := B.bytes
  have hr := B.returns
  have hts := atoms_spec (ws := ws_ yJ4_checkIndex cJ4_checkIndex 2 none) B.pre
  have hts : ∀ w ∈ lw_all, w.before _ s = true := fun w h => hts w (List.mem_cons_of_mem _ h)
  have hown : s.vm.findClass RJ4 = some m.cls := findClass_of_methodNamed B.named
  have hlocks := B.notSynchronized
  have hS : va_S (eA E) s.heap s.heap [] := va_S.rf
  have hl := lv_entry ([.int x, .int y]) (n := 2) (Nat.le_of_ble_eq_true rfl)
  rw [lg_entry_eq]
  generalize (lg_sl ([.int x, .int y]) ++ List.replicate (2 - (lg_sl ([.int x, .int y])).length) Slot.unset).toArray = ls at hl ⊢
  have hl : lv_has ls 2 [(0, .int (x)), (1, .int (y))] := hl
  refine lv_iload_n hx hb dJ4_checkIndex_0 rfl (lv_at hl 0 rfl) ?_
  refine lv_iload_n hx hb dJ4_checkIndex_1 rfl (lv_at hl 1 rfl) ?_
  refine k_gsio hx hb hs hS hown (hts _ q1323) dJ4_checkIndex_2 (fun fm_1 => ?_)
  refine k_calli (va_runS (As := [.int (x), .int (y), va_rf (fm_1)]) (rest := []) ⟨hx, hb, hml, hown, hts⟩ (cmJ21_checkIndex l E t M  (x) (y) (fm_1) h0 h1) (va_cwS 3 hts (lw_S q1346 q1347 q92 q1348) rfl rfl rfl (by decide +kernel) ⟨Nat.le_of_ble_eq_true rfl, Nat.le_of_ble_eq_true rfl⟩) (k_preS hs hm hS) rfl rfl hl.1 rfl (lv_room (Nat.le_of_ble_eq_true rfl)) dJ4_checkIndex_5 ⟨Nat.le_of_ble_eq_true rfl, Nat.le_of_ble_eq_true rfl⟩) hS (fun r_2 u_2 H locs hw_2 hm_2 hS => ?_)
  obtain ⟨hr_2, hu_2⟩ := hw_2
  replace hu_2 := hu_2.symm
  subst hu_2
  have hm := hm_2
  refine lv_pop hx hb dJ4_checkIndex_8 rfl ?_
  subst hr_2
  exact W.vret hx hb hr (fun t9 ht9 _ => ⟨⟨_, rfl, (rfl).symm, hb9 ht9 hm⟩, hS.F ht9⟩) hS.2.2 dJ4_checkIndex_9
def CJ2_length (t : mt) (M : mm) (c : Nat)  : Int32 :=
  (gI M 1103 c)
set_option maxHeartbeats 4000000 in
theorem cmJ2_length (l : Launch) (E : mE) (t : mt) (M : mm) (c : Nat)  (hc : t c = (11, 0))  : Met l yJ2_length (ws_ yJ2_length cJ2_length 1 (some .int)) ({ frames := 0, cells := 0, slots := 0, locals := 0 }) (va_Pc [.ref c] (wP E t M)) (va_Qi (fun (r : Int32) (u : mm) => r = (CJ2_length t M c ) ∧ u = M) (fun u U => mw E t u U.heap) (eA E)) 0 0 (eA E) := by
  refine Met.ofW (cc := cJ2_length) (maxL := 1) (ret := (some .int)) (by decide) rfl ?_
  intro p e s m args below meth c0 s₁ B hml hv
  obtain ⟨rfl, hs, hm⟩ := hv
  have hx := B.exec
  have hb := B.bytes
  have hr := B.returns
  have hts := atoms_spec (ws := ws_ yJ2_length cJ2_length 1 (some .int)) B.pre
  have hts : ∀ w ∈ lw_all, w.before _ s = true := fun w h => hts w (List.mem_cons_of_mem _ h)
  have hown : s.vm.findClass RJ2 = some m.cls := findClass_of_methodNamed B.named
  have hlocks := B.notSynchronized
  have hS : va_S (eA E) s.heap s.heap [] := va_S.rf
  have hl := lv_entry ([.ref c]) (n := 1) (Nat.le_of_ble_eq_true rfl)
  rw [lg_entry_eq]
  generalize (lg_sl ([.ref c]) ++ List.replicate (1 - (lg_sl ([.ref c])).length) Slot.unset).toArray = ls at hl ⊢
  have hl : lv_has ls 1 [(0, .ref (c))] := hl
  refine lv_aload_n hx hb dJ2_length_0 rfl (lv_at hl 0 rfl) ?_
  refine gf_1103 hx hb hts hown hs hm hc (hts _ q349) dJ2_length_1 ?_
  exact W.iret (v := _) hx hb hr (fun t9 ht9 _ => ⟨⟨_, _, rfl, ⟨(rfl).symm, rfl⟩, hb9 ht9 hm⟩, hS.F ht9⟩) hS.2.2 dJ2_length_4
def CJ3_length (t : mt) (M : mm) (c : Nat)  : Int32 :=
  let r_1 := CJ2_length t M (c) ;
  r_1
set_option maxHeartbeats 4000000 in
theorem cmJ3_length (l : Launch) (E : mE) (t : mt) (M : mm) (c : Nat)  (hc : t c = (11, 0))  : Met l yJ3_length (ws_ yJ3_length cJ3_length 1 (some .int)) ({ frames := 1, cells := 0, slots := 0, locals := 20 }) (va_Pc [.ref c] (wP E t M)) (va_Qi (fun (r : Int32) (u : mm) => r = (CJ3_length t M c ) ∧ u = M) (fun u U => mw E t u U.heap) (eA E)) 0 0 (eA E) := by
  refine Met.ofW (cc := cJ3_length) (maxL := 1) (ret := (some .int)) (by decide) rfl ?_
  intro p e s m args below meth c0 s₁ B hml hv
  obtain ⟨rfl, hs, hm⟩ := hv
  have hx := B.exec
  have hb := B.bytes
  have hr := B.returns
  have hts := atoms_spec (ws := ws_ yJ3_length cJ3_length 1 (some .int)) B.pre
  have hts : ∀ w ∈ lw_all, w.before _ s = true := fun w h => hts w (List.mem_cons_of_mem _ h)
  have hown : s.vm.findClass RJ3 = some m.cls := findClass_of_methodNamed B.named
  have hlocks := B.notSynchronized
  have hS : va_S (eA E) s.heap s.heap [] := va_S.rf
  have hl := lv_entry ([.ref c]) (n := 1) (Nat.le_of_ble_eq_true rfl)
  rw [lg_entry_eq]
  generalize (lg_sl ([.ref c]) ++ List.replicate (1 - (lg_sl ([.ref c])).length) Slot.unset).toArray = ls at hl ⊢
  have hl : lv_has ls 1 [(0, .ref (c))] := hl
  refine lv_aload_n hx hb dJ3_length_0 rfl (lv_at hl 0 rfl) ?_
  refine k_calli (va_runSU (hs.2.1.1 10 _ rfl).2 (As := []) (rest := []) ⟨hx, hb, hml, hown, hts⟩ (cmJ2_length l E t M  (c)  hc ) (va_cwSU 0 hts (lw_SU q1253 q2091 q358 q1254 q68 q1255) rfl rfl rfl (by decide +kernel) ⟨Nat.le_of_ble_eq_true rfl, Nat.le_of_ble_eq_true rfl⟩) (k_preV hs hm hS (mw.recv hs hm (mt_ne hc (by decide)) (ct11 hc) rfl)) rfl rfl hl.1 rfl (lv_room (Nat.le_of_ble_eq_true rfl)) dJ3_length_1 ⟨Nat.le_of_ble_eq_true rfl, Nat.le_of_ble_eq_true rfl⟩) hS (fun r_1 u_1 H locs hw_1 hm_1 hS => ?_)
  obtain ⟨hr_1, hu_1⟩ := hw_1
  replace hu_1 := hu_1.symm
  subst hu_1
  have hm := hm_1
  subst hr_1
  exact W.iret (v := _) hx hb hr (fun t9 ht9 _ => ⟨⟨_, _, rfl, ⟨(rfl).symm, rfl⟩, hb9 ht9 hm⟩, hS.F ht9⟩) hS.2.2 dJ3_length_4
def CJ5_getChar (t : mt) (M : mm) (a : Nat) (x : Int32) : Int32 :=
  ((((((aI M a (2 * (x).toNatClampNeg)) &&& (255 : Int32)) <<< ((0 : Int32) &&& 31)) ||| (((aI M a (2 * (x).toNatClampNeg + 1)) &&& (255 : Int32)) <<< ((8 : Int32) &&& 31)))).toUInt32 % 65536).toInt32
set_option maxHeartbeats 4000000 in
theorem cmJ5_getChar (l : Launch) (E : mE) (t : mt) (M : mm) (a : Nat) (x : Int32) (n : Nat) (ha : t a = (23, n)) (hn : n ≤ 60000) (hx1 : ix 40000 x) (hx2 : 2 * x.toNatClampNeg + 1 < n) : Met l yJ5_getChar (ws_ yJ5_getChar cJ5_getChar 2 (some .char)) ({ frames := 0, cells := 0, slots := 0, locals := 0 }) (va_Pc [.ref a, .int x] (wP E t M)) (va_Qi (fun (r : Int32) (u : mm) => r = (CJ5_getChar t M a x) ∧ u = M) (fun u U => mw E t u U.heap) (eA E)) 0 0 (eA E) := by
  refine Met.ofW (cc := cJ5_getChar) (maxL := 2) (ret := (some .char)) (by decide) rfl ?_
  intro p e s m args below meth c0 s₁ B hml hv
  obtain ⟨rfl, hs, hm⟩ := hv
  have hx := B.exec
  have hb := B.bytes
  have hr := B.returns
  have hts := atoms_spec (ws := ws_ yJ5_getChar cJ5_getChar 2 (some .char)) B.pre
  have hts : ∀ w ∈ lw_all, w.before _ s = true := fun w h => hts w (List.mem_cons_of_mem _ h)
  have hown : s.vm.findClass RJ5 = some m.cls := findClass_of_methodNamed B.named
  have hlocks := B.notSynchronized
  have hS : va_S (eA E) s.heap s.heap [] := va_S.rf
  have hl := lv_entry ([.ref a, .int x]) (n := 2) (Nat.le_of_ble_eq_true rfl)
  rw [lg_entry_eq]
  generalize (lg_sl ([.ref a, .int x]) ++ List.replicate (2 - (lg_sl ([.ref a, .int x])).length) Slot.unset).toArray = ls at hl ⊢
  have hl : lv_has ls 2 [(0, .ref (a)), (1, .int (x))] := hl
  refine va_gets hx hb (hs.2.2.2.2.2.1 _ (List.mem_of_getElem? (i := 2) rfl)) hS hown (hts _ q1331) (fun _ h9 => h9) dJ5_getChar_0 ?_
  refine lv_if_ne (tgt := 28) hx hb dJ5_getChar_3 (by decide) (fun c_1 => ?_) (fun c_1 => absurd c_1 (by decide))
  refine lv_iload_n hx hb dJ5_getChar_28 rfl (lv_at hl 1 rfl) ?_
  refine lv_iconst (v := (1 : Int32)) hx hb dJ5_getChar_29 (by decide) ?_
  refine lv_ishl hx hb dJ5_getChar_30 ?_
  rw [show (x <<< ((1 : Int32) &&& 31)) = (nI (2 * (x).toNatClampNeg)) from ((shl1 hx1).symm).symm]
  refine lv_istore_n (lv' := [(1, _), (0, _)]) hx hb dJ5_getChar_31 rfl hl (by decide) rfl (fun ls hl => ?_)
  refine lv_aload_n hx hb dJ5_getChar_32 rfl (lv_at hl 1 rfl) ?_
  refine lv_iload_n hx hb dJ5_getChar_33 rfl (lv_at hl 0 rfl) ?_
  refine lv_iinc (v := (nI (2 * (x).toNatClampNeg + 1))) (lv' := [(1, _), (0, _)]) hx hb dJ5_getChar_34 hl (k := 0) rfl (nI_1 _) (by decide) rfl (fun ls hl => ?_)
  refine k_bald hx hb hs hm ha (vi (2 * (x).toNatClampNeg) (by omega) (by omega)) dJ5_getChar_37 ?_
  rw [show ((nI (2 * (x).toNatClampNeg))).toNatClampNeg = (2 * (x).toNatClampNeg) from (cl_nI (by omega))]
  refine lv_sipush (v := (255 : Int32)) hx hb dJ5_getChar_38 (by decide) ?_
  refine lv_iand hx hb dJ5_getChar_41 ?_
  refine va_gets hx hb (hs.2.2.2.2.2.1 _ (List.mem_of_getElem? (i := 3) rfl)) hS hown (hts _ q1333) (fun _ h9 => h9) dJ5_getChar_42 ?_
  refine lv_ishl hx hb dJ5_getChar_45 ?_
  refine lv_aload_n hx hb dJ5_getChar_46 rfl (lv_at hl 1 rfl) ?_
  refine lv_iload_n hx hb dJ5_getChar_47 rfl (lv_at hl 0 rfl) ?_
  refine k_bald hx hb hs hm ha (vi (2 * (x).toNatClampNeg + 1) (by omega) (by omega)) dJ5_getChar_48 ?_
  rw [show ((nI (2 * (x).toNatClampNeg + 1))).toNatClampNeg = (2 * (x).toNatClampNeg + 1) from (cl_nI (by omega))]
  refine lv_sipush (v := (255 : Int32)) hx hb dJ5_getChar_49 (by decide) ?_
  refine lv_iand hx hb dJ5_getChar_52 ?_
  refine va_gets hx hb (hs.2.2.2.2.2.1 _ (List.mem_of_getElem? (i := 4) rfl)) hS hown (hts _ q1335) (fun _ h9 => h9) dJ5_getChar_53 ?_
  refine lv_ishl hx hb dJ5_getChar_56 ?_
  refine lv_ior hx hb dJ5_getChar_57 ?_
  refine lv_i2c hx hb dJ5_getChar_58 rfl ?_
  exact W.zret (v := _) hx hb hr (pk_nc _) (fun t9 ht9 _ => ⟨⟨_, _, rfl, ⟨(rfl).symm, rfl⟩, hb9 ht9 hm⟩, hS.F ht9⟩) hS.2.2 dJ5_getChar_59
theorem Tz_CJ5_getChar (t : mt) (M : mm) (a : Nat) (x : Int32) : narrow .char (.int (CJ5_getChar t M a x)) = .int (CJ5_getChar t M a x) := by
  unfold CJ5_getChar
  exact pk_nc _
def CJ2_charAt (t : mt) (M : mm) (c : Nat) (x : Int32) : Int32 :=
  if (gI M 1101 c) = 0 then
    ((((aI M (gN M 1100 c) (x).toNatClampNeg) &&& (255 : Int32))).toUInt32 % 65536).toInt32
  else
    let r_3 := CJ5_getChar t M ((gN M 1100 c)) (x);
    r_3
set_option maxHeartbeats 4000000 in
theorem cmJ2_charAt (l : Launch) (E : mE) (t : mt) (M : mm) (c : Nat) (x : Int32) (hc : t c = (11, 0)) (n k : Nat) (hB : sbP t M c n k) (hx1 : ix k x) : Met l yJ2_charAt (ws_ yJ2_charAt cJ2_charAt 5 (some .char)) ({ frames := 2, cells := 0, slots := 0, locals := 43 }) (va_Pc [.ref c, .int x] (wP E t M)) (va_Qi (fun (r : Int32) (u : mm) => r = (CJ2_charAt t M c x) ∧ u = M) (fun u U => mw E t u U.heap) (eA E)) 0 0 (eA E) := by
  refine Met.ofW (cc := cJ2_charAt) (maxL := 5) (ret := (some .char)) (by decide) rfl ?_
  intro p e s m args below meth c0 s₁ B hml hv
  obtain ⟨rfl, hs, hm⟩ := hv
  have hx := B.exec
  have hb := B.bytes
  have hr := B.returns
  have hts := atoms_spec (ws := ws_ yJ2_charAt cJ2_charAt 5 (some .char)) B.pre
  have hts : ∀ w ∈ lw_all, w.before _ s = true := fun w h => hts w (List.mem_cons_of_mem _ h)
  have hown : s.vm.findClass RJ2 = some m.cls := findClass_of_methodNamed B.named
  have hlocks := B.notSynchronized
  have hS : va_S (eA E) s.heap s.heap [] := va_S.rf
  have hl := lv_entry ([.ref c, .int x]) (n := 5) (Nat.le_of_ble_eq_true rfl)
  rw [lg_entry_eq]
  generalize (lg_sl ([.ref c, .int x]) ++ List.replicate (5 - (lg_sl ([.ref c, .int x])).length) Slot.unset).toArray = ls at hl ⊢
  have hl : lv_has ls 5 [(0, .ref (c)), (1, .int (x))] := hl
  refine lv_aload_n hx hb dJ2_charAt_0 rfl (lv_at hl 0 rfl) ?_
  refine gf_1101 hx hb hts hown hs hm hc (hts _ q346) dJ2_charAt_1 ?_
  refine lv_istore_n (lv' := [(2, _), (0, _), (1, _)]) hx hb dJ2_charAt_4 rfl hl (by decide) rfl (fun ls hl => ?_)
  refine lv_aload_n hx hb dJ2_charAt_5 rfl (lv_at hl 1 rfl) ?_
  refine gf_1100 hx hb hts hown hs hm hc (hts _ q345) dJ2_charAt_6 ?_
  refine lv_astore_n (lv' := [(3, _), (2, _), (0, _), (1, _)]) hx hb dJ2_charAt_9 rfl hl (by decide) rfl (fun ls hl => ?_)
  refine lv_aload_n hx hb dJ2_charAt_10 rfl (lv_at hl 2 rfl) ?_
  refine gf_1103 hx hb hts hown hs hm hc (hts _ q349) dJ2_charAt_11 ?_
  refine lv_aload_n hx hb dJ2_charAt_14 rfl (lv_at hl 0 rfl) ?_
  refine k_alen (j := 3) (v := (nI n)) hx hb hs hm hB.2.1 (by decide) rfl rfl rfl dJ2_charAt_15 ?_
  refine lv_iload_n hx hb dJ2_charAt_16 rfl (lv_at hl 1 rfl) ?_
  refine lv_ishr hx hb dJ2_charAt_17 ?_
  refine va_mmin hx hb (hml.trans hl.1.symm) hown (hts _ q1381) (hts _ q513) (hts _ q78) (hts _ q514) (Nat.le_of_ble_eq_true rfl) (Nat.le_of_ble_eq_true rfl) (Nat.le_of_ble_eq_true rfl) (Nat.le_of_ble_eq_true rfl) dJ2_charAt_18 ?_
  refine lv_istore (lv' := [(4, _), (3, _), (2, _), (0, _), (1, _)]) hx hb dJ2_charAt_21 hl (by decide) rfl (fun ls hl => ?_)
  refine lv_iload_n hx hb dJ2_charAt_23 rfl (lv_at hl 4 rfl) ?_
  refine lv_iload hx hb dJ2_charAt_24 (lv_at hl 0 rfl) ?_
  refine k_callv (va_runS (As := [.int (x), .int ((if ((nI n) >>> ((gI M 1101 c) &&& 31)) < (gI M 1103 c) then ((nI n) >>> ((gI M 1101 c) &&& 31)) else (gI M 1103 c)))]) (rest := []) ⟨hx, hb, hml, hown, hts⟩ (cmJ4_checkIndex l E t M  (x) ((if ((nI n) >>> ((gI M 1101 c) &&& 31)) < (gI M 1103 c) then ((nI n) >>> ((gI M 1101 c) &&& 31)) else (gI M 1103 c))) (ix.nneg hx1 (by have := hB.2.2.1; have := hB.2.2.2.2; omega)) (csb_cap hB hx1)) (va_cwS 2 hts (lw_S q1382 q1344 q70 q1345) rfl rfl rfl (by decide +kernel) ⟨Nat.le_of_ble_eq_true rfl, Nat.le_of_ble_eq_true rfl⟩) (k_preS hs hm hS) rfl rfl hl.1 rfl (lv_room (Nat.le_of_ble_eq_true rfl)) dJ2_charAt_26 ⟨Nat.le_of_ble_eq_true rfl, Nat.le_of_ble_eq_true rfl⟩) hS (fun u_1 H locs hw_1 hm_1 hS => ?_)
  replace hw_1 : M = u_1 := Eq.symm hw_1
  subst hw_1
  have hm : mw E t (M) H := hm_1
  refine lv_iload_n hx hb dJ2_charAt_29 rfl (lv_at hl 2 rfl) ?_
  refine lv_if_ne (tgt := 42) hx hb dJ2_charAt_30 (by decide) (fun c_2 => ?_) (fun c_2 => ?_)
  · refine lv_aload_n hx hb dJ2_charAt_42 rfl (lv_at hl 1 rfl) ?_
    refine lv_iload_n hx hb dJ2_charAt_43 rfl (lv_at hl 4 rfl) ?_
    refine k_calli (va_runS (As := [.ref ((gN M 1100 c)), .int (x)]) (rest := []) ⟨hx, hb, hml, hown, hts⟩ (cmJ5_getChar l E t M  ((gN M 1100 c)) (x) n hB.2.1 hB.2.2.1 (csb_ix2 hB hx1 c_2).1 (csb_ix2 hB hx1 c_2).2) (va_cwS 2 hts (lw_S q1383 q1384 q71 q1385) rfl rfl rfl (by decide +kernel) ⟨Nat.le_of_ble_eq_true rfl, Nat.le_of_ble_eq_true rfl⟩) (k_preS hs hm hS) rfl rfl hl.1 rfl (lv_room (Nat.le_of_ble_eq_true rfl)) dJ2_charAt_44 ⟨Nat.le_of_ble_eq_true rfl, Nat.le_of_ble_eq_true rfl⟩) hS (fun r_3 u_3 H locs hw_3 hm_3 hS => ?_)
    obtain ⟨hr_3, hu_3⟩ := hw_3
    replace hu_3 := hu_3.symm
    subst hu_3
    have hm := hm_3
    subst hr_3
    exact W.zret (v := _) hx hb hr (Tz_CJ5_getChar _ _ _ _) (fun t9 ht9 _ => ⟨⟨_, _, rfl, ⟨((if_neg c_2).trans (rfl)).symm, rfl⟩, hb9 ht9 hm⟩, hS.F ht9⟩) hS.2.2 dJ2_charAt_47
  · refine lv_aload_n hx hb dJ2_charAt_33 rfl (lv_at hl 1 rfl) ?_
    refine lv_iload_n hx hb dJ2_charAt_34 rfl (lv_at hl 4 rfl) ?_
    refine k_bald hx hb hs hm hB.2.1 (ix.at (csb_ix hB hx1 c_2) (by have := hB.2.2.1; omega)) dJ2_charAt_35 ?_
    refine lv_sipush (v := (255 : Int32)) hx hb dJ2_charAt_36 (by decide) ?_
    refine lv_iand hx hb dJ2_charAt_39 ?_
    refine lv_i2c hx hb dJ2_charAt_40 rfl ?_
    exact W.zret (v := _) hx hb hr (pk_nc _) (fun t9 ht9 _ => ⟨⟨_, _, rfl, ⟨((if_pos c_2).trans (rfl)).symm, rfl⟩, hb9 ht9 hm⟩, hS.F ht9⟩) hS.2.2 dJ2_charAt_41
theorem Tz_CJ2_charAt (t : mt) (M : mm) (c : Nat) (x : Int32) : narrow .char (.int (CJ2_charAt t M c x)) = .int (CJ2_charAt t M c x) := by
  unfold CJ2_charAt
  (repeat' split) <;> exact pk_nc _
def CJ3_charAt (t : mt) (M : mm) (c : Nat) (x : Int32) : Int32 :=
  let r_1 := CJ2_charAt t M (c) (x);
  r_1
set_option maxHeartbeats 4000000 in
theorem cmJ3_charAt (l : Launch) (E : mE) (t : mt) (M : mm) (c : Nat) (x : Int32) (hc : t c = (11, 0)) (n k : Nat) (hB : sbP t M c n k) (hx1 : ix k x) : Met l yJ3_charAt (ws_ yJ3_charAt cJ3_charAt 2 (some .char)) ({ frames := 3, cells := 0, slots := 0, locals := 67 }) (va_Pc [.ref c, .int x] (wP E t M)) (va_Qi (fun (r : Int32) (u : mm) => r = (CJ3_charAt t M c x) ∧ u = M) (fun u U => mw E t u U.heap) (eA E)) 0 0 (eA E) := by
  refine Met.ofW (cc := cJ3_charAt) (maxL := 2) (ret := (some .char)) (by decide) rfl ?_
  intro p e s m args below meth c0 s₁ B hml hv
  obtain ⟨rfl, hs, hm⟩ := hv
  have hx := B.exec
  have hb := B.bytes
  have hr := B.returns
  have hts := atoms_spec (ws := ws_ yJ3_charAt cJ3_charAt 2 (some .char)) B.pre
  have hts : ∀ w ∈ lw_all, w.before _ s = true := fun w h => hts w (List.mem_cons_of_mem _ h)
  have hown : s.vm.findClass RJ3 = some m.cls := findClass_of_methodNamed B.named
  have hlocks := B.notSynchronized
  have hS : va_S (eA E) s.heap s.heap [] := va_S.rf
  have hl := lv_entry ([.ref c, .int x]) (n := 2) (Nat.le_of_ble_eq_true rfl)
  rw [lg_entry_eq]
  generalize (lg_sl ([.ref c, .int x]) ++ List.replicate (2 - (lg_sl ([.ref c, .int x])).length) Slot.unset).toArray = ls at hl ⊢
  have hl : lv_has ls 2 [(0, .ref (c)), (1, .int (x))] := hl
  refine lv_aload_n hx hb dJ3_charAt_0 rfl (lv_at hl 0 rfl) ?_
  refine lv_iload_n hx hb dJ3_charAt_1 rfl (lv_at hl 1 rfl) ?_
  refine k_calli (va_runSU (hs.2.1.1 10 _ rfl).2 (As := [.int (x)]) (rest := []) ⟨hx, hb, hml, hown, hts⟩ (cmJ2_charAt l E t M  (c) (x) hc n k hB hx1) (va_cwSU 1 hts (lw_SU q1378 q2096 q358 q1379 q68 q1380) rfl rfl rfl (by decide +kernel) ⟨Nat.le_of_ble_eq_true rfl, Nat.le_of_ble_eq_true rfl⟩) (k_preV hs hm hS (mw.recv hs hm (mt_ne hc (by decide)) (ct11 hc) rfl)) rfl rfl hl.1 rfl (lv_room (Nat.le_of_ble_eq_true rfl)) dJ3_charAt_2 ⟨Nat.le_of_ble_eq_true rfl, Nat.le_of_ble_eq_true rfl⟩) hS (fun r_1 u_1 H locs hw_1 hm_1 hS => ?_)
  obtain ⟨hr_1, hu_1⟩ := hw_1
  replace hu_1 := hu_1.symm
  subst hu_1
  have hm := hm_1
  subst hr_1
  exact W.zret (v := _) hx hb hr (Tz_CJ2_charAt _ _ _ _) (fun t9 ht9 _ => ⟨⟨_, _, rfl, ⟨(rfl).symm, rfl⟩, hb9 ht9 hm⟩, hS.F ht9⟩) hS.2.2 dJ3_charAt_5
theorem Tz_CJ3_charAt (t : mt) (M : mm) (c : Nat) (x : Int32) : narrow .char (.int (CJ3_charAt t M c x)) = .int (CJ3_charAt t M c x) := by
  unfold CJ3_charAt
  exact Tz_CJ2_charAt _ _ _ _
