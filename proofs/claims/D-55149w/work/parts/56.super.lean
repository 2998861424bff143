set_option maxRecDepth 100000
/-! the constructor above of an exception class of one's own, on a fresh object (follows vx_ctorMade0 of the kit) -/
def xsAtoms (own : String) (ic : Nat) (Xn : String) (names : List String) (C : String) : List Cond :=
  Bundle.throwableAtoms ++ Bundle.chain0Atoms Xn names ++ [.methodLink own ic (Bundle.init0 Xn), .selects C Bundle.tFill0 Bundle.tFill0, .selects C Bundle.tFill Bundle.tFill, .lays C Bundle.tN "cause" "Ljava/lang/Throwable;", .lays C Bundle.tN "stackTrace" Bundle.steD, .lays C Bundle.tN "suppressedExceptions" Bundle.listD, .lays C Bundle.tN "detailMessage" "Ljava/lang/String;",
   .isRef (.static Bundle.tN "UNASSIGNED_STACK" Bundle.steD), .isRef (.static Bundle.tN "SUPPRESSED_SENTINEL" Bundle.listD), .fieldLink Bundle.tN 198 Bundle.tN "backtrace" "Ljava/lang/Object;", .lays Bundle.tN Bundle.tN "backtrace" "Ljava/lang/Object;", .lays C Bundle.tN "backtrace" "Ljava/lang/Object;"]
section XSU
variable {p : Program} {l : Launch} {e : Env} {R : Room} {s : State} {m : MethodId} {args : Array Value} {below : List Frame} {meth : Method} {c : Code} {H : Heap} {locs : List Loc} {cells slots : Nat} {Q : State → Prop}
variable {cc : ByteArray} {pc : Nat} {ls : Array Slot} {rest : List Value} {E : mE} {t : mt} {M : mm}
set_option maxHeartbeats 2000000 in
theorem xs_super (hexec : p.tables.exec = Jvm.exec) (hb : c.code = cc) (hl9 : l.stackTraces = false) {own C Xn : String} {names : List String} {ic n : Nat} {A : Nat → Prop}
    (hown : s.vm.findClass own = some m.cls) (hcls : Bundle.fit Xn = true) (hnames : ∀ n ∈ names, Bundle.fit n = true) (h0 : ∀ w ∈ (xsAtoms own ic Xn names C).filter vx_no, w.before args s = true)
    (hU : vx_Zq Bundle.tN "UNASSIGNED_STACK" Bundle.steD A s s.heap) (hN : vx_Zq Bundle.tN "SUPPRESSED_SENTINEL" Bundle.listD A s s.heap) (hinst : (Cond.instantiable C n).before args s = true)
    {a : Nat} {cX : ClassId} {kX : Class} (hfX : s.vm.findClass C = some cX) (hkX : s.vm.classes[cX]? = some kX) (hcell : s.heap[a]? = some (blank cX kX)) (hsize : ls.size = c.maxLocals) (hdg : decode cc pc = .ok (.invokespecial ic, 3))
    (hRframes : names.length + 3 < R.frames) (hRlocals : (rest.map fun v => v.category).sum + (13 * (names.length + 1) + 41) ≤ R.locals)
    (kk : ∀ (H1 : Heap) (locs1 : List Loc) (ce : Cell), H1[a]? = some ce → ce.cls = cX → ce.vm = .none →
      (∀ (O nm d : String) (cf : ClassId) (kf : Class) (fi : Nat) (f : Field) (ty : FieldType), s.fieldFound? O nm d = some (cf, kf, fi, f) → ((Cond.lays C O nm d).before args s = true ∨ (Cond.laysFinal C O nm d).before args s = true) → parseFieldDescriptor d = some ty → nm ≠ "cause" → nm ≠ "stackTrace" → nm ≠ "suppressedExceptions" → ce.slots[f.slot]? = some (defaultValue ty)) →
      H1.size = s.heap.size → (∀ q : Nat, q ≠ a → H1[q]? = s.heap[q]?) → (∀ y ∈ locs1, y.base = a) → W p l e R s m args below meth c H1 locs1 cells slots Q (F0 m (pc + 3) ls rest)) :
    W p l e R s m args below meth c s.heap [] cells slots Q (F0 m pc ls (.ref a :: rest)) := by
  intro W0 hW0 X
  have htr : e.platform.stackTraces = false := (show e.platform.stackTraces = l.stackTraces by rw [X.admits.platform]).trans hl9
  have h : ∀ w ∈ xsAtoms own ic Xn names C, w.before args s = true := vx_own h0 (vx_isRefq hU.1) (vx_isRefq hN.1) hU.2.word hN.2.word
  have howns : e.platform.frameOwnsMonitors = true := by rw [X.admits.platform]
  have hfin : e.platform.finalization = false := by rw [X.admits.platform]
  have hpl : e.platform.magicAccessors = ({} : Platform).magicAccessors := by rw [X.admits.platform]
  have a' : ∀ x, x ∈ xsAtoms own ic Xn names C → x.holds args s none s [] = true := fun x hx => h x hx
  obtain ⟨T, Z, L, LZ, Y⟩ := ThrowableC.of_atoms (args := args) howns hfin hpl (fun x hx => h x (by simp [xsAtoms, hx]))
  obtain ⟨P1, Ps, hlen, L1, hL, hP1m, hlink1, hlink⟩ := Bundle.chain0 (args := args) hpl Y.init0 names Xn hcls hnames (fun x hx => h x (by simp [xsAtoms, hx]))
  have hfound : s.vm.findClass Xn = some P1.m.cls := findClass_of_methodNamed hP1m
  obtain ⟨c1, kX', hc1, hk, hord, -, -, hn6⟩ := Cond.instantiable_spec hinst
  cases Option.some.inj (hc1.symm.trans hfX)
  cases Option.some.inj (hk.symm.trans hkX)
  have hsel0 : selectMethod e.platform s.vm cX T.fill0 = .method T.fill0 := by
    obtain ⟨c2, r2, m2, q1, q2, q3, q4, -⟩ := Cond.selects_spec (a' (.selects C Bundle.tFill0 Bundle.tFill0) (by simp [xsAtoms]))
    cases Option.some.inj (q1.symm.trans hfX)
    cases Option.some.inj (q2.symm.trans (State.methodFound?_of_named Y.fill0 (by decide)))
    cases Option.some.inj (q3.symm.trans Y.fill0)
    rw [Launch.admits_selectMethod X.admits]; exact q4
  have hselF : selectMethod e.platform s.vm cX T.fill = .method T.fill := by
    obtain ⟨c2, r2, m2, q1, q2, q3, q4, -⟩ := Cond.selects_spec (a' (.selects C Bundle.tFill Bundle.tFill) (by simp [xsAtoms]))
    cases Option.some.inj (q1.symm.trans hfX)
    cases Option.some.inj (q2.symm.trans (State.methodFound?_of_named Y.fill (by decide)))
    cases Option.some.inj (q3.symm.trans Y.fill)
    rw [Launch.admits_selectMethod X.admits]; exact q4
  obtain ⟨cellS0, hcS0, hiss⟩ := Y.statics
  obtain ⟨u0, hu0⟩ := Cond.staticRefV Y.unassigned L.unassignedStatic L.statics hcS0 hiss (a' (.isRef (.static Bundle.tN "UNASSIGNED_STACK" Bundle.steD)) (by simp [xsAtoms]))
  obtain ⟨sen, hsen⟩ := Cond.staticRefV Y.sentinel L.sentinelStatic L.statics hcS0 hiss (a' (.isRef (.static Bundle.tN "SUPPRESSED_SENTINEL" Bundle.listD)) (by simp [xsAtoms]))
  obtain ⟨ci198, i198, fB, hk198, hg198, ha198, hsB, -, hnB, htB, hffB⟩ := Cond.ownField (t := .object "java/lang/Object") Y.found L.cls (by decide +kernel) (a' (.fieldLink Bundle.tN 198 Bundle.tN "backtrace" "Ljava/lang/Object;") (by simp [xsAtoms])) (a' (.lays Bundle.tN Bundle.tN "backtrace" "Ljava/lang/Object;") (by simp [xsAtoms])) e.platform hpl
  obtain ⟨cellS, hcS', heS, -, hkeep⟩ := X.same.2.2.2.2.2 T.aS cellS0 hcS0
  have hcellS : W0.heap[T.aS]? = some cellS := hcS'
  have hknownS : cellS.vm ≠ .unknown := by
    rw [heS]; intro hu
    rw [show cellS0.vm = .unknown from hu] at hiss
    cases hiss
  have hneS : T.aS ≠ a := by
    intro e9
    rw [e9, hcell] at hcS0
    cases Option.some.inj hcS0
    cases hiss
  have hcellW : W0.heap[a]? = some (freshCell cX kX) := by rw [hW0]; exact hcell
  obtain ⟨tyC, dC, hdC, hdnC⟩ := Cond.laysAt hfX hkX Y.cause (a' (.lays C Bundle.tN "cause" "Ljava/lang/Throwable;") (by simp [xsAtoms]))
  obtain ⟨tyS, dS, hdS, hdnS⟩ := Cond.laysAt hfX hkX Y.stack (a' (.lays C Bundle.tN "stackTrace" Bundle.steD) (by simp [xsAtoms]))
  obtain ⟨tyP, dP, hdP, hdnP⟩ := Cond.laysAt hfX hkX Y.supp (a' (.lays C Bundle.tN "suppressedExceptions" Bundle.listD) (by simp [xsAtoms]))
  obtain ⟨tyB, dB, hdB, hdnB⟩ := Cond.laysAt hfX hkX hffB (a' (.lays C Bundle.tN "backtrace" "Ljava/lang/Object;") (by simp [xsAtoms]))
  have bC := Cond.laysApart hdB hdC hdnB hdnC (by rw [hnB, Y.causeName]; decide)
  have bS := Cond.laysApart hdB hdS hdnB hdnS (by rw [hnB, Y.stackName]; decide)
  have bP := Cond.laysApart hdB hdP hdnB hdnP (by rw [hnB, Y.suppName]; decide)
  have hskip : SkipFacts T e.platform s (fun u => u) u0 ((preparedCellV T.toThrowableT (freshCell cX kX) a u0 sen).withEntry W0.cur) :=
    ⟨{ ci198 := ci198, i198 := i198, fBack := fB }, ⟨hk198, hg198, ha198, hsB⟩, by
      have := fresh_default (c := cX) tyB
      rw [htB] at this
      simpa [preparedCellV, Cell.setSlot, Cell.withEntry, Array.getElem?_setIfInBounds, bC, bS, bP, bC.symm, bS.symm, bP.symm, defaultValue] using this, fun _ _ => rfl⟩
  obtain ⟨tm, methC, cdC, kC, vm₁, hnC, -, -, -, -, -, -, -, hW₁, st1⟩ := Steps.initCold (tb := p.tables) (e := e) (below := below) (s := s) (U := W0) X.here hexec X.warmed hpl hown (t := Bundle.init0 Xn) rfl rfl (Bundle.fit_spec hcls).2
    (a' (.methodLink own ic (Bundle.init0 Xn)) (by simp [xsAtoms])) (h (.instanceMethod (Bundle.init0 Xn)) (by cases names <;> simp [xsAtoms, Bundle.chain0Atoms, Bundle.passAtoms])) (bytes := Bundle.five) (maxL := 1) (h (.code (Bundle.init0 Xn) Bundle.five 1 none) (by cases names <;> simp [xsAtoms, Bundle.chain0Atoms, Bundle.passAtoms]))
    (f := F0 m pc ls (.ref a :: rest)) rfl (a := a) (rest := rest) rfl (by rw [hb]; exact hdg)
  cases Option.some.inj (hnC.symm.trans hP1m)
  have X₁ := X.noted hW₁
  obtain ⟨vm₂, X₂, st2⟩ := X₁.ctorPlainOffV hexec (g := F0 m pc ls rest) rfl hsize T L Z LZ (P1 :: Ps)
    (fun P hP => by rcases List.mem_cons.mp hP with rfl | hP; exact L1; exact hL P hP) ⟨hlink1, hlink⟩ (u0 := u0) (sen := sen) (self := a) (cell := freshCell cX kX) (cellS := cellS)
    hcellW (fun _ => by simp) (by simp) rfl rfl hsel0 hselF hcellS hneS hknownS (by rw [hkeep _ (fun hmem => nomatch hmem)]; exact hu0) (by rw [hkeep _ (fun hmem => nomatch hmem)]; exact hsen)
    (Takes.of_laid hkX hord tyC (by rw [Y.causeType]; rfl)) (Takes.of_laid hkX hord tyS (by rw [Y.stackType]; exact fits_refV_array _ u0)) (Takes.of_laid hkX hord tyP (by rw [Y.suppType]; exact fits_refV_object _ sen)) Y.objLocals hskip htr [] (by rw [hb]; exact hdg)
    (by simp only [List.length_cons, hlen]; omega) (by simp only [List.length_cons, hlen]; show 2 * 0 + (rest.map fun v => v.category).sum + _ ≤ _; omega)
  have hlt : a < ((W0.setVm vm₁).setVm vm₂).heap.size := (Array.getElem?_eq_some_iff.mp hcellW).1
  have hU9 := heapAt_setCell_self (s := (W0.setVm vm₁).setVm vm₂) ((preparedCellV T.toThrowableT (freshCell cX kX) a u0 sen).setSlot T.fStack.slot u0.v) hlt
  obtain ⟨t9, a1, b1⟩ := kk _ _ _ hU9 rfl rfl (fun O nm d cf kf fi f ty hff hlay hpd n1 n2 n3 => by
      have hty := (u_facts hfX hkX hlay hff).2.2
      have hft : f.type = ty := (State.fieldFound?_type hff hpd).2
      have hfn : f.name = nm := (State.fieldFound?_type hff hpd).1
      have lc : (Cond.lays C Bundle.tN "cause" "Ljava/lang/Throwable;").before args s = true := a' _ (by simp [xsAtoms])
      have lt : (Cond.lays C Bundle.tN "stackTrace" Bundle.steD).before args s = true := a' _ (by simp [xsAtoms])
      have lp : (Cond.lays C Bundle.tN "suppressedExceptions" Bundle.listD).before args s = true := a' _ (by simp [xsAtoms])
      have e1 := u_apart hlay (Or.inl lc) hff Y.cause (by rw [hfn, Y.causeName]; exact n1)
      have e2 := u_apart hlay (Or.inl lt) hff Y.stack (by rw [hfn, Y.stackName]; exact n2)
      have e3 := u_apart hlay (Or.inl lp) hff Y.supp (by rw [hfn, Y.suppName]; exact n3)
      have := fresh_default (c := cX) hty
      rw [hft] at this
      simpa [preparedCellV, Cell.setSlot, Array.getElem?_setIfInBounds, e1, e2, e3, e1.symm, e2.symm, e3.symm] using this)
    (by rw [← hW0]; simp [State.setCell, State.setVm]) (fun q hq => by rw [← hW0]; exact heapAt_setCell_ne (s := (W0.setVm vm₁).setVm vm₂) _ (Ne.symm hq)) (fun y hy => by
      simp only [List.nil_append, List.mem_cons, List.not_mem_nil, or_false] at hy
      rcases hy with rfl | rfl | rfl | rfl <;> rfl) _ rfl X₂
  refine ⟨t9, st1 _ (fun acts => ?_), b1⟩
  rw [doInvoke_state]
  exact st2 _ a1
/-- a new object of an exception class of one's own: blank, and not yet among ours -/
theorem k_newX (hexec : p.tables.exec = Jvm.exec) (hb : c.code = cc) {own C : String} {n index : Nat} (hown : s.vm.findClass own = some m.cls) (hcl : (Cond.classLink own index C).before args s = true) (hinst : (Cond.instantiable C n).before args s = true) (hini : (Cond.initialized C).before args s = true)
    (hs : sP E s) (hm : mw E t M H) (hS : va_S (eA E) s.heap H locs) {cX : ClassId} (hfX : s.vm.findClass C = some cX) (hcells : cells + 1 ≤ R.cells) (hslots : slots + n ≤ R.slots) (hdg : decode cc pc = .ok (.new index, 3))
    (kk : ∀ (q : Nat) (H1 : Heap) (kX : Class), s.vm.classes[cX]? = some kX → H1[q]? = some (blank cX kX) → (t q).1 = 0 → eA E q → mw E t M H1 → va_S (eA E) s.heap H1 locs → W p l e R s m args below meth c H1 locs (cells + 1) (slots + n) Q (F0 m (pc + 3) ls (.ref q :: rest))) : W p l e R s m args below meth c H locs cells slots Q (F0 m pc ls rest) := by
  refine W.newcK hexec hb hown hcl hinst hini rfl hdg hcells hslots hfX rfl fun H1 kC hkC e1 z1 o1 => ?_
  refine kk H.size H1 kC hkC e1 ?_ (eA.all hs _ hS.1) (hm.kept o1) ⟨Nat.le_trans hS.1 (by omega), fun x h1 h2 => (o1 x (Nat.lt_of_lt_of_le h1 hS.1)).trans (hS.2.1 x h1 h2), hS.2.2⟩
  by_cases h9 : (t H.size).1 = 0
  · exact h9
  · exact absurd (hm.lt h9) (Nat.lt_irrefl _)
end XSU
