set_option maxRecDepth 100000
/-! Math.max and Math.min of two floats: the machine runs them by an entry of its own (follows the library's walk of Math.abs of a float) -/
def pk32 (gt : Bool) (a b : UInt32) : UInt32 := Native.java_lang_Math.nans.pick32 gt a b
def fmN (gt : Bool) : String := if gt then "max" else "min"
def fmY (gt : Bool) : MethodName := ⟨"java/lang/Math", fmN gt, "(FF)F"⟩
def fmRow (gt : Bool) : NativeRow := (NativeRow.find? Native.java_lang_Math.nans.rows "java/lang/Math" (fmN gt) "(FF)F").get (by cases gt <;> decide +kernel)
theorem fm_row (p : Program) (gt : Bool) : NativeRow.find? p.tables.natives "java/lang/Math" (fmN gt) "(FF)F" = some (fmRow gt) := by
  cases p <;> cases gt <;> rfl
theorem kd.nn {s : Bool} {n : Int} {x : UInt32} (h : kd s n x) : ¬ fD x = .nan := by
  obtain ⟨c, q, h1, -⟩ := h
  rw [h1]
  exact FP.Core.Datum.noConfusion
theorem fm_nan {a : UInt32} (h : ¬ fD a = .nan) : FP.fIsNaN a = false := decide_eq_false h
theorem fm_run {gt : Bool} {a b : UInt32} (ha : ¬ fD a = .nan) (hb : ¬ fD b = .nan) (e : Env) (S : State) : ∃ acts, ((fmRow gt).sem #[.float a, .float b]).run e S = .ok (some (.float (pk32 gt a b))) S acts := by
  have hsem : ∃ tx : String, (fmRow gt).sem #[.float a, .float b] = (do
      let r ← if FP.fIsNaN a then anyNaN32 a else if FP.fIsNaN b then anyNaN32 b else Pure.pure (Native.java_lang_Math.nans.pick32 gt a b)
      mark tx
      Pure.pure (some (.float r))) := by
    cases gt
    · exact ⟨_, rfl⟩
    · exact ⟨_, rfl⟩
  obtain ⟨tx, hsem⟩ := hsem
  have hw : wpRun ((fmRow gt).sem #[.float a, .float b]) (fun v s₂ _ => v = some (.float (pk32 gt a b)) ∧ s₂ = S) (fun _ _ _ => False) e S := by
    rw [hsem, fm_nan ha, fm_nan hb]
    simp [jvm, wpRun, pk32]
  have hw' := (wpRun_iff_run _ _ _ _ _).mp hw
  cases hr : ((fmRow gt).sem #[.float a, .float b]).run e S with
  | ok v s₂ acts₂ => rw [hr] at hw'; obtain ⟨rfl, rfl⟩ := hw'; exact ⟨_, rfl⟩
  | ctl x s₂ acts₂ => rw [hr] at hw'; cases x <;> exact hw'.elim
theorem fm_over {tb : Tables} {e : Env} {s : State} {f : JFrame} {k : Class} {x : Method} {row : NativeRow} (hpc : f.pc = 0) (hk : s.vm.classes[f.method.cls]? = some k) (hin : k.name ∈ overriddenIn) (hboot : k.loader = none) (hx : k.methods[f.method.idx]? = some x) (hrow : NativeRow.find? tb.natives k.name x.name x.desc = some row) : overridden tb e s f = some row := by
  unfold overridden
  simp [hpc, hk, hboot, hx, hrow]
  intro h
  exact absurd hin h
theorem fm_steps (p : Program) {e : Env} {below : List Frame} {s target : State} {g : JFrame} {c : Code}
    (htopS : s.topJava?.isSome) (habove : ∃ mid, s.frames.tail = mid ++ below) (hrunning : s.status = .running) (hrunnable : s.curStatus? = some .runnable) (haloneS : s.alone = true) (hcodeG : s.code? g.method = some c)
    {m : MethodId} {meth : Method} {k : Class} {cm : Code} {gt : Bool} {a b : UInt32} (acts : List Action)
    (hk : s.vm.classes[m.cls]? = some k) (hx : k.methods[m.idx]? = some meth) (hboot : k.loader = none)
    (hkn : k.name = "java/lang/Math") (hmn : meth.name = fmN gt) (hmd : meth.desc = "(FF)F") (hsig : parseMethodDescriptor "(FF)F" = some meth.sig) (hstc : meth.isStatic = true)
    (hc : meth.code = some cm) (hml : cm.maxLocals = 2) (hl : meth.locks = false)
    (hroom : (s.calling g m #[.float a, .float b]).hasRoom e.platform {} = true)
    (ha : ¬ fD a = .nan) (hb : ¬ fD b = .nan) {ig : Instr} {len : Nat} (hdg : decode c.code g.pc = .ok (ig, len))
    (hrest : Steps p.tables e below (s.setTop { g with pc := g.pc + len, stack := .float (pk32 gt a b) :: g.stack }) target) :
    Steps p.tables e below (doInvoke e (s.setTop g) acts m #[.float a, .float b]).1 target := by
  obtain ⟨g₀, hg⟩ := Option.isSome_iff_exists.mp htopS
  obtain ⟨r, hr⟩ := State.topJava?_eq_some.mp hg
  obtain ⟨mid, hmid⟩ := habove
  have hcur : s.cur < s.threads.size := State.cur_lt_of_frames hr
  have hm : s.vm.method? m = some meth := by simp [Vm.method?, hk, hx]
  have htop : s.setTop g = s.setFrames (.java g :: r) := State.setTop_of_frames _ hr
  have htail : s.frames.tail = r := by rw [hr]; rfl
  have hfull : e.platform.stackFull (s.setTop g).me (s.setTop g).frames cm.maxLocals = false := by
    have hfc := State.frames_calling htopS g m #[.float a, .float b]
    obtain ⟨-, r2, -, r4⟩ := State.hasRoom_stack hroom
    rw [State.localsInUse_invoking hfc (meth := meth) (c := cm) hm hc] at r4
    rw [hfc, htail] at r2
    rw [htail] at r4
    have hw := stackUse_le_stackWeight (.java g :: r)
    rw [State.calling_eq htopS, State.stackLimits_setFrames] at r2 r4
    rw [htop, State.frames_setFrames _ hcur]
    refine Platform.stackFull_eq_false (by rw [State.stackLimits_setFrames]; simp only [List.length_cons] at r2 ⊢; have : ({} : Room).frames = 0 := rfl; omega) (by rw [State.stackLimits_setFrames]; have : ({} : Room).locals = 0 := rfl; omega)
  rw [(doInvoke_java (s := s.setTop g) (e := e) (acts := acts) (args := #[.float a, .float b]) (meth := meth) (code := cm) hm hc hl hfull).1, hml]
  have hU : (s.setTop g).pushFrame (.java { method := m, pc := 0, locals := argsToLocals #[.float a, .float b] 2, stack := [], locked := none }) = s.setFrames (.java (entryFrame m #[.float a, .float b] 2) :: .java g :: r) := by
    rw [State.pushFrame, State.frames_setTop _ hr, htop, State.setFrames_setFrames]
    rfl
  rw [hU]
  have hf1 : (s.setFrames (.java (entryFrame m #[.float a, .float b] 2) :: .java g :: r)).frames = .java (entryFrame m #[.float a, .float b] 2) :: .java g :: r := State.frames_setFrames _ hcur
  have hov : overridden p.tables e (s.setFrames (.java (entryFrame m #[.float a, .float b] 2) :: .java g :: r)) (entryFrame m #[.float a, .float b] 2) = some (fmRow gt) :=
    fm_over (k := k) (x := meth) rfl hk (by rw [hkn]; decide) hboot hx (by rw [hkn, hmn, hmd]; exact fm_row p gt)
  have hb2 : ∀ F : List Frame, ((s.setFrames F).vm.classes[m.cls]?.bind fun y => y.methods[m.idx]?) = some meth := by
    intro F
    show (s.vm.classes[m.cls]?.bind fun y => y.methods[m.idx]?) = some meth
    simp [hk, hx]
  have hsig2 : parseMethodDescriptor "(FF)F" = some { parameters := [.float, .float], returnType := some .float } := by decide +kernel
  have hparams : meth.sig.parameters.length = 2 := by
    have h3 := hsig
    rw [hsig2] at h3
    rw [← Option.some.inj h3]
    rfl
  obtain ⟨acts₂, hr2⟩ := fm_run (gt := gt) ha hb e (s.setFrames (.native { method := m, args := #[.float a, .float b] } :: .java g :: r))
  have hcode : ∀ F : List Frame, (s.setFrames F).code? g.method = some c := by
    intro F
    have := hcodeG
    rw [State.code?_eq] at this ⊢
    simpa [State.setFrames] using this
  have hfs : handOver (s.setFrames (.native { method := m, args := #[.float a, .float b] } :: .java g :: r)) (some (.float (pk32 gt a b))) (.java g :: r)
      = some (.java { g with pc := g.pc + len, stack := .float (pk32 gt a b) :: g.stack } :: r) := by
    simp [handOver, hcode, hdg, Except.toOption]
  have hstep2 : (stepThread p.tables e (s.setFrames (.java (entryFrame m #[.float a, .float b] 2) :: .java g :: r))).1 = s.setTop { g with pc := g.pc + len, stack := .float (pk32 gt a b) :: g.stack } := by
    unfold stepThread
    simp only [hf1, hov]
    have hmA : argCount (s.setFrames (.java (entryFrame m #[.float a, .float b] 2) :: .java g :: r)) m = 2 := by
      unfold argCount
      rw [hb2]
      show meth.sig.parameters.length + (if meth.isStatic = true then 0 else 1) = 2
      rw [hstc, hparams]
      rfl
    simp [entryFrame, argsToLocals, Value.category] at hmA ⊢
    simp [hmA, hr2, afterNative]
    rw [doReturn_native (f := { method := m, args := #[.float a, .float b] }) (below := .java g :: r) (State.frames_setFrames _ hcur) rfl hfs, State.setFrames_setFrames, ← State.setTop_of_frames _ hr]
  refine Steps.head ⟨hrunning, by simpa using hrunnable, by simpa using haloneS⟩ ⟨.java (entryFrame m #[.float a, .float b] 2) :: .java g :: mid, by rw [hf1]; rw [hr] at hmid; simp at hmid; simp [hmid], by simp, by simp⟩ ?_
  rw [hstep2]
  exact hrest
section KFM
variable {p : Program} {l : Launch} {e : Env} {R : Room} {s : State} {m : MethodId} {args : Array Value} {below : List Frame} {meth : Method} {c : Code} {H : Heap} {locs : List Loc} {cells slots : Nat} {Q : State → Prop}
variable {cc : ByteArray} {pc : Nat} {ls : Array Slot} {rest : List Value}
theorem k_fpick (gt : Bool) (hexec : p.tables.exec = Jvm.exec) (hb : c.code = cc) (hml : c.maxLocals = ls.size) {own : String} {index : Nat} {bytes : ByteArray} (hown : s.vm.findClass own = some m.cls) (hlink : (Cond.methodLink own index (fmY gt)).before args s = true) (hstat : (Cond.static (fmY gt)).before args s = true) (hini : (Cond.initialized "java/lang/Math").before args s = true) (hcode : (Cond.code (fmY gt) bytes 2 (some .float)).before args s = true)
    {x y : UInt32} (hx : ¬ fD x = .nan) (hy : ¬ fD y = .nan) (hframes : 1 ≤ R.frames) (hlocals : (rest.map fun v => v.category).sum + 13 ≤ R.locals) (hc : cells ≤ R.cells) (hs : slots ≤ R.slots) (hdg : decode cc pc = .ok (.invokestatic index, 3))
    (kk : W p l e R s m args below meth c H locs cells slots Q (F0 m (pc + 3) ls (.float (pk32 gt x y) :: rest))) : W p l e R s m args below meth c H locs cells slots Q (F0 m pc ls (.float y :: .float x :: rest)) := by
  intro T hT X
  obtain ⟨mk, hnamed⟩ := Cond.code_named hcode
  obtain ⟨methM, cM, hmethM, hcodeM, -, hlocalsM, -, hlocksM, -, hsigM⟩ := Cond.code_spec hnamed hcode
  have hstatic : methM.isStatic = true := Cond.static_spec hnamed hmethM hstat
  obtain ⟨kP, hkP, -⟩ := className_of_methodNamed hnamed
  have hinitP : kP.init = .initialized := Cond.initialized_spec (findClass_of_methodNamed hnamed) hkP hini
  have hdg' : decode c.code pc = .ok (.invokestatic index, 3) := by rw [hb]; exact hdg
  have hsig0 : parseMethodDescriptor "(FF)F" = some methM.sig := by cases gt <;> exact hsigM
  have hlen : ([.float x, .float y] : List Value).length = methM.sig.parameters.length := by
    have h : parseMethodDescriptor "(FF)F" = some { parameters := [.float, .float], returnType := some .float } := by decide +kernel
    rw [h] at hsig0
    rw [← Option.some.inj hsig0]; rfl
  obtain ⟨vm₁, X₁, hstep₁⟩ := X.invokestatic hexec hown hlink hnamed hmethM hstatic hkP hinitP (by cases gt <;> decide) (g := F0 m pc ls (.float y :: .float x :: rest)) rfl (argsL := [.float x, .float y]) (rest := rest) hlen rfl hdg'
  obtain ⟨t, a1, b1⟩ := kk (T.setVm vm₁) hT X₁
  refine ⟨t, hstep₁ _ (fun acts => ?_), b1⟩
  have hn₁ := X₁.named hnamed
  have hcodeU : (Cond.code (fmY gt) bytes 2 (some .float)).before args (T.setVm vm₁) = true := Cond.tabsOnly_warm (args' := args) (T := T.setVm vm₁) X₁.warmed _ rfl hcode
  obtain ⟨methN, cN, hmethN, hcodeN, -, hlocalsN, -, hlocksN, -, hsigN⟩ := Cond.code_spec hn₁ hcodeU
  obtain ⟨kN, hkN, hkname⟩ := className_of_methodNamed hn₁
  obtain ⟨hmnN, hmdN⟩ := name_of_methodNamed hn₁ hmethN
  have hxN : kN.methods[mk.idx]? = some methN := by
    have h9 := hmethN
    simp only [Vm.method?] at h9
    rw [hkN] at h9
    exact h9
  have hbootN : kN.loader = none := Vm.bootOf_findClass (findClass_of_methodNamed hn₁) hkN
  have hstatU : (Cond.static (fmY gt)).before args (T.setVm vm₁) = true := Cond.tabsOnly_warm (args' := args) (T := T.setVm vm₁) X₁.warmed _ rfl hstat
  exact fm_steps p X₁.here.top X₁.here.above X₁.here.running X₁.here.runnable X₁.here.alone X₁.here.code acts hkN hxN hbootN (by rw [hkname]; cases gt <;> rfl) (hmnN.trans (by cases gt <;> rfl)) (hmdN.trans (by cases gt <;> rfl)) (by cases gt <;> exact hsigN) (Cond.static_spec hn₁ hmethN hstatU) hcodeN hlocalsN hlocksN
    (X₁.room_calling (by rw [hml]) hmethN hcodeN (R' := {}) (by show 0 + 1 ≤ R.frames; omega) (by rw [hlocalsN]; show 2 * 0 + (rest.map fun v => v.category).sum + (2 + 11) + 0 ≤ R.locals; omega) (by show cells + 0 ≤ R.cells; omega) (by show slots + 0 ≤ R.slots; omega)) hx hy hdg' a1
end KFM
