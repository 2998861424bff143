set_option maxRecDepth 100000
/-! exceptions: rows, checks -/
theorem at0_IAE {own : String} {ic : Nat} {args : Array Value} {s : State} {E : mE} (hts : ∀ w ∈ lw_all, w.before args s = true) (hs : sP E s) (hlink : (Cond.methodLink own ic (Bundle.init0 "java/lang/IllegalArgumentException")).before args s = true) : ∀ w ∈ vx_at0 own ic "java/lang/IllegalArgumentException" ["java/lang/RuntimeException", "java/lang/Exception"], w.before args s = true := by
  intro w hw
  have h2 := (List.mem_filter.mp hw).2
  have h1 := (List.mem_filter.mp hw).1
  simp only [Bundle.ownAtoms0, Bundle.throwableAtoms, Bundle.chain0Atoms, Bundle.passAtoms, List.append_assoc, List.cons_append, List.nil_append, List.mem_cons, List.not_mem_nil, or_false] at h1
  rcases h1 with rfl | rfl | rfl | rfl | rfl | rfl | rfl | rfl | rfl | rfl | rfl | rfl | rfl | rfl | rfl | rfl | rfl | rfl | rfl | rfl | rfl | rfl | rfl | rfl | rfl | rfl | rfl | rfl | rfl | rfl | rfl | rfl | rfl | rfl | rfl | rfl | rfl | rfl | rfl | rfl | rfl | rfl | rfl | rfl | rfl | rfl | rfl | rfl | rfl | rfl | rfl | rfl | rfl
  · exact hts _ q73
  · exact hts _ q425
  · exact hts _ q434
  · exact hts _ q445
  · exact hts _ q448
  · exact hts _ q450
  · exact hts _ q426
  · exact hts _ q427
  · exact hts _ q103
  · exact hts _ q104
  · exact hts _ q428
  · exact hts _ q433
  · exact hts _ q446
  · exact hts _ q466
  · exact hts _ q415
  · exact hts _ q467
  · exact hts _ q417
  · exact hts _ q468
  · exact hts _ q419
  · exact hts _ q429
  · exact absurd h2 (by decide)
  · exact hts _ q431
  · exact absurd h2 (by decide)
  · exact hts _ q421
  · exact hts _ q715
  · exact hts _ q716
  · exact hts _ q717
  · exact hts _ q718
  · exact hs.2.2.1.at q406 rfl rfl
  · exact hts _ q718
  · exact hts _ q719
  · exact hts _ q720
  · exact hts _ q721
  · exact hs.2.2.1.at q408 rfl rfl
  · exact hts _ q721
  · exact hts _ q722
  · exact hts _ q723
  · exact hts _ q426
  · exact hs.2.2.1.at q410 rfl rfl
  · exact hlink
  · exact hts _ q706
  · exact hs.2.2.1.at q707 rfl rfl
  · exact hts _ q708
  · exact hts _ q440
  · exact hts _ q709
  · exact hts _ q710
  · exact hts _ q711
  · exact hts _ q712
  · exact absurd h2 (by decide)
  · exact absurd h2 (by decide)
  · exact hts _ q464
  · exact hts _ q423
  · exact hts _ q713
theorem at0_UOE {own : String} {ic : Nat} {args : Array Value} {s : State} {E : mE} (hts : ∀ w ∈ lw_all, w.before args s = true) (hs : sP E s) (hlink : (Cond.methodLink own ic (Bundle.init0 "java/lang/UnsupportedOperationException")).before args s = true) : ∀ w ∈ vx_at0 own ic "java/lang/UnsupportedOperationException" ["java/lang/RuntimeException", "java/lang/Exception"], w.before args s = true := by
  intro w hw
  have h2 := (List.mem_filter.mp hw).2
  have h1 := (List.mem_filter.mp hw).1
  simp only [Bundle.ownAtoms0, Bundle.throwableAtoms, Bundle.chain0Atoms, Bundle.passAtoms, List.append_assoc, List.cons_append, List.nil_append, List.mem_cons, List.not_mem_nil, or_false] at h1
  rcases h1 with rfl | rfl | rfl | rfl | rfl | rfl | rfl | rfl | rfl | rfl | rfl | rfl | rfl | rfl | rfl | rfl | rfl | rfl | rfl | rfl | rfl | rfl | rfl | rfl | rfl | rfl | rfl | rfl | rfl | rfl | rfl | rfl | rfl | rfl | rfl | rfl | rfl | rfl | rfl | rfl | rfl | rfl | rfl | rfl | rfl | rfl | rfl | rfl | rfl | rfl | rfl | rfl | rfl
  · exact hts _ q73
  · exact hts _ q425
  · exact hts _ q434
  · exact hts _ q445
  · exact hts _ q448
  · exact hts _ q450
  · exact hts _ q426
  · exact hts _ q427
  · exact hts _ q103
  · exact hts _ q104
  · exact hts _ q428
  · exact hts _ q433
  · exact hts _ q446
  · exact hts _ q466
  · exact hts _ q415
  · exact hts _ q467
  · exact hts _ q417
  · exact hts _ q468
  · exact hts _ q419
  · exact hts _ q429
  · exact absurd h2 (by decide)
  · exact hts _ q431
  · exact absurd h2 (by decide)
  · exact hts _ q421
  · exact hts _ q797
  · exact hts _ q798
  · exact hts _ q799
  · exact hts _ q718
  · exact hs.2.2.1.at q406 rfl rfl
  · exact hts _ q718
  · exact hts _ q719
  · exact hts _ q720
  · exact hts _ q721
  · exact hs.2.2.1.at q408 rfl rfl
  · exact hts _ q721
  · exact hts _ q722
  · exact hts _ q723
  · exact hts _ q426
  · exact hs.2.2.1.at q410 rfl rfl
  · exact hlink
  · exact hts _ q788
  · exact hs.2.2.1.at q789 rfl rfl
  · exact hts _ q790
  · exact hts _ q443
  · exact hts _ q791
  · exact hts _ q792
  · exact hts _ q793
  · exact hts _ q794
  · exact absurd h2 (by decide)
  · exact absurd h2 (by decide)
  · exact hts _ q464
  · exact hts _ q423
  · exact hts _ q795
theorem at0_IOB {own : String} {ic : Nat} {args : Array Value} {s : State} {E : mE} (hts : ∀ w ∈ lw_all, w.before args s = true) (hs : sP E s) (hlink : (Cond.methodLink own ic (Bundle.init0 "java/lang/IndexOutOfBoundsException")).before args s = true) : ∀ w ∈ vx_at0 own ic "java/lang/IndexOutOfBoundsException" ["java/lang/RuntimeException", "java/lang/Exception"], w.before args s = true := by
  intro w hw
  have h2 := (List.mem_filter.mp hw).2
  have h1 := (List.mem_filter.mp hw).1
  simp only [Bundle.ownAtoms0, Bundle.throwableAtoms, Bundle.chain0Atoms, Bundle.passAtoms, List.append_assoc, List.cons_append, List.nil_append, List.mem_cons, List.not_mem_nil, or_false] at h1
  rcases h1 with rfl | rfl | rfl | rfl | rfl | rfl | rfl | rfl | rfl | rfl | rfl | rfl | rfl | rfl | rfl | rfl | rfl | rfl | rfl | rfl | rfl | rfl | rfl | rfl | rfl | rfl | rfl | rfl | rfl | rfl | rfl | rfl | rfl | rfl | rfl | rfl | rfl | rfl | rfl | rfl | rfl | rfl | rfl | rfl | rfl | rfl | rfl | rfl | rfl | rfl | rfl | rfl | rfl
  · exact hts _ q73
  · exact hts _ q425
  · exact hts _ q434
  · exact hts _ q445
  · exact hts _ q448
  · exact hts _ q450
  · exact hts _ q426
  · exact hts _ q427
  · exact hts _ q103
  · exact hts _ q104
  · exact hts _ q428
  · exact hts _ q433
  · exact hts _ q446
  · exact hts _ q466
  · exact hts _ q415
  · exact hts _ q467
  · exact hts _ q417
  · exact hts _ q468
  · exact hts _ q419
  · exact hts _ q429
  · exact absurd h2 (by decide)
  · exact hts _ q431
  · exact absurd h2 (by decide)
  · exact hts _ q421
  · exact hts _ q854
  · exact hts _ q855
  · exact hts _ q856
  · exact hts _ q718
  · exact hs.2.2.1.at q406 rfl rfl
  · exact hts _ q718
  · exact hts _ q719
  · exact hts _ q720
  · exact hts _ q721
  · exact hs.2.2.1.at q408 rfl rfl
  · exact hts _ q721
  · exact hts _ q722
  · exact hts _ q723
  · exact hts _ q426
  · exact hs.2.2.1.at q410 rfl rfl
  · exact hlink
  · exact hts _ q845
  · exact hs.2.2.1.at q846 rfl rfl
  · exact hts _ q847
  · exact hts _ q441
  · exact hts _ q848
  · exact hts _ q849
  · exact hts _ q850
  · exact hts _ q851
  · exact absurd h2 (by decide)
  · exact absurd h2 (by decide)
  · exact hts _ q464
  · exact hts _ q423
  · exact hts _ q852
theorem at0_NSE {own : String} {ic : Nat} {args : Array Value} {s : State} {E : mE} (hts : ∀ w ∈ lw_all, w.before args s = true) (hs : sP E s) (hlink : (Cond.methodLink own ic (Bundle.init0 "java/util/NoSuchElementException")).before args s = true) : ∀ w ∈ vx_at0 own ic "java/util/NoSuchElementException" ["java/lang/RuntimeException", "java/lang/Exception"], w.before args s = true := by
  intro w hw
  have h2 := (List.mem_filter.mp hw).2
  have h1 := (List.mem_filter.mp hw).1
  simp only [Bundle.ownAtoms0, Bundle.throwableAtoms, Bundle.chain0Atoms, Bundle.passAtoms, List.append_assoc, List.cons_append, List.nil_append, List.mem_cons, List.not_mem_nil, or_false] at h1
  rcases h1 with rfl | rfl | rfl | rfl | rfl | rfl | rfl | rfl | rfl | rfl | rfl | rfl | rfl | rfl | rfl | rfl | rfl | rfl | rfl | rfl | rfl | rfl | rfl | rfl | rfl | rfl | rfl | rfl | rfl | rfl | rfl | rfl | rfl | rfl | rfl | rfl | rfl | rfl | rfl | rfl | rfl | rfl | rfl | rfl | rfl | rfl | rfl | rfl | rfl | rfl | rfl | rfl | rfl
  · exact hts _ q73
  · exact hts _ q425
  · exact hts _ q434
  · exact hts _ q445
  · exact hts _ q448
  · exact hts _ q450
  · exact hts _ q426
  · exact hts _ q427
  · exact hts _ q103
  · exact hts _ q104
  · exact hts _ q428
  · exact hts _ q433
  · exact hts _ q446
  · exact hts _ q466
  · exact hts _ q415
  · exact hts _ q467
  · exact hts _ q417
  · exact hts _ q468
  · exact hts _ q419
  · exact hts _ q429
  · exact absurd h2 (by decide)
  · exact hts _ q431
  · exact absurd h2 (by decide)
  · exact hts _ q421
  · exact hts _ q1056
  · exact hts _ q1057
  · exact hts _ q1058
  · exact hts _ q718
  · exact hs.2.2.1.at q406 rfl rfl
  · exact hts _ q718
  · exact hts _ q719
  · exact hts _ q720
  · exact hts _ q721
  · exact hs.2.2.1.at q408 rfl rfl
  · exact hts _ q721
  · exact hts _ q722
  · exact hts _ q723
  · exact hts _ q426
  · exact hs.2.2.1.at q410 rfl rfl
  · exact hlink
  · exact hts _ q1047
  · exact hs.2.2.1.at q1048 rfl rfl
  · exact hts _ q1049
  · exact hts _ q444
  · exact hts _ q1050
  · exact hts _ q1051
  · exact hts _ q1052
  · exact hts _ q1053
  · exact absurd h2 (by decide)
  · exact absurd h2 (by decide)
  · exact hts _ q464
  · exact hts _ q423
  · exact hts _ q1054
theorem at0_ISE {own : String} {ic : Nat} {args : Array Value} {s : State} {E : mE} (hts : ∀ w ∈ lw_all, w.before args s = true) (hs : sP E s) (hlink : (Cond.methodLink own ic (Bundle.init0 "java/lang/IllegalStateException")).before args s = true) : ∀ w ∈ vx_at0 own ic "java/lang/IllegalStateException" ["java/lang/RuntimeException", "java/lang/Exception"], w.before args s = true := by
  intro w hw
  have h2 := (List.mem_filter.mp hw).2
  have h1 := (List.mem_filter.mp hw).1
  simp only [Bundle.ownAtoms0, Bundle.throwableAtoms, Bundle.chain0Atoms, Bundle.passAtoms, List.append_assoc, List.cons_append, List.nil_append, List.mem_cons, List.not_mem_nil, or_false] at h1
  rcases h1 with rfl | rfl | rfl | rfl | rfl | rfl | rfl | rfl | rfl | rfl | rfl | rfl | rfl | rfl | rfl | rfl | rfl | rfl | rfl | rfl | rfl | rfl | rfl | rfl | rfl | rfl | rfl | rfl | rfl | rfl | rfl | rfl | rfl | rfl | rfl | rfl | rfl | rfl | rfl | rfl | rfl | rfl | rfl | rfl | rfl | rfl | rfl | rfl | rfl | rfl | rfl | rfl | rfl
  · exact hts _ q73
  · exact hts _ q425
  · exact hts _ q434
  · exact hts _ q445
  · exact hts _ q448
  · exact hts _ q450
  · exact hts _ q426
  · exact hts _ q427
  · exact hts _ q103
  · exact hts _ q104
  · exact hts _ q428
  · exact hts _ q433
  · exact hts _ q446
  · exact hts _ q466
  · exact hts _ q415
  · exact hts _ q467
  · exact hts _ q417
  · exact hts _ q468
  · exact hts _ q419
  · exact hts _ q429
  · exact absurd h2 (by decide)
  · exact hts _ q431
  · exact absurd h2 (by decide)
  · exact hts _ q421
  · exact hts _ q1261
  · exact hts _ q1262
  · exact hts _ q1263
  · exact hts _ q718
  · exact hs.2.2.1.at q406 rfl rfl
  · exact hts _ q718
  · exact hts _ q719
  · exact hts _ q720
  · exact hts _ q721
  · exact hs.2.2.1.at q408 rfl rfl
  · exact hts _ q721
  · exact hts _ q722
  · exact hts _ q723
  · exact hts _ q426
  · exact hs.2.2.1.at q410 rfl rfl
  · exact hlink
  · exact hts _ q404
  · exact hs.2.2.1.at q405 rfl rfl
  · exact hts _ q412
  · exact hts _ q413
  · exact hts _ q414
  · exact hts _ q416
  · exact hts _ q418
  · exact hts _ q420
  · exact absurd h2 (by decide)
  · exact absurd h2 (by decide)
  · exact hts _ q464
  · exact hts _ q423
  · exact hts _ q422
/-- the class of an exception by our number -/
def exN (k : Int32) : String := if k = 1 then "java/lang/IllegalArgumentException" else if k = 2 then "java/lang/UnsupportedOperationException" else if k = 3 then "java/lang/IndexOutOfBoundsException" else if k = 4 then "java/util/NoSuchElementException" else "java/lang/IllegalStateException"
/-- what a throw leaves: an exception of the JDK's -/
def XS (E : mE) (t : mt) (k : Int32) (En : String) (_ : Addr) (u : mm) (H : Heap) : Prop := En = exN k ∧ mw E t u H
/-- .. one of the class's own that it refuses with -/
def XR (E : mE) (t : mt) (rs dt : Int32) (En : String) (q : Addr) (u : mm) (H : Heap) : Prop := En = "CliffPlots$Refused" ∧ (t q).1 = 0 ∧ mw E (m1 t q (9, 0)) (sI (sI u 900 q rs) 901 q dt) H
/-- .. a fault in a text -/
def XF (E : mE) (t : mt) (pos : Int32) (En : String) (q : Addr) (u : mm) (H : Heap) : Prop := En = "CliffPlots$Fault" ∧ (t q).1 = 0 ∧ mw E (m1 t q (12, 0)) (sI u 1200 q pos) H
section KX
variable {p : Program} {l : Launch} {e : Env} {R : Room} {s : State} {m : MethodId} {args : Array Value} {below : List Frame} {meth : Method} {c : Code} {H : Heap} {locs : List Loc} {cells slots : Nat} {Q : State → Prop}
variable {cc : ByteArray} {pc : Nat} {ls : Array Slot} {rest st0 : List Value} {E : mE} {t : mt} {M : mm} {mc ms mc0 ms0 : Nat} {av : Array Value}
variable {SX : Type} {px : SX → Prop} {BX : String → Addr → SX → Heap → Prop}
theorem kx_calli {S : Type} {post : Int32 → S → Prop} {B : S → Heap → Prop} (hr : vx_Run p l e R s m args below meth c H locs cells slots mc ms (F0 m pc ls st0) rest (va_Qi post (fun u U => B u U.heap) (eA E) av) (vx_X px (fun En q u U => BX En q u U.heap) (eA E)) (eA E)) (hS : va_S (eA E) s.heap H locs)
    (kx : ∀ (En : String) (ce : Cell) (q : Addr) (u : SX) (H1 : Heap) (locs1 : List Loc), px u → BX En q u H1 → va_S (eA E) s.heap H1 locs1 → H1[q]? = some ce → ce.vm = .none → s.vm.findClass En = some ce.cls → vx_W p l e R s m args below meth c H1 locs1 (cells + mc) (slots + ms) Q (F0 m pc ls rest) q)
    (kk : ∀ (r : Int32) (u : S) (H1 : Heap) (locs1 : List Loc), post r u → B u H1 → va_S (eA E) s.heap H1 locs1 → W p l e R s m args below meth c H1 locs1 (cells + mc) (slots + ms) Q (F0 m (pc + 3) ls (.int r :: rest))) : W p l e R s m args below meth c H locs cells slots Q (F0 m pc ls st0) :=
  vx_calli hr hS (fun _ _ h => h) (fun _ h => h) (fun _ _ h => h) (fun En ce q u t9 H1 locs1 ht9 _ hp hB _ _ hS1 h1 h2 h3 => kx En ce q u H1 locs1 hp (by rw [← ht9]; exact hB) hS1 h1 h2 h3) (fun r u t9 H1 locs1 ht9 _ hp hB _ _ hS1 => kk r u H1 locs1 hp (by rw [← ht9]; exact hB) hS1)
theorem kx_callf {S : Type} {post : UInt32 → S → Prop} {B : S → Heap → Prop} (hr : vx_Run p l e R s m args below meth c H locs cells slots mc ms (F0 m pc ls st0) rest (va_Qf post (fun u U => B u U.heap) (eA E) av) (vx_X px (fun En q u U => BX En q u U.heap) (eA E)) (eA E)) (hS : va_S (eA E) s.heap H locs)
    (kx : ∀ (En : String) (ce : Cell) (q : Addr) (u : SX) (H1 : Heap) (locs1 : List Loc), px u → BX En q u H1 → va_S (eA E) s.heap H1 locs1 → H1[q]? = some ce → ce.vm = .none → s.vm.findClass En = some ce.cls → vx_W p l e R s m args below meth c H1 locs1 (cells + mc) (slots + ms) Q (F0 m pc ls rest) q)
    (kk : ∀ (r : UInt32) (u : S) (H1 : Heap) (locs1 : List Loc), post r u → B u H1 → va_S (eA E) s.heap H1 locs1 → W p l e R s m args below meth c H1 locs1 (cells + mc) (slots + ms) Q (F0 m (pc + 3) ls (.float r :: rest))) : W p l e R s m args below meth c H locs cells slots Q (F0 m pc ls st0) :=
  vx_callf hr hS (fun _ _ h => h) (fun _ h => h) (fun _ _ h => h) (fun En ce q u t9 H1 locs1 ht9 _ hp hB _ _ hS1 h1 h2 h3 => kx En ce q u H1 locs1 hp (by rw [← ht9]; exact hB) hS1 h1 h2 h3) (fun r u t9 H1 locs1 ht9 _ hp hB _ _ hS1 => kk r u H1 locs1 hp (by rw [← ht9]; exact hB) hS1)
theorem kx_calll {S : Type} {post : Int64 → S → Prop} {B : S → Heap → Prop} (hr : vx_Run p l e R s m args below meth c H locs cells slots mc ms (F0 m pc ls st0) rest (va_Ql post (fun u U => B u U.heap) (eA E) av) (vx_X px (fun En q u U => BX En q u U.heap) (eA E)) (eA E)) (hS : va_S (eA E) s.heap H locs)
    (kx : ∀ (En : String) (ce : Cell) (q : Addr) (u : SX) (H1 : Heap) (locs1 : List Loc), px u → BX En q u H1 → va_S (eA E) s.heap H1 locs1 → H1[q]? = some ce → ce.vm = .none → s.vm.findClass En = some ce.cls → vx_W p l e R s m args below meth c H1 locs1 (cells + mc) (slots + ms) Q (F0 m pc ls rest) q)
    (kk : ∀ (r : Int64) (u : S) (H1 : Heap) (locs1 : List Loc), post r u → B u H1 → va_S (eA E) s.heap H1 locs1 → W p l e R s m args below meth c H1 locs1 (cells + mc) (slots + ms) Q (F0 m (pc + 3) ls (.long r :: rest))) : W p l e R s m args below meth c H locs cells slots Q (F0 m pc ls st0) :=
  vx_calll hr hS (fun _ _ h => h) (fun _ h => h) (fun _ _ h => h) (fun En ce q u t9 H1 locs1 ht9 _ hp hB _ _ hS1 h1 h2 h3 => kx En ce q u H1 locs1 hp (by rw [← ht9]; exact hB) hS1 h1 h2 h3) (fun r u t9 H1 locs1 ht9 _ hp hB _ _ hS1 => kk r u H1 locs1 hp (by rw [← ht9]; exact hB) hS1)
theorem kx_callq {S : Type} {post : Option Nat → S → Prop} {B : S → Heap → Prop} (hr : vx_Run p l e R s m args below meth c H locs cells slots mc ms (F0 m pc ls st0) rest (va_Qq post (fun u U => B u U.heap) (eA E) av) (vx_X px (fun En q u U => BX En q u U.heap) (eA E)) (eA E)) (hS : va_S (eA E) s.heap H locs)
    (kx : ∀ (En : String) (ce : Cell) (q : Addr) (u : SX) (H1 : Heap) (locs1 : List Loc), px u → BX En q u H1 → va_S (eA E) s.heap H1 locs1 → H1[q]? = some ce → ce.vm = .none → s.vm.findClass En = some ce.cls → vx_W p l e R s m args below meth c H1 locs1 (cells + mc) (slots + ms) Q (F0 m pc ls rest) q)
    (kk : ∀ (r : Option Nat) (u : S) (H1 : Heap) (locs1 : List Loc), post r u → B u H1 → va_S (eA E) s.heap H1 locs1 → W p l e R s m args below meth c H1 locs1 (cells + mc) (slots + ms) Q (F0 m (pc + 3) ls (va_rf r :: rest))) : W p l e R s m args below meth c H locs cells slots Q (F0 m pc ls st0) :=
  vx_callq hr hS (fun _ _ h => h) (fun _ h => h) (fun _ _ h => h) (fun En ce q u t9 H1 locs1 ht9 _ hp hB _ _ hS1 h1 h2 h3 => kx En ce q u H1 locs1 hp (by rw [← ht9]; exact hB) hS1 h1 h2 h3) (fun r u t9 H1 locs1 ht9 _ hp hB _ _ hS1 => kk r u H1 locs1 hp (by rw [← ht9]; exact hB) hS1)
theorem kx_callv {S : Type} {post : S → Prop} {B : S → Heap → Prop} (hr : vx_Run p l e R s m args below meth c H locs cells slots mc ms (F0 m pc ls st0) rest (va_Qv post (fun u U => B u U.heap) (eA E) av) (vx_X px (fun En q u U => BX En q u U.heap) (eA E)) (eA E)) (hS : va_S (eA E) s.heap H locs)
    (kx : ∀ (En : String) (ce : Cell) (q : Addr) (u : SX) (H1 : Heap) (locs1 : List Loc), px u → BX En q u H1 → va_S (eA E) s.heap H1 locs1 → H1[q]? = some ce → ce.vm = .none → s.vm.findClass En = some ce.cls → vx_W p l e R s m args below meth c H1 locs1 (cells + mc) (slots + ms) Q (F0 m pc ls rest) q)
    (kk : ∀ (u : S) (H1 : Heap) (locs1 : List Loc), post u → B u H1 → va_S (eA E) s.heap H1 locs1 → W p l e R s m args below meth c H1 locs1 (cells + mc) (slots + ms) Q (F0 m (pc + 3) ls rest)) : W p l e R s m args below meth c H locs cells slots Q (F0 m pc ls st0) :=
  vx_callv hr hS (fun _ _ h => h) (fun _ h => h) (fun _ _ h => h) (fun En ce q u t9 H1 locs1 ht9 _ hp hB _ _ hS1 h1 h2 h3 => kx En ce q u H1 locs1 hp (by rw [← ht9]; exact hB) hS1 h1 h2 h3) (fun u t9 H1 locs1 ht9 _ hp hB _ _ hS1 => kk u H1 locs1 hp (by rw [← ht9]; exact hB) hS1)
/-- a throw leaves the method -/
theorem kx_out {Qc : Array Value → State → Outcome → State → Prop} {En : String} {q : Addr} {ce : Cell} {u : SX} (hout : ∀ x ∈ c.exceptionTable.toList, covers x pc = false) (hlocks : meth.locks = false) (hp : px u) (hB : BX En q u H) (hS : va_S (eA E) s.heap H locs) (h1 : H[q]? = some ce) (h2 : ce.vm = .none) (h3 : s.vm.findClass En = some ce.cls) (hc : cells ≤ mc0) (hs : slots ≤ ms0) : vx_W p l e R s m args below meth c H locs cells slots (vx_MQ below Qc (vx_X px (fun En q u U => BX En q u U.heap) (eA E)) args s mc0 ms0 (eA E)) (F0 m pc ls rest) q :=
  vx_out hout hlocks h1 h2 h3 (fun t9 ht9 _ => ⟨u, hp, (show BX En q u t9.heap from by rw [ht9]; exact hB), hS.F ht9⟩) hS.2.2 hc hs
/-- an object of an exception class whose fields don't matter -/
theorem kx_cell {ci q : Nat} {r : vw_C} {fs : List Value} (hs : sP E s) (hat : va_at E.1 clA (q, .inr (ci, fs)) H) (hc : clA[ci]? = some r) : ∃ ce : Cell, H[q]? = some ce ∧ ce.vm = .none ∧ s.vm.findClass r.1 = some ce.cls := by
  obtain ⟨r', h1, cell, h2, h3, h4, -⟩ := hat
  cases Option.some.inj (h1.symm.trans hc)
  exact ⟨cell, h2, h4, by rw [h3]; exact (hs.2.1.1 ci _ hc).2.1⟩
end KX
set_option maxHeartbeats 4000000 in
theorem cm1_check (l : Launch) (E : mE) (hl9 : l.stackTraces = false) (t : mt) (M : mm) (x : Int32) : vx_Met l yX1_check (ws_ yX1_check cX1_check 1 none) ({ frames := 6, cells := 1, slots := 6, locals := 120 }) (va_Pc [.int x] (wP E t M)) (va_Qv (fun (u : mm) => ¬ x = 0 ∧ u = M) (fun u U => mw E t u U.heap) (eA E)) (vx_X (fun (u : mm) => x = 0 ∧ u = M) (fun En q u U => XS E t 1 En q u U.heap) (eA E)) 1 6 (eA E) := by
  refine vx_ofW (cc := cX1_check) (maxL := 1) (ret := none) (by decide) rfl ?_
  intro p e s m args below meth c0 s₁ B hml hno hv
  obtain ⟨rfl, hs, hm⟩ := hv
  have hx := B.exec
  have hb := B.bytes
  have hr := B.returns
  have hts := atoms_spec (ws := ws_ yX1_check cX1_check 1 none) B.pre
  have hts : ∀ w ∈ lw_all, w.before _ s = true := fun w h => hts w (List.mem_cons_of_mem _ h)
  have hown : s.vm.findClass RX1 = some m.cls := findClass_of_methodNamed B.named
  have hlocks := B.notSynchronized
  have hS : va_S (eA E) s.heap s.heap [] := va_S.rf
  have hl := lv_entry ([.int x]) (n := 1) (Nat.le_of_ble_eq_true rfl)
  rw [lg_entry_eq]
  generalize (lg_sl ([.int x]) ++ List.replicate (1 - (lg_sl ([.int x])).length) Slot.unset).toArray = ls at hl ⊢
  have hl : lv_has ls 1 [(0, .int (x))] := hl
  refine lv_iload_n hx hb dX1_check_0 rfl (lv_at hl 0 rfl) ?_
  refine lv_if_ne (tgt := 12) hx hb dX1_check_1 (by decide) (fun c_1 => ?_) (fun c_1 => ?_)
  · refine vx_ret ?_
    refine W.widen (k := 1) (n := 6) (Nat.le_of_ble_eq_true rfl) (Nat.le_of_ble_eq_true rfl) ?_
    exact W.vret hx hb hr (fun t9 ht9 _ => ⟨⟨_, rfl, ⟨c_1, rfl⟩, hb9 ht9 hm⟩, hS.F ht9⟩) hS.2.2 dX1_check_12
  · refine vx_throw0 (A := eA E) (own := RX1) (cls := "java/lang/IllegalArgumentException") (names := ["java/lang/RuntimeException", "java/lang/Exception"]) (ik := 65) (ic := 67) hx hb hl9 hown (by decide +kernel) (by decide +kernel) (hts _ q705) (hts _ q81) (at0_IAE hts hs (hts _ q714)) (by decide +kernel) hs.2.2.2.1 hs.2.2.2.2.1 hS (hl.1.trans hml.symm) dX1_check_4 dX1_check_7 dX1_check_8 dX1_check_11 (fun x h => (hno x h).elim) (Nat.lt_of_lt_of_le (Nat.le_of_ble_eq_true rfl : 6 ≤ 6) (Nat.le_of_ble_eq_true rfl)) (Nat.le_of_ble_eq_true rfl) (Nat.le_of_ble_eq_true rfl) (Nat.le_of_ble_eq_true rfl) hlocks (fun q9 t9 _ h1 h2 => ⟨M, ⟨c_1, rfl⟩, ⟨rfl, hm.kept h2⟩, ⟨h1, fun q hq _ => h2 q hq⟩⟩) (fun z hz => nomatch hz) (Nat.le_of_ble_eq_true rfl) (Nat.le_of_ble_eq_true rfl)
set_option maxHeartbeats 4000000 in
theorem cm1_checkIndex (l : Launch) (E : mE) (hl9 : l.stackTraces = false) (t : mt) (M : mm) (x : Int32) : vx_Met l yX1_checkIndex (ws_ yX1_checkIndex cX1_checkIndex 1 none) ({ frames := 6, cells := 1, slots := 6, locals := 120 }) (va_Pc [.int x] (wP E t M)) (va_Qv (fun (u : mm) => ¬ x = 0 ∧ u = M) (fun u U => mw E t u U.heap) (eA E)) (vx_X (fun (u : mm) => x = 0 ∧ u = M) (fun En q u U => XS E t 3 En q u U.heap) (eA E)) 1 6 (eA E) := by
  refine vx_ofW (cc := cX1_checkIndex) (maxL := 1) (ret := none) (by decide) rfl ?_
  intro p e s m args below meth c0 s₁ B hml hno hv
  obtain ⟨rfl, hs, hm⟩ := hv
  have hx := B.exec
  have hb := B.bytes
  have hr := B.returns
  have hts := atoms_spec (ws := ws_ yX1_checkIndex cX1_checkIndex 1 none) B.pre
  have hts : ∀ w ∈ lw_all, w.before _ s = true := fun w h => hts w (List.mem_cons_of_mem _ h)
  have hown : s.vm.findClass RX1 = some m.cls := findClass_of_methodNamed B.named
  have hlocks := B.notSynchronized
  have hS : va_S (eA E) s.heap s.heap [] := va_S.rf
  have hl := lv_entry ([.int x]) (n := 1) (Nat.le_of_ble_eq_true rfl)
  rw [lg_entry_eq]
  generalize (lg_sl ([.int x]) ++ List.replicate (1 - (lg_sl ([.int x])).length) Slot.unset).toArray = ls at hl ⊢
  have hl : lv_has ls 1 [(0, .int (x))] := hl
  refine lv_iload_n hx hb dX1_checkIndex_0 rfl (lv_at hl 0 rfl) ?_
  refine lv_if_ne (tgt := 12) hx hb dX1_checkIndex_1 (by decide) (fun c_1 => ?_) (fun c_1 => ?_)
  · refine vx_ret ?_
    refine W.widen (k := 1) (n := 6) (Nat.le_of_ble_eq_true rfl) (Nat.le_of_ble_eq_true rfl) ?_
    exact W.vret hx hb hr (fun t9 ht9 _ => ⟨⟨_, rfl, ⟨c_1, rfl⟩, hb9 ht9 hm⟩, hS.F ht9⟩) hS.2.2 dX1_checkIndex_12
  · refine vx_throw0 (A := eA E) (own := RX1) (cls := "java/lang/IndexOutOfBoundsException") (names := ["java/lang/RuntimeException", "java/lang/Exception"]) (ik := 74) (ic := 76) hx hb hl9 hown (by decide +kernel) (by decide +kernel) (hts _ q844) (hts _ q84) (at0_IOB hts hs (hts _ q853)) (by decide +kernel) hs.2.2.2.1 hs.2.2.2.2.1 hS (hl.1.trans hml.symm) dX1_checkIndex_4 dX1_checkIndex_7 dX1_checkIndex_8 dX1_checkIndex_11 (fun x h => (hno x h).elim) (Nat.lt_of_lt_of_le (Nat.le_of_ble_eq_true rfl : 6 ≤ 6) (Nat.le_of_ble_eq_true rfl)) (Nat.le_of_ble_eq_true rfl) (Nat.le_of_ble_eq_true rfl) (Nat.le_of_ble_eq_true rfl) hlocks (fun q9 t9 _ h1 h2 => ⟨M, ⟨c_1, rfl⟩, ⟨rfl, hm.kept h2⟩, ⟨h1, fun q hq _ => h2 q hq⟩⟩) (fun z hz => nomatch hz) (Nat.le_of_ble_eq_true rfl) (Nat.le_of_ble_eq_true rfl)
set_option maxHeartbeats 4000000 in
theorem cm1_checkElement (l : Launch) (E : mE) (hl9 : l.stackTraces = false) (t : mt) (M : mm) (x : Int32) : vx_Met l yX1_checkElement (ws_ yX1_checkElement cX1_checkElement 1 none) ({ frames := 6, cells := 1, slots := 6, locals := 120 }) (va_Pc [.int x] (wP E t M)) (va_Qv (fun (u : mm) => ¬ x = 0 ∧ u = M) (fun u U => mw E t u U.heap) (eA E)) (vx_X (fun (u : mm) => x = 0 ∧ u = M) (fun En q u U => XS E t 4 En q u U.heap) (eA E)) 1 6 (eA E) := by
  refine vx_ofW (cc := cX1_checkElement) (maxL := 1) (ret := none) (by decide) rfl ?_
  intro p e s m args below meth c0 s₁ B hml hno hv
  obtain ⟨rfl, hs, hm⟩ := hv
  have hx := B.exec
  have hb := B.bytes
  have hr := B.returns
  have hts := atoms_spec (ws := ws_ yX1_checkElement cX1_checkElement 1 none) B.pre
  have hts : ∀ w ∈ lw_all, w.before _ s = true := fun w h => hts w (List.mem_cons_of_mem _ h)
  have hown : s.vm.findClass RX1 = some m.cls := findClass_of_methodNamed B.named
  have hlocks := B.notSynchronized
  have hS : va_S (eA E) s.heap s.heap [] := va_S.rf
  have hl := lv_entry ([.int x]) (n := 1) (Nat.le_of_ble_eq_true rfl)
  rw [lg_entry_eq]
  generalize (lg_sl ([.int x]) ++ List.replicate (1 - (lg_sl ([.int x])).length) Slot.unset).toArray = ls at hl ⊢
  have hl : lv_has ls 1 [(0, .int (x))] := hl
  refine lv_iload_n hx hb dX1_checkElement_0 rfl (lv_at hl 0 rfl) ?_
  refine lv_if_ne (tgt := 12) hx hb dX1_checkElement_1 (by decide) (fun c_1 => ?_) (fun c_1 => ?_)
  · refine vx_ret ?_
    refine W.widen (k := 1) (n := 6) (Nat.le_of_ble_eq_true rfl) (Nat.le_of_ble_eq_true rfl) ?_
    exact W.vret hx hb hr (fun t9 ht9 _ => ⟨⟨_, rfl, ⟨c_1, rfl⟩, hb9 ht9 hm⟩, hS.F ht9⟩) hS.2.2 dX1_checkElement_12
  · refine vx_throw0 (A := eA E) (own := RX1) (cls := "java/util/NoSuchElementException") (names := ["java/lang/RuntimeException", "java/lang/Exception"]) (ik := 68) (ic := 70) hx hb hl9 hown (by decide +kernel) (by decide +kernel) (hts _ q1046) (hts _ q89) (at0_NSE hts hs (hts _ q1055)) (by decide +kernel) hs.2.2.2.1 hs.2.2.2.2.1 hS (hl.1.trans hml.symm) dX1_checkElement_4 dX1_checkElement_7 dX1_checkElement_8 dX1_checkElement_11 (fun x h => (hno x h).elim) (Nat.lt_of_lt_of_le (Nat.le_of_ble_eq_true rfl : 6 ≤ 6) (Nat.le_of_ble_eq_true rfl)) (Nat.le_of_ble_eq_true rfl) (Nat.le_of_ble_eq_true rfl) (Nat.le_of_ble_eq_true rfl) hlocks (fun q9 t9 _ h1 h2 => ⟨M, ⟨c_1, rfl⟩, ⟨rfl, hm.kept h2⟩, ⟨h1, fun q hq _ => h2 q hq⟩⟩) (fun z hz => nomatch hz) (Nat.le_of_ble_eq_true rfl) (Nat.le_of_ble_eq_true rfl)
set_option maxHeartbeats 4000000 in
theorem cm1_checkState (l : Launch) (E : mE) (hl9 : l.stackTraces = false) (t : mt) (M : mm) (x : Int32) : vx_Met l yX1_checkState (ws_ yX1_checkState cX1_checkState 1 none) ({ frames := 6, cells := 1, slots := 6, locals := 120 }) (va_Pc [.int x] (wP E t M)) (va_Qv (fun (u : mm) => ¬ x = 0 ∧ u = M) (fun u U => mw E t u U.heap) (eA E)) (vx_X (fun (u : mm) => x = 0 ∧ u = M) (fun En q u U => XS E t 5 En q u U.heap) (eA E)) 1 6 (eA E) := by
  refine vx_ofW (cc := cX1_checkState) (maxL := 1) (ret := none) (by decide) rfl ?_
  intro p e s m args below meth c0 s₁ B hml hno hv
  obtain ⟨rfl, hs, hm⟩ := hv
  have hx := B.exec
  have hb := B.bytes
  have hr := B.returns
  have hts := atoms_spec (ws := ws_ yX1_checkState cX1_checkState 1 none) B.pre
  have hts : ∀ w ∈ lw_all, w.before _ s = true := fun w h => hts w (List.mem_cons_of_mem _ h)
  have hown : s.vm.findClass RX1 = some m.cls := findClass_of_methodNamed B.named
  have hlocks := B.notSynchronized
  have hS : va_S (eA E) s.heap s.heap [] := va_S.rf
  have hl := lv_entry ([.int x]) (n := 1) (Nat.le_of_ble_eq_true rfl)
  rw [lg_entry_eq]
  generalize (lg_sl ([.int x]) ++ List.replicate (1 - (lg_sl ([.int x])).length) Slot.unset).toArray = ls at hl ⊢
  have hl : lv_has ls 1 [(0, .int (x))] := hl
  refine lv_iload_n hx hb dX1_checkState_0 rfl (lv_at hl 0 rfl) ?_
  refine lv_if_ne (tgt := 12) hx hb dX1_checkState_1 (by decide) (fun c_1 => ?_) (fun c_1 => ?_)
  · refine vx_ret ?_
    refine W.widen (k := 1) (n := 6) (Nat.le_of_ble_eq_true rfl) (Nat.le_of_ble_eq_true rfl) ?_
    exact W.vret hx hb hr (fun t9 ht9 _ => ⟨⟨_, rfl, ⟨c_1, rfl⟩, hb9 ht9 hm⟩, hS.F ht9⟩) hS.2.2 dX1_checkState_12
  · refine vx_throw0 (A := eA E) (own := RX1) (cls := "java/lang/IllegalStateException") (names := ["java/lang/RuntimeException", "java/lang/Exception"]) (ik := 71) (ic := 73) hx hb hl9 hown (by decide +kernel) (by decide +kernel) (hts _ q1259) (hts _ q76) (at0_ISE hts hs (hts _ q1260)) (by decide +kernel) hs.2.2.2.1 hs.2.2.2.2.1 hS (hl.1.trans hml.symm) dX1_checkState_4 dX1_checkState_7 dX1_checkState_8 dX1_checkState_11 (fun x h => (hno x h).elim) (Nat.lt_of_lt_of_le (Nat.le_of_ble_eq_true rfl : 6 ≤ 6) (Nat.le_of_ble_eq_true rfl)) (Nat.le_of_ble_eq_true rfl) (Nat.le_of_ble_eq_true rfl) (Nat.le_of_ble_eq_true rfl) hlocks (fun q9 t9 _ h1 h2 => ⟨M, ⟨c_1, rfl⟩, ⟨rfl, hm.kept h2⟩, ⟨h1, fun q hq _ => h2 q hq⟩⟩) (fun z hz => nomatch hz) (Nat.le_of_ble_eq_true rfl) (Nat.le_of_ble_eq_true rfl)
