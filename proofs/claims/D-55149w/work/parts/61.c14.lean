set_option maxRecDepth 100000
/-! a store that the array refuses; seedling -/
theorem atM_ASE {args : Array Value} {s : State} {E : mE} (hts : ∀ w ∈ lw_all, w.before args s = true) (hs : sP E s) : ∀ w ∈ vx_atM "java/lang/ArrayStoreException" ["java/lang/RuntimeException", "java/lang/Exception"], w.before args s = true := by
  intro w hw
  have h2 := (List.mem_filter.mp hw).2
  have h1 := (List.mem_filter.mp hw).1
  simp only [Bundle.messageArmAtoms, Bundle.throwableAtoms, Bundle.throwableSAtoms, Bundle.chainSAtoms, Bundle.passSAtoms, Bundle.stringAtoms, List.append_assoc, List.cons_append, List.nil_append, List.mem_cons, List.not_mem_nil, or_false] at h1
  rcases h1 with rfl | rfl | rfl | rfl | rfl | rfl | rfl | rfl | rfl | rfl | rfl | rfl | rfl | rfl | rfl | rfl | rfl | rfl | rfl | rfl | rfl | rfl | rfl | rfl | rfl | rfl | rfl | rfl | rfl | rfl | rfl | rfl | rfl | rfl | rfl | rfl | rfl | rfl | rfl | rfl | rfl | rfl | rfl | rfl | rfl | rfl | rfl | rfl | rfl | rfl | rfl | rfl | rfl | rfl | rfl | rfl | rfl | rfl | rfl | rfl | rfl | rfl | rfl | rfl
  · exact hts _ q73
  · exact hts _ q425
  · exact hts _ q434
  · exact hts _ q445
  · exact hts _ q448
  · exact hts _ q450
  · exact hts _ q426
  · exact hts _ q427
  · exact hts _ q103
  · exact hts _ q104
  · exact hts _ q428
  · exact hts _ q433
  · exact hts _ q446
  · exact hts _ q466
  · exact hts _ q415
  · exact hts _ q467
  · exact hts _ q417
  · exact hts _ q468
  · exact hts _ q419
  · exact hts _ q429
  · exact absurd h2 (by decide)
  · exact hts _ q431
  · exact absurd h2 (by decide)
  · exact hts _ q421
  · exact hts _ q462
  · exact hts _ q463
  · exact hts _ q465
  · exact hts _ q421
  · exact hts _ q1013
  · exact hts _ q1014
  · exact hts _ q1015
  · exact hts _ q456
  · exact hs.2.2.1.at q407 rfl rfl
  · exact hts _ q456
  · exact hts _ q457
  · exact hts _ q458
  · exact hts _ q459
  · exact hs.2.2.1.at q409 rfl rfl
  · exact hts _ q459
  · exact hts _ q460
  · exact hts _ q461
  · exact hts _ q462
  · exact hs.2.2.1.at q411 rfl rfl
  · exact hts _ q70
  · exact hts _ q824
  · exact hts _ q359
  · exact hts _ q825
  · exact hts _ q827
  · exact hts _ q826
  · exact hts _ q828
  · exact hts _ q88
  · exact hts _ q1012
  · exact hs.2.2.1.at q1023 rfl rfl
  · exact hts _ q1024
  · exact hts _ q439
  · exact hts _ q1018
  · exact hts _ q1019
  · exact hts _ q1021
  · exact hts _ q1017
  · exact absurd h2 (by decide)
  · exact absurd h2 (by decide)
  · exact hts _ q464
  · exact hts _ q423
  · exact hts _ q1016
section KAX
variable {p : Program} {l : Launch} {e : Env} {R : Room} {s : State} {m : MethodId} {args : Array Value} {below : List Frame} {meth : Method} {c : Code} {H : Heap} {locs : List Loc} {cells slots : Nat} {Q : State → Prop}
variable {cc : ByteArray} {pc : Nat} {ls : Array Slot} {rest : List Value} {a : Nat} {E : mE} {t : mt} {M : mm}
theorem aast_wrong {T : State} (X : Stand p l e R s m args below meth c T locs cells slots) (hexec : p.tables.exec = Jvm.exec) {a v : Addr} {cell cv : Cell} {j : Int32} {k kv kcomp : Class} {comp : ClassId} {ty : FieldType} (hcell : T.heap[a]? = some cell) (hobj : ∀ x, cell.vm ≠ .statics x) (hknown : cell.vm ≠ .unknown)
    (hk : s.vm.classes[cell.cls]? = some k) (hkind : k.kind = .array comp ty) (hi : ¬ (j < 0 ∨ cell.slots.size ≤ j.toNatClampNeg)) (hv : T.heap[v]? = some cv) (hvobj : ∀ x, cv.vm ≠ .statics x) (hkv : s.vm.classes[cv.cls]? = some kv) (hkcomp : s.vm.classes[comp]? = some kcomp) (hno : s.vm.assignable cv.cls comp = false)
    {g : JFrame} (hg : g.method = m) {rest : List Value} (hstack : g.stack = .ref v :: .int j :: .ref a :: rest) (hdg : decode c.code g.pc = .ok (.aastore, 1)) :
    ∀ target, Steps p.tables e below ((T.setTop { g with stack := rest }).pushFrame (.throwNew "java/lang/ArrayStoreException" (some kv.shown) none)) target → Steps p.tables e below (T.setTop g) target := by
  intro target hrest
  have hal := X.warmed.alike
  obtain ⟨k', hk', ek⟩ := hal.2.2 _ _ hk
  obtain ⟨kv', hkv', ekv⟩ := hal.2.2 _ _ hkv
  obtain ⟨kc', hkc', -⟩ := hal.2.2 _ _ hkcomp
  have hkind' : k'.kind = .array comp ty := by rw [ek]; exact hkind
  have hsh : kv'.shown = kv.shown := by rw [ekv]; rfl
  have hasg : T.vm.assignable cv.cls comp = false := by rw [hal.assignable]; exact hno
  have harr : T.isArray cell := ⟨hobj, k', hk', comp, ty, hkind'⟩
  rw [← hsh] at hrest
  subst hg
  have h1 : ¬ j < 0 := fun h => hi (Or.inl h)
  have h2 : j.toNatClampNeg < cell.slots.size := Nat.not_le.mp fun h => hi (Or.inr h)
  jvm_step X.here [hexec, hdg, aastore.sem, X.here.top, hstack, hcell, hobj, hknown, hk', hkind', h1, h2, Nat.not_le.mpr h2, harr, hv, hvobj, hkv', hkc', hasg]
  exact hrest
theorem k_aastX {n k v ci j0 : Nat} {C text : String} {r : vw_C} {vs : List Value} (hexec : p.tables.exec = Jvm.exec) (hb : c.code = cc) (hs : sP E s) (hm : mw E t M H) (ht : t a = (k, n)) (hk : k ≠ 0) (hc : ct E (fun _ => (k, n)) M a = .inl (E.2.1 j0, n, .inr (.inr (.inr (.inr (aR M a)))))) (hj : (tyA E.2.1)[j0]? = some (E.2.1 j0, .object C)) (hv : ct E t M v = .inr (ci, vs)) (hvn : (t v).1 ≠ 0) (hci : clA[ci]? = some r) (hnc : va_Nc r.1 C s) (htx : dotted r.1 = text) {i : Int32} (hin : vp_in i n) (hdg : decode cc pc = .ok (.aastore, 1))
    (kk : vx_Note p l e R s m args below meth c H locs cells slots Q (F0 m pc ls rest) "java/lang/ArrayStoreException" text) : W p l e R s m args below meth c H locs cells slots Q (F0 m pc ls (.ref v :: .int i :: .ref a :: rest)) := by
  intro T hT X
  obtain ⟨t9, st, q⟩ := kk T hT X
  refine ⟨t9, ?_, q⟩
  have h1 := hm.one (mt_ne ht hk)
  have h2 := hm.one hvn
  rw [show ct E t M a = _ from (ct_k ht).trans hc] at h1
  rw [hv] at h2
  have hcellA : H[a]? = some (vp_cell (E.2.1 j0) (n, .inr (.inr (.inr (.inr (aR M a)))))) := h1
  obtain ⟨r', e1, cv, g1, g2, g3, -⟩ := h2
  cases Option.some.inj (e1.symm.trans hci)
  obtain ⟨-, hRA⟩ := hs.2.1.2 j0 _ hj
  obtain ⟨kA, comp, hkA, hkind, hcomp, -⟩ := hRA
  obtain ⟨cC, cT, f1, f2, f3⟩ := hnc
  cases Option.some.inj (f2.symm.trans hcomp)
  obtain ⟨hfc, kV, hkV, -⟩ := (hs.2.1.1 ci _ hci).2
  cases Option.some.inj (f1.symm.trans hfc)
  have hkc : ∃ kc : Class, s.vm.classes[comp]? = some kc := by
    have h9 := hcomp
    unfold Vm.findClass at h9
    have h8 := (Array.findIdx?_eq_some_iff_getElem.mp h9).1
    exact ⟨_, Array.getElem?_eq_getElem h8⟩
  obtain ⟨kc, hkc⟩ := hkc
  obtain ⟨n1, n2⟩ : kV.name = r.1 ∧ kV.hidden = none := by
    have h9 := hfc
    unfold Vm.findClass at h9
    obtain ⟨h8, h7, -⟩ := Array.findIdx?_eq_some_iff_getElem.mp h9
    have h6 := Option.some.inj ((Array.getElem?_eq_getElem h8).symm.trans hkV)
    rw [h6] at h7
    simp only [Bool.and_eq_true, beq_iff_eq, Option.isNone_iff_eq_none] at h7
    exact ⟨h7.1.1.1, h7.1.1.2⟩
  have hsh : kV.shown = text := by
    unfold Class.shown
    rw [n2, n1]
    exact htx
  rw [← hsh] at st
  exact aast_wrong X hexec (cell := vp_cell (E.2.1 j0) (n, .inr (.inr (.inr (.inr (aR M a)))))) (by rw [hT]; exact hcellA) (fun x h => nomatch h) (fun h => nomatch h) hkA hkind (by show ¬ (i < 0 ∨ (arrV _ _ _).slots.size ≤ _); rw [arrV_size]; exact hin) (by rw [hT]; exact g1) (fun x h => by rw [g3] at h; cases h) (by rw [g2]; exact hkV) hkc (by rw [g2]; exact f3) (g := F0 m pc ls (.ref v :: .int i :: .ref a :: rest)) rfl rfl (by rw [hb]; exact hdg) t9 st
end KAX
theorem sd_ok {t : mt} {M : mm} {c a v : Nat} {x y : Int32} (hL : lay t c) (hx : x = 0 ∨ x = 1) (e : x = y) (ha : a = C2_bench t M c y) (hv : v = C2_spare t M c x) : (t a = (25, 5) ∧ t v = (3, 0)) ∨ (t a = (26, 5) ∧ t v = (4, 0)) := by
  subst e
  rw [ha, hv]
  rcases hx with rfl | rfl
  · left; exact ⟨hL.a7, spare_m hL⟩
  · right; exact ⟨hL.a8, spare_b hL⟩
theorem sd_no {t : mt} {M : mm} {c a v : Nat} {x y : Int32} (hL : lay t c) (hx : x = 0 ∨ x = 1) (hy : y = 0 ∨ y = 1) (e : ¬ x = y) (ha : a = C2_bench t M c y) (hv : v = C2_spare t M c x) : (t a = (26, 5) ∧ t v = (3, 0)) ∨ (t a = (25, 5) ∧ t v = (4, 0)) := by
  rw [ha, hv]
  rcases hx with rfl | rfl <;> rcases hy with rfl | rfl
  · exact absurd rfl e
  · left; exact ⟨hL.a8, spare_m hL⟩
  · right; exact ⟨hL.a7, spare_b hL⟩
  · exact absurd rfl e
section KSD
variable {p : Program} {l : Launch} {e : Env} {R : Room} {s : State} {m : MethodId} {args : Array Value} {below : List Frame} {meth : Method} {c : Code} {H : Heap} {locs : List Loc} {cells slots : Nat} {Q : State → Prop}
variable {cc : ByteArray} {pc : Nat} {ls : Array Slot} {rest : List Value} {a v : Nat} {E : mE} {t : mt} {M : mm}
theorem k_aastQ2 (hexec : p.tables.exec = Jvm.exec) (hb : c.code = cc) (hs : sP E s) (hm : mw E t M H) (hS : va_S (eA E) s.heap H locs) (hst : (t a = (25, 5) ∧ t v = (3, 0)) ∨ (t a = (26, 5) ∧ t v = (4, 0))) {i : Int32} (hin : vp_in i 5) (hdg : decode cc pc = .ok (.aastore, 1))
    (kk : ∀ (H1 : Heap) (locs1 : List Loc), mw E t (wR M a (va_up (aR M a) i.toNatClampNeg (some v))) H1 → va_S (eA E) s.heap H1 locs1 → W p l e R s m args below meth c H1 locs1 cells slots Q (F0 m (pc + 1) ls rest)) : W p l e R s m args below meth c H locs cells slots Q (F0 m pc ls (.ref v :: .int i :: .ref a :: rest)) := by
  rcases hst with ⟨h1, h2⟩ | ⟨h1, h2⟩
  · exact k_aastQ25 (r := some v) hexec hb hs hm hS h1 (fun q hq => by cases hq; exact h2) hin hdg kk
  · exact k_aastQ26 (r := some v) hexec hb hs hm hS h1 (fun q hq => by cases hq; exact h2) hin hdg kk
theorem k_ase (hexec : p.tables.exec = Jvm.exec) (hb : c.code = cc) (hl9 : l.stackTraces = false) (hown : s.vm.findClass RX2 = some m.cls) (hts : ∀ w ∈ lw_all, w.before args s = true) (hs : sP E s) (hm : mw E t M H) (hS : va_S (eA E) s.heap H locs) (hst : (t a = (26, 5) ∧ t v = (3, 0)) ∨ (t a = (25, 5) ∧ t v = (4, 0))) {i : Int32} (hin : vp_in i 5) (hsize : ls.size = c.maxLocals) (hlocks : meth.locks = false) (htab : c.exceptionTable.toList = [⟨35, 41, 44, 177⟩])
    (hRframes : 6 < R.frames) (hRlocals : (rest.map fun v => v.category).sum + 10240 ≤ R.locals) (hRcells : cells + 3 ≤ R.cells) (hRslots : slots + 60 ≤ R.slots) (hdg : decode cc 40 = .ok (.aastore, 1))
    (kk : ∀ (H1 : Heap) (q : Nat), mw E t M H1 → va_S (eA E) s.heap H1 locs → W p l e R s m args below meth c H1 locs (cells + 3) (slots + 60) Q (F0 m 44 ls [.ref q])) : W p l e R s m args below meth c H locs cells slots Q (F0 m 40 ls (.ref v :: .int i :: .ref a :: rest)) := by
  have key : ∀ tx : String, (tx == notModelled) = false → (stringBytes (stringToUtf16 tx)).size ≤ 50 → vx_Note p l e R s m args below meth c H locs cells slots Q (F0 m 40 ls rest) "java/lang/ArrayStoreException" tx := fun tx h1 h2 =>
    vx_vm (nb := 50) (A := eA E) (names := ["java/lang/RuntimeException", "java/lang/Exception"]) hexec hl9 (by decide +kernel) (by decide +kernel) (by decide) (by decide) (atM_ASE hts hs) (by decide +kernel) hs.2.2.2.1 hs.2.2.2.2.1 hS hsize h1 h2 (by decide) hRframes hRlocals (by decide) hRcells hRslots hlocks
      (fun H1 q9 ce g1 g2 g3 g4 g5 g6 => vx_catch (name := "java/lang/ArrayStoreException") hown [] ⟨35, 41, 44, 177⟩ [] htab (fun z hz => nomatch hz) (by decide) (by decide) (hts _ q1011) (hs.2.2.1.at q1023 rfl rfl) g4 g5 g6 (kk H1 q9 (hm.kept g2) g3))
  have hn : ∀ q ∈ ncL, va_Nc q.1 q.2 s := hs.2.2.2.2.2.2.2
  rcases hst with ⟨h1, h2⟩ | ⟨h1, h2⟩
  · exact k_aastX (j0 := 6) (ci := 2) (text := "CliffPlots$Marrow") hexec hb hs hm h1 (by decide) rfl rfl (ct3 h2) (mt_ne h2 (by decide)) rfl (hn ("CliffPlots$Marrow", "CliffPlots$Bean") (by decide +kernel)) (by decide +kernel) hin hdg (key _ (by decide +kernel) (by decide +kernel))
  · exact k_aastX (j0 := 5) (ci := 3) (text := "CliffPlots$Bean") hexec hb hs hm h1 (by decide) rfl rfl (ct4 h2) (mt_ne h2 (by decide)) rfl (hn ("CliffPlots$Bean", "CliffPlots$Marrow") (by decide +kernel)) (by decide +kernel) hin hdg (key _ (by decide +kernel) (by decide +kernel))
end KSD
theorem fr_ix {t : mt} {M : mm} {b : Nat} {r : Int32} (h : r = C2_free t M b) (c : ¬ r = 5) : ix 5 r := by
  have key : ∀ n k, k + n = 5 → ∃ j, j ≤ 5 ∧ frC M b n k = nI j := by
    intro n
    induction n with
    | zero => intro k hk; exact ⟨k, by omega, rfl⟩
    | succ n ih =>
      intro k hk
      unfold frC
      split
      · exact ⟨k, by omega, rfl⟩
      · exact ih (k + 1) (by omega)
  obtain ⟨j, h1, h2⟩ := key 5 0 rfl
  rw [h, show C2_free t M b = nI j from h2] at c ⊢
  refine ⟨j, ?_, rfl⟩
  rcases Nat.lt_or_ge j 5 with h9 | h9
  · exact h9
  · exact absurd (by rw [show j = 5 by omega]; rfl) c
def C2_seedling (t : mt) (M : mm) (c : Nat) (x : Int32) (y : Int32) : Int32 × Int32 × Int32 × mm :=
  let n_1 := C2_bench t M (c) (y);
  let r_2 := C2_free t M (n_1);
  let x4 := if r_2 = (5 : Int32) then (1 : Int32) else (0 : Int32);
  let n_6 := C2_spare t M (c) (x);
  if x4 = 0 then
    let n_6 := C2_spare t M (c) (x);
    if x = y then
      let u_8 := C3_begins t (wR M n_1 (va_up (aR M n_1) (r_2).toNatClampNeg (some n_6))) (n_6) ((gI M 216 c));
      ((0 : Int32), (0 : Int32), r_2, (sI u_8 217 c ((gI u_8 217 c) + (1 : Int32))))
    else
      ((6 : Int32), y, (0 : Int32), M)
  else
    ((5 : Int32), y, (0 : Int32), M)
set_option maxHeartbeats 4000000 in
theorem cm2_seedling (l : Launch) (E : mE) (hl9 : l.stackTraces = false) (t : mt) (M : mm) (c : Nat) (x : Int32) (y : Int32) (hL : lay t c) (hx1 : x = 0 ∨ x = 1) (hy1 : y = 0 ∨ y = 1) : vx_Met l yX2_seedling (wsW_ yX2_seedling cX2_seedling 7 (some .int) [((35 : Nat), (41 : Nat), (44 : Nat), (177 : Nat))]) ({ frames := 9, cells := 5, slots := 80, locals := 10400 }) (va_Pc [.ref c, .int x, .int y] (wP E t M)) (va_Qi (fun (r : Int32) (u : mm) => (C2_seedling t M c x y).1 = 0 ∧ r = (C2_seedling t M c x y).2.2.1 ∧ u = (C2_seedling t M c x y).2.2.2) (fun u U => mw E t u U.heap) (eA E)) (vx_X (fun (u : mm) => ¬ (C2_seedling t M c x y).1 = 0 ∧ u = (C2_seedling t M c x y).2.2.2) (fun En q u U => XR E t (C2_seedling t M c x y).1 (C2_seedling t M c x y).2.1 En q u U.heap) (eA E)) 5 80 (eA E) := by
  refine vx_ofWH (cc := cX2_seedling) (maxL := 7) (ret := (some .int)) (hh := [((35 : Nat), (41 : Nat), (44 : Nat), (177 : Nat))]) (by decide) rfl ?_
  intro p e s m args below meth c0 s₁ B hml hv
  obtain ⟨rfl, hs, hm⟩ := hv
  have hx := B.exec
  have hb := B.bytes
  have hr := B.returns
  have hts := atoms_spec (ws := wsW_ yX2_seedling cX2_seedling 7 (some .int) [((35 : Nat), (41 : Nat), (44 : Nat), (177 : Nat))]) B.pre
  have hts : ∀ w ∈ lw_all, w.before _ s = true := fun w h => hts w (List.mem_cons_of_mem _ h)
  have hown : s.vm.findClass RX2 = some m.cls := findClass_of_methodNamed B.named
  have hlocks := B.notSynchronized
  have htab := vx_table (x := yX2_seedling) B (atoms_spec (ws := wsW_ yX2_seedling cX2_seedling 7 (some .int) [((35 : Nat), (41 : Nat), (44 : Nat), (177 : Nat))]) B.pre _ List.mem_cons_self)
  have hS : va_S (eA E) s.heap s.heap [] := va_S.rf
  have hl := lv_entry ([.ref c, .int x, .int y]) (n := 7) (Nat.le_of_ble_eq_true rfl)
  rw [lg_entry_eq]
  generalize (lg_sl ([.ref c, .int x, .int y]) ++ List.replicate (7 - (lg_sl ([.ref c, .int x, .int y])).length) Slot.unset).toArray = ls at hl ⊢
  have hl : lv_has ls 7 [(0, .ref (c)), (1, .int (x)), (2, .int (y))] := hl
  refine lv_aload_n hx hb dX2_seedling_0 rfl (lv_at hl 0 rfl) ?_
  refine lv_iload_n hx hb dX2_seedling_1 rfl (lv_at hl 2 rfl) ?_
  refine k_callq (va_runV (As := [.int (y)]) (rest := []) ⟨hx, hb, hml, hown, hts⟩ (cm2_bench l E t M  (c) (y) hL ) (cwV 1 hts (lw_V q581 q582 q583 q59 q584) rfl rfl rfl (by decide +kernel) ⟨Nat.le_of_ble_eq_true rfl, Nat.le_of_ble_eq_true rfl⟩) (k_preV hs hm hS (mw.recv hs hm (mt_ne (lay.z hL) (by decide)) (ct2 (lay.z hL)) rfl)) rfl rfl hl.1 rfl (lv_room (Nat.le_of_ble_eq_true rfl)) dX2_seedling_2 ⟨Nat.le_of_ble_eq_true rfl, Nat.le_of_ble_eq_true rfl⟩) hS (fun r_1 u_1 H locs hw_1 hm_1 hS => ?_)
  obtain ⟨hr_1, hu_1⟩ := hw_1
  replace hu_1 := hu_1.symm
  subst hu_1
  have hm := hm_1
  obtain ⟨n_1, hn_1⟩ : ∃ n, n = C2_bench t M (c) (y) := ⟨_, rfl⟩
  rw [← hn_1] at hr_1
  subst hr_1
  have hr_1 := hn_1
  clear hn_1
  refine lv_astore_n (lv' := [(3, _), (0, _), (1, _), (2, _)]) hx hb dX2_seedling_5 rfl hl (by decide) rfl (fun ls hl => ?_)
  refine lv_aload_n hx hb dX2_seedling_6 rfl (lv_at hl 0 rfl) ?_
  refine k_calli (va_runS (As := [.ref (n_1)]) (rest := []) ⟨hx, hb, hml, hown, hts⟩ (cm2_free l E t M  (n_1) (bench_k hL hr_1)) (va_cwS 1 hts (lw_S q1025 q1026 q59 q1027) rfl rfl rfl (by decide +kernel) ⟨Nat.le_of_ble_eq_true rfl, Nat.le_of_ble_eq_true rfl⟩) (k_preS hs hm hS) rfl rfl hl.1 rfl (lv_room (Nat.le_of_ble_eq_true rfl)) dX2_seedling_7 ⟨Nat.le_of_ble_eq_true rfl, Nat.le_of_ble_eq_true rfl⟩) hS (fun r_2 u_2 H locs hw_2 hm_2 hS => ?_)
  obtain ⟨hr_2, hu_2⟩ := hw_2
  replace hu_2 := hu_2.symm
  subst hu_2
  have hm := hm_2
  refine lv_istore (lv' := [(4, _), (3, _), (0, _), (1, _), (2, _)]) hx hb dX2_seedling_10 hl (by decide) rfl (fun ls hl => ?_)
  refine lv_iload hx hb dX2_seedling_12 (lv_at hl 0 rfl) ?_
  refine lv_iconst (v := (5 : Int32)) hx hb dX2_seedling_14 (by decide) ?_
  refine k_join (fun (x4 : Int32) H locs ls => x4 = (if r_2 = (5 : Int32) then (1 : Int32) else (0 : Int32)) ∧ mw E t (M) H ∧ va_S (eA E) s.heap H locs ∧ lv_has ls 7 [(4, .int (r_2)), (3, .ref (n_1)), (0, .ref (c)), (1, .int (x)), (2, .int (y))]) (fun (x4 : Int32) ls => F0 m 23 ls [.int (x4)]) (fun x4 H locs ls hJ => ?_) (fun J4 => ?_)
  · obtain ⟨hX4, hm, hS, hl⟩ := hJ
    refine lv_iconst (v := (5 : Int32)) hx hb dX2_seedling_23 (by decide) ?_
    refine lv_iload_n hx hb dX2_seedling_24 rfl (lv_at hl 4 rfl) ?_
    refine kx_callv (BX := fun En q u H => XR E t ((5 : Int32)) (y) En q u H) (vx_runSN (As := [.int (x4), .int ((5 : Int32)), .int (y)]) (rest := []) ⟨hx, hb, hml, hown, hts⟩ (cm1_refuse l E hl9 t M  (x4) ((5 : Int32)) (y) ) (⟨va_cnB 3 hts (lw_meth q752) rfl rfl rfl (hs.2.2.1 _ q750 rfl) (hts _ q58) (by decide +kernel) ⟨Nat.le_of_ble_eq_true rfl, Nat.le_of_ble_eq_true rfl⟩, hts _ q751, trivial⟩) (k_preS hs hm hS) rfl rfl hl.1 rfl (lv_room (Nat.le_of_ble_eq_true rfl)) dX2_seedling_25 ⟨Nat.le_of_ble_eq_true rfl, Nat.le_of_ble_eq_true rfl⟩) hS (fun En_5 ce_5 q_5 u9_5 H locs hp_5 hB_5 hS h1_5 h2_5 h3_5 => ?_) (fun u_5 H locs hw_5 hm_5 hS => ?_)
    · obtain ⟨c_5, hu9_5⟩ := hp_5
      replace hu9_5 := hu9_5.symm
      subst hu9_5
      subst hX4
      subst hr_2
      subst hr_1
      have e9 : C2_seedling t M c x y = _ := (if_neg c_5).trans (rfl)
      exact kx_out (BX := fun En q u H => XR E t (C2_seedling t M c x y).1 (C2_seedling t M c x y).2.1 En q u H) (u := _) (by rw [htab]; decide) hlocks (xr_leaf e9 (by decide) hB_5).1 (xr_leaf e9 (by decide) hB_5).2 hS h1_5 h2_5 h3_5 (Nat.le_of_ble_eq_true rfl) (Nat.le_of_ble_eq_true rfl)
    · obtain ⟨c_5, hu_5⟩ := hw_5
      replace hu_5 := hu_5.symm
      subst hu_5
      have hm := hm_5
      have hp5 := b01 hX4 c_5
      refine lv_aload_n hx hb dX2_seedling_28 rfl (lv_at hl 2 rfl) ?_
      refine lv_iload_n hx hb dX2_seedling_29 rfl (lv_at hl 3 rfl) ?_
      refine k_callq (va_runV (As := [.int (x)]) (rest := []) ⟨hx, hb, hml, hown, hts⟩ (cm2_spare l E t M  (c) (x) hL ) (cwV 1 hts (lw_V q598 q600 qs6 q59 q601) rfl rfl rfl (by decide +kernel) ⟨Nat.le_of_ble_eq_true rfl, Nat.le_of_ble_eq_true rfl⟩) (k_preV hs hm hS (mw.recv hs hm (mt_ne (lay.z hL) (by decide)) (ct2 (lay.z hL)) rfl)) rfl rfl hl.1 rfl (lv_room (Nat.le_of_ble_eq_true rfl)) dX2_seedling_30 ⟨Nat.le_of_ble_eq_true rfl, Nat.le_of_ble_eq_true rfl⟩) hS (fun r_6 u_6 H locs hw_6 hm_6 hS => ?_)
      obtain ⟨hr_6, hu_6⟩ := hw_6
      replace hu_6 := hu_6.symm
      subst hu_6
      have hm := hm_6
      obtain ⟨n_6, hn_6⟩ : ∃ n, n = C2_spare t M (c) (x) := ⟨_, rfl⟩
      rw [← hn_6] at hr_6
      subst hr_6
      have hr_6 := hn_6
      clear hn_6
      refine lv_astore (lv' := [(5, _), (4, _), (3, _), (0, _), (1, _), (2, _)]) hx hb dX2_seedling_33 hl (by decide) rfl (fun ls hl => ?_)
      refine lv_aload_n hx hb dX2_seedling_35 rfl (lv_at hl 2 rfl) ?_
      refine lv_iload hx hb dX2_seedling_36 (lv_at hl 1 rfl) ?_
      refine lv_aload hx hb dX2_seedling_38 (lv_at hl 0 rfl) ?_
      by_cases c_7 : x = y
      · refine k_aastQ2 hx hb hs hm hS (sd_ok hL hx1 c_7 hr_1 hr_6) (ix.at (fr_ix hr_2 hp5) (by decide)) dX2_seedling_40 (fun H locs hm hS => ?_)
        have hm : mw E t ((wR M n_1 (va_up (aR M n_1) (r_2).toNatClampNeg (some n_6)))) H := hm
        refine lv_goto (tgt := 57) hx hb dX2_seedling_41 (by decide) ?_
        refine lv_aload hx hb dX2_seedling_57 (lv_at hl 0 rfl) ?_
        refine lv_aload_n hx hb dX2_seedling_59 rfl (lv_at hl 3 rfl) ?_
        refine gf_216 hx hb hts hown hs hm (lay.z hL) (hts _ q257) dX2_seedling_60 ?_
        refine k_callv ((spare_p hL hr_6).elim (fun h9 => va_runU (As := [.int ((gI M 216 c))]) (rest := []) ⟨hx, hb, hml, hown, hts⟩ (cm3_begins l E t (wR M n_1 (va_up (aR M n_1) (r_2).toNatClampNeg (some n_6)))  (n_6) ((gI M 216 c)) (spare_p hL hr_6) ) (va_cwU 1 hts (lw_U q1030 q610 q612 q609 q60 q613) rfl rfl rfl rfl (by decide +kernel) ⟨Nat.le_of_ble_eq_true rfl, Nat.le_of_ble_eq_true rfl⟩) (k_preV hs hm hS (mw.recv hs hm (mt_ne h9 (by decide)) (ct3 h9) rfl)) rfl rfl hl.1 rfl (lv_room (Nat.le_of_ble_eq_true rfl)) dX2_seedling_63 ⟨Nat.le_of_ble_eq_true rfl, Nat.le_of_ble_eq_true rfl⟩) (fun h9 => va_runU (As := [.int ((gI M 216 c))]) (rest := []) ⟨hx, hb, hml, hown, hts⟩ (cm3_begins l E t (wR M n_1 (va_up (aR M n_1) (r_2).toNatClampNeg (some n_6)))  (n_6) ((gI M 216 c)) (spare_p hL hr_6) ) (va_cwU 1 hts (lw_U q1030 q610 q611 q609 q60 q613) rfl rfl rfl rfl (by decide +kernel) ⟨Nat.le_of_ble_eq_true rfl, Nat.le_of_ble_eq_true rfl⟩) (k_preV hs hm hS (mw.recv hs hm (mt_ne h9 (by decide)) (ct4 h9) rfl)) rfl rfl hl.1 rfl (lv_room (Nat.le_of_ble_eq_true rfl)) dX2_seedling_63 ⟨Nat.le_of_ble_eq_true rfl, Nat.le_of_ble_eq_true rfl⟩)) hS (fun u_8 H locs hw_8 hm_8 hS => ?_)
        have hu_8 := hw_8
        have hm := hm_8
        refine lv_aload_n hx hb dX2_seedling_66 rfl (lv_at hl 3 rfl) ?_
        refine lv_dup hx hb dX2_seedling_67 rfl ?_
        refine gf_217 hx hb hts hown hs hm (lay.z hL) (hts _ q259) dX2_seedling_68 ?_
        refine lv_iconst (v := (1 : Int32)) hx hb dX2_seedling_71 (by decide) ?_
        refine lv_iadd hx hb dX2_seedling_72 ?_
        refine pf_217 hx hb hts hown hs hm hS (lay.z hL) (hts _ q259) dX2_seedling_73 (fun H locs hm hS => ?_)
        have hm : mw E t ((sI u_8 217 c ((gI u_8 217 c) + (1 : Int32)))) H := hm
        refine lv_iload hx hb dX2_seedling_76 (lv_at hl 1 rfl) ?_
        subst hu_8
        subst hr_6
        subst hX4
        subst hr_2
        subst hr_1
        refine vx_ret ?_
        refine W.widen (k := 5) (n := 80) (Nat.le_of_ble_eq_true rfl) (Nat.le_of_ble_eq_true rfl) ?_
        exact W.iret (v := _) hx hb hr (fun t9 ht9 _ => ⟨⟨_, _, rfl, pp4 ((if_pos c_5).trans ((if_pos c_7).trans (rfl))), hb9 ht9 hm⟩, hS.F ht9⟩) hS.2.2 dX2_seedling_78
      · refine k_ase hx hb hl9 hown hts hs hm hS (sd_no hL hx1 hy1 c_7 hr_1 hr_6) (ix.at (fr_ix hr_2 hp5) (by decide)) (hl.1.trans hml.symm) hlocks htab (Nat.le_of_ble_eq_true rfl) (Nat.le_of_ble_eq_true rfl) (Nat.le_of_ble_eq_true rfl) (Nat.le_of_ble_eq_true rfl) dX2_seedling_40 (fun H q6 hm hS => ?_)
        refine lv_astore (lv' := [(6, _), (5, _), (4, _), (3, _), (0, _), (1, _), (2, _)]) hx hb dX2_seedling_44 hl (by decide) rfl (fun ls hl => ?_)
        have hfX : s.vm.findClass RX11 = some (E.1.1 19) := (hs.2.1.1 19 _ rfl).2.1
        refine k_newX hx hb hown (hts _ q1028) (hts _ q753) (hts _ q82) hs hm hS hfX (Nat.le_of_ble_eq_true rfl) (Nat.le_of_ble_eq_true rfl) dX2_seedling_46 (fun q_7 H kX hkX hbl hq0 hqA hm hS => ?_)
        refine lv_dup hx hb dX2_seedling_49 rfl ?_
        refine lv_bipush (v := (6 : Int32)) hx hb dX2_seedling_50 (by decide) ?_
        refine lv_iload_n hx hb dX2_seedling_52 rfl (lv_at hl 6 rfl) ?_
        refine k_callv (B := fun (u : mm) H => mw E (m1 t q_7 (9, 0)) u H) (va_runI (As := [.int (6 : Int32), .int y]) (rest := [.ref q_7]) ⟨hx, hb, hml, hown, hts⟩ (cm11_init l E hl9 t (M) q_7 (6 : Int32) y) (cwI 2 hts (lw_meth q763) rfl rfl rfl (hts _ q82) (hts _ q1029) (hts _ q762) rfl (by decide +kernel) ⟨Nat.le_of_ble_eq_true rfl, Nat.le_of_ble_eq_true rfl⟩) (k_preX hs hm hS hkX hbl hq0 hqA) rfl rfl hl.1 rfl (lv_room (Nat.le_of_ble_eq_true rfl)) dX2_seedling_53 ⟨Nat.le_of_ble_eq_true rfl, Nat.le_of_ble_eq_true rfl⟩) hS (fun u9 H locs hu9 hm hS => ?_)
        subst hu9
        refine vx_athrow hx hb dX2_seedling_56 ?_
        have htq : m1 t q_7 (9, 0) q_7 = (9, 0) := m1_at t q_7 (9, 0)
        obtain ⟨ce, h1_7, h2_7, h3_7⟩ := kx_cell hs ((ct9 htq : _) ▸ hm.one (mt_ne htq (by decide))) (show clA[19]? = some (RX11, TXR, 2) from rfl)
        have hB9 : XR E t (6 : Int32) y "CliffPlots$Refused" q_7 (M) H := ⟨rfl, hq0, hm⟩
        subst hr_6
        subst hX4
        subst hr_2
        subst hr_1
        have e9 : C2_seedling t M c x y = _ := (if_pos c_5).trans ((if_neg c_7).trans (rfl))
        exact kx_out (BX := fun En q u H => XR E t (C2_seedling t M c x y).1 (C2_seedling t M c x y).2.1 En q u H) (u := _) (by rw [htab]; decide) hlocks (xr_leaf e9 (by decide) hB9).1 (xr_leaf e9 (by decide) hB9).2 hS h1_7 h2_7 h3_7 (Nat.le_of_ble_eq_true rfl) (Nat.le_of_ble_eq_true rfl)
  · refine lv_icmp_ne (tgt := 22) hx hb dX2_seedling_15 (by decide) (fun c_3 => ?_) (fun c_3 => ?_)
    · refine lv_iconst (v := (0 : Int32)) hx hb dX2_seedling_22 (by decide) ?_
      exact J4 ((0 : Int32)) _ _ _ ⟨((if_neg c_3).trans (rfl)).symm, hm, hS, lv_sub hl [0, 1, 2, 3, 4] rfl⟩
    · refine lv_iconst (v := (1 : Int32)) hx hb dX2_seedling_18 (by decide) ?_
      refine lv_goto (tgt := 23) hx hb dX2_seedling_19 (by decide) ?_
      exact J4 ((1 : Int32)) _ _ _ ⟨((if_pos c_3).trans (rfl)).symm, hm, hS, lv_sub hl [0, 1, 2, 3, 4] rfl⟩
