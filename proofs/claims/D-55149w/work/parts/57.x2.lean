set_option maxRecDepth 100000
/-! what the class refuses with: made, thrown, told -/
theorem xsat_R {own : String} {ic : Nat} {args : Array Value} {s : State} {E : mE} (hts : ∀ w ∈ lw_all, w.before args s = true) (hs : sP E s) (hlink : (Cond.methodLink own ic (Bundle.init0 "java/lang/Exception")).before args s = true) : ∀ w ∈ (xsAtoms own ic "java/lang/Exception" [] "CliffPlots$Refused").filter vx_no, w.before args s = true := by
  intro w hw
  have h2 := (List.mem_filter.mp hw).2
  have h1 := (List.mem_filter.mp hw).1
  simp only [xsAtoms, Bundle.throwableAtoms, Bundle.chain0Atoms, Bundle.passAtoms, List.append_assoc, List.cons_append, List.nil_append, List.mem_cons, List.not_mem_nil, or_false] at h1
  rcases h1 with rfl | rfl | rfl | rfl | rfl | rfl | rfl | rfl | rfl | rfl | rfl | rfl | rfl | rfl | rfl | rfl | rfl | rfl | rfl | rfl | rfl | rfl | rfl | rfl | rfl | rfl | rfl | rfl | rfl | rfl | rfl | rfl | rfl | rfl | rfl | rfl | rfl | rfl | rfl | rfl | rfl
  · exact hts _ q73
  · exact hts _ q425
  · exact hts _ q434
  · exact hts _ q445
  · exact hts _ q448
  · exact hts _ q450
  · exact hts _ q426
  · exact hts _ q427
  · exact hts _ q103
  · exact hts _ q104
  · exact hts _ q428
  · exact hts _ q433
  · exact hts _ q446
  · exact hts _ q466
  · exact hts _ q415
  · exact hts _ q467
  · exact hts _ q417
  · exact hts _ q468
  · exact hts _ q419
  · exact hts _ q429
  · exact absurd h2 (by decide)
  · exact hts _ q431
  · exact absurd h2 (by decide)
  · exact hts _ q421
  · exact hts _ q721
  · exact hts _ q722
  · exact hts _ q723
  · exact hts _ q426
  · exact hs.2.2.1.at q410 rfl rfl
  · exact hlink
  · exact hts _ q755
  · exact hts _ q437
  · exact hts _ q756
  · exact hts _ q757
  · exact hts _ q758
  · exact hts _ q759
  · exact absurd h2 (by decide)
  · exact absurd h2 (by decide)
  · exact hts _ q464
  · exact hts _ q423
  · exact hts _ q760
theorem xsat_F {own : String} {ic : Nat} {args : Array Value} {s : State} {E : mE} (hts : ∀ w ∈ lw_all, w.before args s = true) (hs : sP E s) (hlink : (Cond.methodLink own ic (Bundle.init0 "java/lang/RuntimeException")).before args s = true) : ∀ w ∈ (xsAtoms own ic "java/lang/RuntimeException" ["java/lang/Exception"] "CliffPlots$Fault").filter vx_no, w.before args s = true := by
  intro w hw
  have h2 := (List.mem_filter.mp hw).2
  have h1 := (List.mem_filter.mp hw).1
  simp only [xsAtoms, Bundle.throwableAtoms, Bundle.chain0Atoms, Bundle.passAtoms, List.append_assoc, List.cons_append, List.nil_append, List.mem_cons, List.not_mem_nil, or_false] at h1
  rcases h1 with rfl | rfl | rfl | rfl | rfl | rfl | rfl | rfl | rfl | rfl | rfl | rfl | rfl | rfl | rfl | rfl | rfl | rfl | rfl | rfl | rfl | rfl | rfl | rfl | rfl | rfl | rfl | rfl | rfl | rfl | rfl | rfl | rfl | rfl | rfl | rfl | rfl | rfl | rfl | rfl | rfl | rfl | rfl | rfl | rfl | rfl
  · exact hts _ q73
  · exact hts _ q425
  · exact hts _ q434
  · exact hts _ q445
  · exact hts _ q448
  · exact hts _ q450
  · exact hts _ q426
  · exact hts _ q427
  · exact hts _ q103
  · exact hts _ q104
  · exact hts _ q428
  · exact hts _ q433
  · exact hts _ q446
  · exact hts _ q466
  · exact hts _ q415
  · exact hts _ q467
  · exact hts _ q417
  · exact hts _ q468
  · exact hts _ q419
  · exact hts _ q429
  · exact absurd h2 (by decide)
  · exact hts _ q431
  · exact absurd h2 (by decide)
  · exact hts _ q421
  · exact hts _ q718
  · exact hts _ q719
  · exact hts _ q720
  · exact hts _ q721
  · exact hs.2.2.1.at q408 rfl rfl
  · exact hts _ q721
  · exact hts _ q722
  · exact hts _ q723
  · exact hts _ q426
  · exact hs.2.2.1.at q410 rfl rfl
  · exact hlink
  · exact hts _ q1394
  · exact hts _ q436
  · exact hts _ q1395
  · exact hts _ q1396
  · exact hts _ q1397
  · exact hts _ q1398
  · exact absurd h2 (by decide)
  · exact absurd h2 (by decide)
  · exact hts _ q464
  · exact hts _ q423
  · exact hts _ q1399
theorem in_TXR : ∀ w ∈ u_ws RX11 TXR 2, w ∈ lw_all := by
  intro w hw
  obtain ⟨k, hk, rfl⟩ := List.mem_map.mp hw
  match k, List.mem_range.mp hk with
  | 0, _ => exact in_X11 _ (u_in_lay (C := RX11) (T := TX11) (N := 8) (k := 6) (by decide))
  | 1, _ => exact in_X11 _ (u_in_lay (C := RX11) (T := TX11) (N := 8) (k := 7) (by decide))
theorem in_TXF : ∀ w ∈ u_ws RX12 TXF 1, w ∈ lw_all := by
  intro w hw
  obtain ⟨k, hk, rfl⟩ := List.mem_map.mp hw
  match k, List.mem_range.mp hk with
  | 0, _ => exact in_X12 _ (u_in_lay (C := RX12) (T := TX12) (N := 7) (k := 6) (by decide))
theorem tyTXR : ∀ k, k < 2 → parseFieldDescriptor (TXR k).2.2.1 = some ((fun _ => FieldType.int) k) := by decide +kernel
theorem tyTXF : ∀ k, k < 1 → parseFieldDescriptor (TXF k).2.2.1 = some ((fun _ => FieldType.int) k) := by decide +kernel
theorem nmTXR : ∀ a, a < 2 → ∀ b, b < 2 → a ≠ b → (TXR a).2.1 ≠ (TXR b).2.1 := by decide +kernel
theorem nmTXF : ∀ a, a < 1 → ∀ b, b < 1 → a ≠ b → (TXF a).2.1 ≠ (TXF b).2.1 := by decide +kernel
theorem ct9 {E : mE} {t : mt} {M : mm} {a n : Nat} (h : t a = (9, n)) : ct E t M a = .inr (19, [.int (gI M 900 a), .int (gI M 901 a)]) := ct_k h
theorem ct12 {E : mE} {t : mt} {M : mm} {a n : Nat} (h : t a = (12, n)) : ct E t M a = .inr (20, [.int (gI M 1200 a)]) := ct_k h
/-- a new cell of ours, at an address that wasn't -/
theorem mw.addq {E : mE} {t : mt} {M M1 : mm} {H H1 : Heap} {q : Nat} {x : Nat × Nat} (h : mw E t M H) (hq : (t q).1 = 0) (hA : eA E q) (hk : ∀ z, z ≠ q → H1[z]? = H[z]?) (hat : va_at E.1 clA (q, ct E (m1 t q x) M1 q) H1) (hM : ∀ b, b ≠ q → ct E t M1 b = ct E t M b) : mw E (m1 t q x) M1 H1 := by
  obtain ⟨L, h1, h2, h3⟩ := h
  have hct : ∀ a, a ≠ q → ct E (m1 t q x) M1 a = ct E t M a := fun a ha => by rw [← hM a ha]; unfold ct; rw [m1_ne t x ha]
  refine ⟨q :: L.filter (fun a => decide (a ≠ q)), fun a ha => ?_, P_of (fun a ha => ?_), D_of_nodup (List.pairwise_cons.mpr ⟨fun a ha => ?_, (nodup_of_D h3).filter _⟩) (fun a ha => ?_)⟩
  · by_cases e : a = q
    · rw [e]; exact List.mem_cons_self
    · rw [m1_ne t x e] at ha
      exact List.mem_cons_of_mem _ (List.mem_filter.mpr ⟨h1 a ha, decide_eq_true e⟩)
  · rcases List.mem_cons.mp ha with e | e
    · rw [e]; exact hat
    · obtain ⟨ha1, ha2⟩ := List.mem_filter.mp e
      have hne := of_decide_eq_true ha2
      rw [hct a hne]
      exact (P_at h2 ha1).kept (hk a hne)
  · exact fun e => of_decide_eq_true (List.mem_filter.mp ha).2 e.symm
  · rcases List.mem_cons.mp ha with e | e
    · rw [e]; exact hA
    · obtain ⟨ha1, ha2⟩ := List.mem_filter.mp e
      obtain ⟨k, hk⟩ := List.getElem?_of_mem (show (a, ct E t M a) ∈ va_pl L (ct E t M) from List.mem_map.mpr ⟨a, ha1, rfl⟩)
      exact h3.2 k _ hk
/-- memories that say the same but at q -/
def eqx (q : Nat) (M N : mm) : Prop := ∀ b, b ≠ q → (∀ f, gI M f b = gI N f b) ∧ (∀ f, gF M f b = gF N f b) ∧ (∀ f, gN M f b = gN N f b) ∧ (∀ f, gR M f b = gR N f b) ∧ aI M b = aI N b ∧ aF M b = aF N b ∧ aR M b = aR N b ∧ aL M b = aL N b ∧ aD M b = aD N b
theorem eqx.rf (q : Nat) (M : mm) : eqx q M M := fun _ _ => ⟨fun _ => rfl, fun _ => rfl, fun _ => rfl, fun _ => rfl, rfl, rfl, rfl, rfl, rfl⟩
theorem eqx.at {q f : Nat} {M N : mm} {v : Int32} (h : eqx q M N) : eqx q (sI M f q v) N := fun b hb => by
  obtain ⟨h1, h2⟩ := h b hb
  exact ⟨fun g => (m2_ne _ _ hb).trans (h1 g), h2⟩
theorem eqx.stI {q f a : Nat} {M N : mm} {v : Int32} (h : eqx q M N) : eqx q (sI M f a v) (sI N f a v) := fun b hb => by
  obtain ⟨h1, h2⟩ := h b hb
  refine ⟨fun g => ?_, h2⟩
  show m2 M.1 f a v g b = m2 N.1 f a v g b
  unfold m2
  rw [show M.1 g b = N.1 g b from h1 g]
theorem eqx.cte {E : mE} {t : mt} {q b : Nat} {M N : mm} (h : eqx q M N) (hb : b ≠ q) : ct E t M b = ct E t N b := by
  obtain ⟨h1, h2, h3, h4, h5, h6, h7, h8, h9⟩ := h b hb
  unfold ct
  simp only [h1, h2, h3, h4, h5, h6, h7, h8, h9]
theorem mw.eqx {E : mE} {t : mt} {q : Nat} {M N : mm} {H : Heap} (h : mw E t M H) (hq : (t q).1 = 0) (he : eqx q M N) : mw E t N H := h.eqv (fun b hb => he.cte (fun e => hb (by rw [e]; exact hq)))
section KPF
variable {p : Program} {l : Launch} {e : Env} {R : Room} {s : State} {m : MethodId} {args : Array Value} {below : List Frame} {meth : Method} {c : Code} {H : Heap} {locs : List Loc} {cells slots : Nat} {Q : State → Prop}
variable {cc : ByteArray} {pc : Nat} {ls : Array Slot} {rest : List Value} {a : Nat} {E : mE} {t : mt} {M : mm}
theorem k_putF {M1 : mm} (hexec : p.tables.exec = Jvm.exec) (hb : c.code = cc) {own ref C : String} {T : u_T} {N ci index : Nat} (hts : ∀ w ∈ lw_all, w.before args s = true) (hin : ∀ w ∈ u_ws C T N, w ∈ lw_all) (ty0 : Nat → FieldType) (hty : ∀ k, k < N → parseFieldDescriptor (T k).2.2.1 = some (ty0 k)) (hnm : ∀ a, a < N → ∀ b, b < N → a ≠ b → (T a).2.1 ≠ (T b).2.1) (hown : s.vm.findClass own = some m.cls) (hs : sP E s) (hm : mw E t M H) (hS : va_S (eA E) s.heap H locs) (ha : (t a).1 ≠ 0) {fs : List Value} (he : ct E t M a = .inr (ci, fs)) (hc : clA[ci]? = some (C, T, N)) (k : Nat) (hk : k < N) (hlink : (Cond.fieldLink own index ref (T k).2.1 (T k).2.2.1).before args s = true) (hsame : ∀ x, s.fieldFound? (T k).1 (T k).2.1 (T k).2.2.1 = some x → s.fieldFound? ref (T k).2.1 (T k).2.2.1 = some x) (hfin : (T k).2.2.2 = true) (hin2 : meth.name = "<init>") (hdecl : (T k).1 = own) {ty : FieldType} {v : Value} (hd : parseFieldDescriptor (T k).2.2.1 = some ty) (hn : narrow ty v = v) (hfit : fits ty v = true) (hl : k < fs.length) (hM : ∀ b, ct E t M1 b = va_up (ct E t M) a (.inr (ci, fs.set k v)) b)
    (hdg : decode cc pc = .ok (.putfield index, 3)) (kk : ∀ (H1 : Heap) (locs1 : List Loc), mw E t M1 H1 → va_S (eA E) s.heap H1 locs1 → W p l e R s m args below meth c H1 locs1 cells slots Q (F0 m (pc + 3) ls rest)) : W p l e R s m args below meth c H locs cells slots Q (F0 m pc ls (v :: .ref a :: rest)) := by
  obtain ⟨L, hL, hP, hD⟩ := hm
  obtain ⟨q0, hq⟩ := mw.at (E := E) (t := t) (M := M) (hL a ha)
  have hset := pl_set (e := .inr (ci, fs.set k v)) hD (hL a ha) hq
  rw [he] at hq
  refine va_putF hexec hb hts hin ty0 hty hnm hown hs.2.1 hP hD hS q0 hq hc k hk hlink hsame hfin hin2 hdecl hd hn hfit hl hdg (fun H1 locs1 hP1 hD1 hS1 => kk H1 locs1 ?_ hS1)
  rw [hset] at hP1 hD1
  exact mw.to hL hM hP1 hD1
end KPF
/-- a constructor's start: a blank object that isn't yet among ours -/
def xP (E : mE) (t : mt) (M : mm) (q : Nat) (cX : ClassId) (U : State) : Prop := wP E t M U ∧ (t q).1 = 0 ∧ eA E q ∧ ∃ kX : Class, U.vm.classes[cX]? = some kX ∧ U.heap[q]? = some (blank cX kX)
theorem xP.blind {E : mE} {t : mt} {M : mm} {q : Nat} {cX : ClassId} {av : List Value} : FrameBlind (va_Pc av (xP E t M q cX)) := fun _ _ _ _ h => ⟨h.1, ⟨h.2.1.1.calls, h.2.1.2⟩, h.2.2⟩
set_option maxHeartbeats 4000000 in
theorem cm11_init (l : Launch) (E : mE) (hl9 : l.stackTraces = false) (t : mt) (M : mm) (q : Nat) (x : Int32) (y : Int32) : Met l yX11_init (ws_ yX11_init cX11_init 3 none) ({ frames := 6, cells := 0, slots := 0, locals := 120 }) (va_Pc [.ref q, .int x, .int y] (xP E t M q (E.1.1 19))) (va_Qv (fun (u : mm) => u = (sI (sI M 900 q x) 901 q y)) (fun u U => mw E (m1 t q (9, 0)) u U.heap) (eA E)) 0 0 (eA E) := by
  refine Met.ofW (cc := cX11_init) (maxL := 3) (ret := none) (by decide) rfl ?_
  intro p e s m args below meth c0 s₁ B hml hv
  obtain ⟨rfl, ⟨hs, hm⟩, hq0, hqA, kX, hkX, hbl⟩ := hv
  have hx := B.exec
  have hb := B.bytes
  have hr := B.returns
  have hts := atoms_spec (ws := ws_ yX11_init cX11_init 3 none) B.pre
  have hts : ∀ w ∈ lw_all, w.before _ s = true := fun w h => hts w (List.mem_cons_of_mem _ h)
  have hown : s.vm.findClass RX11 = some m.cls := findClass_of_methodNamed B.named
  have hlocks := B.notSynchronized
  have hin2 : meth.name = "<init>" := (name_of_methodNamed B.named B.method).1
  have hl := lv_entry ([.ref q, .int x, .int y]) (n := 3) (Nat.le_of_ble_eq_true rfl)
  rw [lg_entry_eq]
  generalize (lg_sl ([.ref q, .int x, .int y]) ++ List.replicate (3 - (lg_sl ([.ref q, .int x, .int y])).length) Slot.unset).toArray = ls at hl ⊢
  have hl : lv_has ls 3 [(0, .ref q), (1, .int x), (2, .int y)] := hl
  have hfX : s.vm.findClass RX11 = some (E.1.1 19) := (hs.2.1.1 19 _ rfl).2.1
  have htq : m1 t q (9, 0) q = (9, 0) := m1_at t q (9, 0)
  refine lv_aload_n hx hb dX11_init_0 rfl (lv_at hl 0 rfl) ?_
  refine xs_super (A := eA E) (own := RX11) (C := "CliffPlots$Refused") (Xn := "java/lang/Exception") (names := []) (ic := 1) hx hb hl9 hown (by decide +kernel) (by decide +kernel) (xsat_R hts hs (hts _ q764)) hs.2.2.2.1 hs.2.2.2.2.1 (hts _ q753) hfX hkX hbl (hl.1.trans hml.symm) dX11_init_1 (Nat.lt_of_lt_of_le (Nat.le_of_ble_eq_true rfl : 4 ≤ 6) (Nat.le_of_ble_eq_true rfl)) (Nat.le_of_ble_eq_true rfl) (fun H locs ce h1 h2 h3 h4 h5 h6 h7 => ?_)
  have hS : va_S (eA E) s.heap H locs := ⟨Nat.le_of_eq h5.symm, fun z _ hz => h6 z (fun e9 => hz (by rw [e9]; exact hqA)), fun y hy => by rw [h7 y hy]; exact hqA⟩
  have hfld : ∀ k, k < 2 → ce.slots[E.1.2 19 k]? = some (.int 0) := fun k hk => by
    obtain ⟨cf, kf, fi, f, hff, hsl⟩ := (hs.2.1.1 19 _ rfl).1 k hk
    rw [← hsl]
    exact h4 _ _ _ cf kf fi f .int hff (u_lays hts in_TXR hk) (tyTXR k hk) (by match k, hk with | 0, _ => decide | 1, _ => decide) (by match k, hk with | 0, _ => decide | 1, _ => decide) (by match k, hk with | 0, _ => decide | 1, _ => decide)
  have hm : mw E (m1 t q (9, 0)) (sI (sI M 900 q (0 : Int32)) 901 q (0 : Int32)) H := mw.addq hm hq0 hqA h6 (by
      rw [ct9 htq]
      refine ⟨_, rfl, ce, h1, h2, h3, fun k hk => ?_⟩
      rw [hfld k hk]
      match k, hk with
      | 0, _ => simp [gI, sI, m2_at, m2_nf, vp_V]
      | 1, _ => simp [gI, sI, m2_at, m2_nf, vp_V]) (fun b hb9 => by rw [ct_sI hb9, ct_sI hb9])
  refine lv_aload_n hx hb dX11_init_4 rfl (lv_at hl 0 rfl) ?_
  refine lv_iload_n hx hb dX11_init_5 rfl (lv_at hl 1 rfl) ?_
  refine k_putF (M1 := (sI (sI (sI M 900 q (0 : Int32)) 901 q (0 : Int32)) 900 q x)) (C := RX11) (T := TXR) (N := 2) hx hb hts in_TXR (fun _ => .int) tyTXR nmTXR hown hs hm hS (mt_ne htq (by decide)) (ct9 htq) rfl 0 (by decide) (hts _ q765) (fun _ h9 => h9) rfl hin2 rfl rfl rfl rfl (Nat.le_of_ble_eq_true rfl) (fun b => by
    by_cases hba : b = q
    · subst hba
      rw [va_up_self, ct9 htq]
      simp [gI, sI, m2_at, m2_nf]
    · rw [va_up_ne _ _ hba, ct_sI hba]) dX11_init_6 (fun H locs hm hS => ?_)
  refine lv_aload_n hx hb dX11_init_9 rfl (lv_at hl 0 rfl) ?_
  refine lv_iload_n hx hb dX11_init_10 rfl (lv_at hl 2 rfl) ?_
  refine k_putF (M1 := (sI (sI (sI (sI M 900 q (0 : Int32)) 901 q (0 : Int32)) 900 q x) 901 q y)) (C := RX11) (T := TXR) (N := 2) hx hb hts in_TXR (fun _ => .int) tyTXR nmTXR hown hs hm hS (mt_ne htq (by decide)) (ct9 htq) rfl 1 (by decide) (hts _ q767) (fun _ h9 => h9) rfl hin2 rfl rfl rfl rfl (Nat.le_of_ble_eq_true rfl) (fun b => by
    by_cases hba : b = q
    · subst hba
      rw [va_up_self, ct9 htq]
      simp [gI, sI, m2_at, m2_nf]
    · rw [va_up_ne _ _ hba, ct_sI hba]) dX11_init_11 (fun H locs hm hS => ?_)
  have hm : mw E (m1 t q (9, 0)) (sI (sI M 900 q x) 901 q y) H := by
    refine hm.eqv (fun b _ => ?_)
    by_cases hbq : b = q
    · subst hbq
      rw [ct9 htq, ct9 htq]
      simp [gI, sI, m2_at, m2_nf]
    · rw [ct_sI hbq, ct_sI hbq, ct_sI hbq, ct_sI hbq, ct_sI hbq, ct_sI hbq]
  exact W.vret hx hb hr (fun t9 ht9 _ => ⟨⟨_, rfl, rfl, hb9 ht9 hm⟩, hS.F ht9⟩) hS.2.2 dX11_init_14
set_option maxHeartbeats 4000000 in
theorem cm12_init (l : Launch) (E : mE) (hl9 : l.stackTraces = false) (t : mt) (M : mm) (q : Nat) (x : Int32) : Met l yX12_init (ws_ yX12_init cX12_init 2 none) ({ frames := 6, cells := 0, slots := 0, locals := 120 }) (va_Pc [.ref q, .int x] (xP E t M q (E.1.1 20))) (va_Qv (fun (u : mm) => u = (sI M 1200 q x)) (fun u U => mw E (m1 t q (12, 0)) u U.heap) (eA E)) 0 0 (eA E) := by
  refine Met.ofW (cc := cX12_init) (maxL := 2) (ret := none) (by decide) rfl ?_
  intro p e s m args below meth c0 s₁ B hml hv
  obtain ⟨rfl, ⟨hs, hm⟩, hq0, hqA, kX, hkX, hbl⟩ := hv
  have hx := B.exec
  have hb := B.bytes
  have hr := B.returns
  have hts := atoms_spec (ws := ws_ yX12_init cX12_init 2 none) B.pre
  have hts : ∀ w ∈ lw_all, w.before _ s = true := fun w h => hts w (List.mem_cons_of_mem _ h)
  have hown : s.vm.findClass RX12 = some m.cls := findClass_of_methodNamed B.named
  have hlocks := B.notSynchronized
  have hin2 : meth.name = "<init>" := (name_of_methodNamed B.named B.method).1
  have hl := lv_entry ([.ref q, .int x]) (n := 2) (Nat.le_of_ble_eq_true rfl)
  rw [lg_entry_eq]
  generalize (lg_sl ([.ref q, .int x]) ++ List.replicate (2 - (lg_sl ([.ref q, .int x])).length) Slot.unset).toArray = ls at hl ⊢
  have hl : lv_has ls 2 [(0, .ref q), (1, .int x)] := hl
  have hfX : s.vm.findClass RX12 = some (E.1.1 20) := (hs.2.1.1 20 _ rfl).2.1
  have htq : m1 t q (12, 0) q = (12, 0) := m1_at t q (12, 0)
  refine lv_aload_n hx hb dX12_init_0 rfl (lv_at hl 0 rfl) ?_
  refine xs_super (A := eA E) (own := RX12) (C := "CliffPlots$Fault") (Xn := "java/lang/RuntimeException") (names := ["java/lang/Exception"]) (ic := 1) hx hb hl9 hown (by decide +kernel) (by decide +kernel) (xsat_F hts hs (hts _ q1403)) hs.2.2.2.1 hs.2.2.2.2.1 (hts _ q1392) hfX hkX hbl (hl.1.trans hml.symm) dX12_init_1 (Nat.lt_of_lt_of_le (Nat.le_of_ble_eq_true rfl : 5 ≤ 6) (Nat.le_of_ble_eq_true rfl)) (Nat.le_of_ble_eq_true rfl) (fun H locs ce h1 h2 h3 h4 h5 h6 h7 => ?_)
  have hS : va_S (eA E) s.heap H locs := ⟨Nat.le_of_eq h5.symm, fun z _ hz => h6 z (fun e9 => hz (by rw [e9]; exact hqA)), fun y hy => by rw [h7 y hy]; exact hqA⟩
  have hfld : ∀ k, k < 1 → ce.slots[E.1.2 20 k]? = some (.int 0) := fun k hk => by
    obtain ⟨cf, kf, fi, f, hff, hsl⟩ := (hs.2.1.1 20 _ rfl).1 k hk
    rw [← hsl]
    exact h4 _ _ _ cf kf fi f .int hff (u_lays hts in_TXF hk) (tyTXF k hk) (by match k, hk with | 0, _ => decide) (by match k, hk with | 0, _ => decide) (by match k, hk with | 0, _ => decide)
  have hm : mw E (m1 t q (12, 0)) (sI M 1200 q (0 : Int32)) H := mw.addq hm hq0 hqA h6 (by
      rw [ct12 htq]
      refine ⟨_, rfl, ce, h1, h2, h3, fun k hk => ?_⟩
      rw [hfld k hk]
      match k, hk with
      | 0, _ => simp [gI, sI, m2_at, m2_nf, vp_V]) (fun b hb9 => by rw [ct_sI hb9])
  refine lv_aload_n hx hb dX12_init_4 rfl (lv_at hl 0 rfl) ?_
  refine lv_iload_n hx hb dX12_init_5 rfl (lv_at hl 1 rfl) ?_
  refine k_putF (M1 := (sI (sI M 1200 q (0 : Int32)) 1200 q x)) (C := RX12) (T := TXF) (N := 1) hx hb hts in_TXF (fun _ => .int) tyTXF nmTXF hown hs hm hS (mt_ne htq (by decide)) (ct12 htq) rfl 0 (by decide) (hts _ q1404) (fun _ h9 => h9) rfl hin2 rfl rfl rfl rfl (Nat.le_of_ble_eq_true rfl) (fun b => by
    by_cases hba : b = q
    · subst hba
      rw [va_up_self, ct12 htq]
      simp [gI, sI, m2_at, m2_nf]
    · rw [va_up_ne _ _ hba, ct_sI hba]) dX12_init_6 (fun H locs hm hS => ?_)
  have hm : mw E (m1 t q (12, 0)) (sI M 1200 q x) H := by
    refine hm.eqv (fun b _ => ?_)
    by_cases hbq : b = q
    · subst hbq
      rw [ct12 htq, ct12 htq]
      simp [gI, sI, m2_at, m2_nf]
    · rw [ct_sI hbq, ct_sI hbq, ct_sI hbq]
  exact W.vret hx hb hr (fun t9 ht9 _ => ⟨⟨_, rfl, rfl, hb9 ht9 hm⟩, hS.F ht9⟩) hS.2.2 dX12_init_9
