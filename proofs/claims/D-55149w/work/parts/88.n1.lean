set_option maxRecDepth 100000
/-! new objects and arrays at known places; the small constructors -/
/-- all fields of the cell q are blank -/
def zc (M : mm) (q : Nat) : mm := (fun f b => bif Nat.beq b q then 0 else M.1 f b, fun f b => bif Nat.beq b q then 0 else M.2.1 f b, fun f b => bif Nat.beq b q then 0 else M.2.2.1 f b, fun f b => bif Nat.beq b q then none else M.2.2.2.1 f b, M.2.2.2.2)
section ZC
variable {M : mm} {q b f : Nat}
theorem bq_ne (h : b ≠ q) : Nat.beq b q = false := Bool.eq_false_iff.mpr (fun e => h (Nat.eq_of_beq_eq_true e))
theorem gI_zc (M : mm) (f q : Nat) : gI (zc M q) f q = 0 := by simp [gI, zc]
theorem gF_zc (M : mm) (f q : Nat) : gF (zc M q) f q = 0 := by simp [gF, zc]
theorem gN_zc (M : mm) (f q : Nat) : gN (zc M q) f q = 0 := by simp [gN, zc]
theorem gR_zc (M : mm) (f q : Nat) : gR (zc M q) f q = none := by simp [gR, zc]
theorem gI_zn (h : b ≠ q) : gI (zc M q) f b = gI M f b := by simp [gI, zc, bq_ne h]
theorem gF_zn (h : b ≠ q) : gF (zc M q) f b = gF M f b := by simp [gF, zc, bq_ne h]
theorem gN_zn (h : b ≠ q) : gN (zc M q) f b = gN M f b := by simp [gN, zc, bq_ne h]
theorem gR_zn (h : b ≠ q) : gR (zc M q) f b = gR M f b := by simp [gR, zc, bq_ne h]
theorem ct_zc {E : mE} {t : mt} (h : b ≠ q) : ct E t (zc M q) b = ct E t M b := by
  unfold ct
  simp only [gI_zn h, gF_zn h, gN_zn h, gR_zn h]
  rfl
theorem smC.zc (h : b ≠ q) : smC M (zc M q) b := ⟨fun _ => gI_zn h, fun _ => gF_zn h, fun _ => gN_zn h, rfl, rfl, rfl, rfl, rfl⟩
end ZC
theorem smC.sR {M : mm} {a b g : Nat} (v : Option Nat) : smC M (sR M g a v) b := ⟨fun _ => rfl, fun _ => rfl, fun _ => rfl, rfl, rfl, rfl, rfl, rfl⟩
theorem smC.wR {M : mm} {a b : Nat} (f : Nat → Option Nat) (h : b ≠ a) : smC M (wR M a f) b := ⟨fun _ => rfl, fun _ => rfl, fun _ => rfl, rfl, rfl, m1_ne _ _ h, rfl, rfl⟩
theorem smC.wF {M : mm} {a b : Nat} (f : Nat → UInt32) (h : b ≠ a) : smC M (wF M a f) b := ⟨fun _ => rfl, fun _ => rfl, fun _ => rfl, rfl, m1_ne _ _ h, rfl, rfl, rfl⟩
theorem smC.sF {M : mm} {a b g : Nat} (v : UInt32) (h : b ≠ a) : smC M (sF M g a v) b := ⟨fun _ => rfl, fun _ => m2_ne _ _ h, fun _ => rfl, rfl, rfl, rfl, rfl, rfl⟩
section KNO
variable {p : Program} {l : Launch} {e : Env} {R : Room} {s : State} {m : MethodId} {args : Array Value} {below : List Frame} {meth : Method} {c : Code} {H : Heap} {locs : List Loc} {cells slots : Nat} {Q : State → Prop}
variable {cc : ByteArray} {pc : Nat} {ls : Array Slot} {rest : List Value} {a b : Nat} {E : mE} {t : mt} {M : mm}
/-- no more cells than were paid for -/
theorem k_size {g : JFrame} (kk : H.size ≤ s.heap.size + cells → W p l e R s m args below meth c H locs cells slots Q g) : W p l e R s m args below meth c H locs cells slots Q g := fun T hT X => kk (by rw [← hT]; exact X.heapSize) T hT X
theorem mw_push9 {H1 : Heap} {M1 : mm} {x : Nat × Nat} {e9 : va_E} (hm : mw E t M H) (z1 : H1.size = H.size + 1) (o1 : ∀ q : Nat, q < H.size → H1[q]? = H[q]?) (hat : va_at E.1 clA (H.size, e9) H1) (hM : ∀ b, b ≠ H.size → ct E (m1 t H.size x) M1 b = ct E t M b) (hE : ct E (m1 t H.size x) M1 H.size = e9) (hA : eA E H.size) : mw E (m1 t H.size x) M1 H1 := by
  obtain ⟨L, hL, hP, hD⟩ := hm
  have hk : ∀ (k : Nat) (x : Nat × va_E), (va_pl L (ct E t M))[k]? = some x → H1[x.1]? = H[x.1]? := fun k x hx => o1 x.1 ((hP k x hx).lt)
  have hqL : H.size ∉ L := fun h9 => absurd (P_at hP h9).lt (Nat.lt_irrefl _)
  refine mw.push (H := H) hqL hL (fun b hb9 h9 => by rw [m1_ne t _ hb9] at h9; exact h9) (fun b hb9 => hM b hb9) hE ((hP.kept hk).app (fun k x hx => ?_)) (hD.push hP rfl hA)
  have hz : k < 1 := (List.getElem?_eq_some_iff.mp hx).1
  rw [show k = 0 by omega] at hx
  cases hx
  exact hat
theorem hq0_of (hm : mw E t M H) : (t H.size).1 = 0 := by
  by_cases h9 : (t H.size).1 = 0
  · exact h9
  · exact absurd (hm.lt h9) (Nat.lt_irrefl _)
/-- a new array of references -/
theorem k_newR {kd0 j N : Nat} {C : String} {i : Int32} {own : String} {index : Nat} (hexec : p.tables.exec = Jvm.exec) (hb : c.code = cc) (hown : s.vm.findClass own = some m.cls) (hclink : (Cond.classLink own index C).before args s = true) (hover : va_AO C s) (hs : sP E s) (hm : mw E t M H) (hS : va_S (eA E) s.heap H locs) (hj : (tyA E.2.1)[j]? = some (E.2.1 j, .object C)) (hE : ∀ q, ct E (m1 t q (kd0, N)) (wR M q (fun _ => none)) q = .inl (E.2.1 j, N, .inr (.inr (.inr (.inr (fun _ => none)))))) (hn : ¬ i < 0) (hN : i.toNatClampNeg = N) (hbytes : N * 4 ≤ 536870912) (hcells : cells + 1 ≤ R.cells) (hslots : slots + N ≤ R.slots) (hdg : decode cc pc = .ok (.anewarray index, 3))
    (kk : ∀ (q : Nat) (H1 : Heap), q = H.size → (t q).1 = 0 → mw E (m1 t q (kd0, N)) (wR M q (fun _ => none)) H1 → va_S (eA E) s.heap H1 locs → W p l e R s m args below meth c H1 locs (cells + 1) (slots + N) Q (F0 m (pc + 3) ls (.ref q :: rest))) : W p l e R s m args below meth c H locs cells slots Q (F0 m pc ls (.int i :: rest)) := by
  subst hN
  refine W.anew hexec hb hown hclink (va_AO.use hover) rfl hdg rfl hn hbytes hcells hslots fun cA kA comp f1 f2 f3 f4 => ?_
  generalize hH1 : H.push ({ cls := cA, slots := Array.replicate i.toNatClampNeg .null, vm := .none } : Cell) = H1
  have z1 : H1.size = H.size + 1 := by rw [← hH1, Array.size_push]
  have e1 : H1[H.size]? = some (arrV cA i.toNatClampNeg (fun _ => .null)) := by rw [← hH1, Array.getElem?_push_size, ← arrV_new]
  have o1 : ∀ q : Nat, q < H.size → H1[q]? = H[q]? := fun q hq => by rw [← hH1, Array.getElem?_push, if_neg (Nat.ne_of_lt hq)]
  obtain ⟨-, k9, c9, -, -, -, h9⟩ := hs.2.1.2 j _ hj
  have hcA : cA = E.2.1 j := Option.some.inj (f1.symm.trans h9)
  refine kk H.size H1 rfl (hq0_of hm) (mw_push9 hm z1 o1 ?_ (fun b hb9 => ?_) (hE _) (eA.all hs _ hS.1)) ⟨Nat.le_trans hS.1 (by omega), fun x h1 h2 => (o1 x (Nat.lt_of_lt_of_le h1 hS.1)).trans (hS.2.1 x h1 h2), hS.2.2⟩
  · show H1[H.size]? = some (vp_cell _ _)
    rw [vp_cell_q, ← hcA]
    exact e1
  · rw [ct_wR hb9]; unfold ct; rw [m1_ne t _ hb9]
/-- a new object -/
theorem k_newO {own C : String} {T : u_T} {N ci kd0 index : Nat} {fs : List Value} (hexec : p.tables.exec = Jvm.exec) (hb : c.code = cc) (hts : ∀ w ∈ lw_all, w.before args s = true) (hin : ∀ w ∈ u_ws C T N, w ∈ lw_all) (ty : Nat → FieldType) (hty : ∀ k, k < N → parseFieldDescriptor (T k).2.2.1 = some (ty k)) (hown : s.vm.findClass own = some m.cls) (hcl : (Cond.classLink own index C).before args s = true) (hinst : (Cond.instantiable C N).before args s = true) (hini : (Cond.initialized C).before args s = true)
    (hs : sP E s) (hm : mw E t M H) (hS : va_S (eA E) s.heap H locs) (hc : clA[ci]? = some (C, T, N)) (hfs : ∀ j, j < N → defaultValue (ty j) = vp_V fs j) (hE : ∀ q, ct E (m1 t q (kd0, 0)) (zc M q) q = .inr (ci, fs)) (hcells : cells + 1 ≤ R.cells) (hslots : slots + N ≤ R.slots) (hdg : decode cc pc = .ok (.new index, 3))
    (kk : ∀ (q : Nat) (H1 : Heap), q = H.size → H1.size = q + 1 → (t q).1 = 0 → mw E (m1 t q (kd0, 0)) (zc M q) H1 → va_S (eA E) s.heap H1 locs → W p l e R s m args below meth c H1 locs (cells + 1) (slots + N) Q (F0 m (pc + 3) ls (.ref q :: rest))) : W p l e R s m args below meth c H locs cells slots Q (F0 m pc ls rest) := by
  have hKn := hs.2.1.1 ci _ hc
  refine W.newcK hexec hb hown hcl hinst hini rfl hdg hcells hslots hKn.2.1 rfl fun H1 kC hkC e1 z1 o1 => ?_
  refine kk H.size H1 rfl z1 (hq0_of hm) (mw_push9 (e9 := .inr (ci, fs)) hm z1 o1 ⟨_, hc, (u_born ty hts hin hKn hkC e1 hty).to hfs⟩ (fun b hb9 => ?_) (hE _) (eA.all hs _ hS.1)) ⟨Nat.le_trans hS.1 (by omega), fun x h1 h2 => (o1 x (Nat.lt_of_lt_of_le h1 hS.1)).trans (hS.2.1 x h1 h2), hS.2.2⟩
  rw [ct_zc hb9]; unfold ct; rw [m1_ne t _ hb9]
end KNO
theorem arrV_cg {cI : ClassId} {N : Nat} {f g : Nat → Value} (h : ∀ k, k < N → f k = g k) : arrV cI N f = arrV cI N g := by
  unfold arrV
  congr 1
  congr 1
  funext j
  exact h j.val j.isLt
/-- the memory said otherwise -/
theorem mw.conv {E : mE} {t t' : mt} {M M' : mm} {H : Heap} (h : mw E t M H) (hz : ∀ b, (t' b).1 ≠ 0 → (t b).1 ≠ 0) (he : ∀ b, (t' b).1 ≠ 0 → va_at E.1 clA (b, ct E t M b) H → va_at E.1 clA (b, ct E t' M' b) H) : mw E t' M' H := by
  obtain ⟨L, h1, h2, h3⟩ := h
  refine ⟨L.filter (fun a => decide ((t' a).1 ≠ 0)), fun a ha => List.mem_filter.mpr ⟨h1 a (hz a ha), decide_eq_true ha⟩, P_of (fun a ha => ?_), D_of_nodup ((nodup_of_D h3).filter _) (fun a ha => ?_)⟩
  · obtain ⟨ha1, ha2⟩ := List.mem_filter.mp ha
    exact he a (of_decide_eq_true ha2) (P_at h2 ha1)
  · obtain ⟨ha1, ha2⟩ := List.mem_filter.mp ha
    obtain ⟨k, hk⟩ := List.getElem?_of_mem (show (a, ct E t M a) ∈ va_pl L (ct E t M) from List.mem_map.mpr ⟨a, ha1, rfl⟩)
    exact h3.2 k _ hk
theorem ct_sRa {E : mE} {t : mt} {M : mm} {f a b : Nat} {v : Option Nat} {e : va_E} (h : ct E t (sR M f a v) a = e) : ct E t (sR M f a v) b = va_up (ct E t M) a e b := by
  by_cases hba : b = a
  · subst hba; rw [va_up_self, h]
  · rw [va_up_ne _ _ hba, ct_sR hba]
/-- a constructor's start: so many cells, no more -/
def zP (E : mE) (t : mt) (M : mm) (z : Nat) (U : State) : Prop := wP E t M U ∧ U.heap.size = z
theorem zP.blind {E : mE} {t : mt} {M : mm} {z : Nat} {av : List Value} : FrameBlind (va_Pc av (zP E t M z)) := fun _ _ _ _ q => ⟨q.1, ⟨q.2.1.1.calls, q.2.1.2⟩, q.2.2⟩
theorem k_preZ {s : State} {E : mE} {t : mt} {M : mm} {z : Nat} {H : Heap} {locs : List Loc} {As : List Value} (hs : sP E s) (hm : mw E t M H) (hz : H.size = z) (hS : va_S (eA E) s.heap H locs) : PreS s H (va_Pc As (zP E t M z)) As := ⟨zP.blind, fun U hU hW => ⟨rfl, ⟨hs.moved hS hU hW, by rw [hU]; exact hm⟩, by rw [hU]; exact hz⟩⟩
abbrev C6_init (t : mt) (M : mm) (c : Nat) : mm := M
set_option maxHeartbeats 4000000 in
theorem cm6_init (l : Launch) (E : mE) (t : mt) (M : mm) (c : Nat)  (hc : t c = (5, 0))  : Met l yX6_init (ws_ yX6_init cX6_init 1 none) ({ frames := 1, cells := 0, slots := 0, locals := 24 }) (va_Pc [.ref c] (wP E t M)) (va_Qv (fun (u : mm) => u = C6_init t M c ) (fun u U => mw E t u U.heap) (eA E)) 0 0 (eA E) := by
  refine Met.ofW (cc := cX6_init) (maxL := 1) (ret := none) (by decide) rfl ?_
  intro p e s m args below meth c0 s₁ B hml hv
  obtain ⟨rfl, hs, hm⟩ := hv
  have hx := B.exec
  have hb := B.bytes
  have hr := B.returns
  have hts := atoms_spec (ws := ws_ yX6_init cX6_init 1 none) B.pre
  have hts : ∀ w ∈ lw_all, w.before _ s = true := fun w h => hts w (List.mem_cons_of_mem _ h)
  have hown : s.vm.findClass RX6 = some m.cls := findClass_of_methodNamed B.named
  have hlocks := B.notSynchronized
  have hS : va_S (eA E) s.heap s.heap [] := va_S.rf
  have hl := lv_entry ([.ref c]) (n := 1) (Nat.le_of_ble_eq_true rfl)
  rw [lg_entry_eq]
  generalize (lg_sl ([.ref c]) ++ List.replicate (1 - (lg_sl ([.ref c])).length) Slot.unset).toArray = ls at hl ⊢
  have hl : lv_has ls 1 [(0, .ref (c))] := hl
  refine lv_aload_n hx hb dX6_init_0 rfl (lv_at hl 0 rfl) ?_
  refine W.objInit hx hb hown (hts _ q161) (hts _ q103) (hts _ q104) rfl (by rw [hml]; exact hl.1) rfl dX6_init_1 (Nat.le_of_ble_eq_true rfl) (Nat.le_of_ble_eq_true rfl) ?_
  exact W.vret hx hb hr (fun t9 ht9 _ => ⟨⟨_, rfl, (rfl).symm, hb9 ht9 hm⟩, hS.F ht9⟩) hS.2.2 dX6_init_4
abbrev C7_init (t : mt) (M : mm) (c : Nat) : mm := M
set_option maxHeartbeats 4000000 in
theorem cm7_init (l : Launch) (E : mE) (t : mt) (M : mm) (c : Nat)  (hc : t c = (6, 0))  : Met l yX7_init (ws_ yX7_init cX7_init 1 none) ({ frames := 1, cells := 0, slots := 0, locals := 24 }) (va_Pc [.ref c] (wP E t M)) (va_Qv (fun (u : mm) => u = C7_init t M c ) (fun u U => mw E t u U.heap) (eA E)) 0 0 (eA E) := by
  refine Met.ofW (cc := cX7_init) (maxL := 1) (ret := none) (by decide) rfl ?_
  intro p e s m args below meth c0 s₁ B hml hv
  obtain ⟨rfl, hs, hm⟩ := hv
  have hx := B.exec
  have hb := B.bytes
  have hr := B.returns
  have hts := atoms_spec (ws := ws_ yX7_init cX7_init 1 none) B.pre
  have hts : ∀ w ∈ lw_all, w.before _ s = true := fun w h => hts w (List.mem_cons_of_mem _ h)
  have hown : s.vm.findClass RX7 = some m.cls := findClass_of_methodNamed B.named
  have hlocks := B.notSynchronized
  have hS : va_S (eA E) s.heap s.heap [] := va_S.rf
  have hl := lv_entry ([.ref c]) (n := 1) (Nat.le_of_ble_eq_true rfl)
  rw [lg_entry_eq]
  generalize (lg_sl ([.ref c]) ++ List.replicate (1 - (lg_sl ([.ref c])).length) Slot.unset).toArray = ls at hl ⊢
  have hl : lv_has ls 1 [(0, .ref (c))] := hl
  refine lv_aload_n hx hb dX7_init_0 rfl (lv_at hl 0 rfl) ?_
  refine W.objInit hx hb hown (hts _ q182) (hts _ q103) (hts _ q104) rfl (by rw [hml]; exact hl.1) rfl dX7_init_1 (Nat.le_of_ble_eq_true rfl) (Nat.le_of_ble_eq_true rfl) ?_
  exact W.vret hx hb hr (fun t9 ht9 _ => ⟨⟨_, rfl, (rfl).symm, hb9 ht9 hm⟩, hS.F ht9⟩) hS.2.2 dX7_init_4
abbrev C8_init (t : mt) (M : mm) (c : Nat) : mm := M
set_option maxHeartbeats 4000000 in
theorem cm8_init (l : Launch) (E : mE) (t : mt) (M : mm) (c : Nat)  (hc : t c = (7, 0))  : Met l yX8_init (ws_ yX8_init cX8_init 1 none) ({ frames := 1, cells := 0, slots := 0, locals := 24 }) (va_Pc [.ref c] (wP E t M)) (va_Qv (fun (u : mm) => u = C8_init t M c ) (fun u U => mw E t u U.heap) (eA E)) 0 0 (eA E) := by
  refine Met.ofW (cc := cX8_init) (maxL := 1) (ret := none) (by decide) rfl ?_
  intro p e s m args below meth c0 s₁ B hml hv
  obtain ⟨rfl, hs, hm⟩ := hv
  have hx := B.exec
  have hb := B.bytes
  have hr := B.returns
  have hts := atoms_spec (ws := ws_ yX8_init cX8_init 1 none) B.pre
  have hts : ∀ w ∈ lw_all, w.before _ s = true := fun w h => hts w (List.mem_cons_of_mem _ h)
  have hown : s.vm.findClass RX8 = some m.cls := findClass_of_methodNamed B.named
  have hlocks := B.notSynchronized
  have hS : va_S (eA E) s.heap s.heap [] := va_S.rf
  have hl := lv_entry ([.ref c]) (n := 1) (Nat.le_of_ble_eq_true rfl)
  rw [lg_entry_eq]
  generalize (lg_sl ([.ref c]) ++ List.replicate (1 - (lg_sl ([.ref c])).length) Slot.unset).toArray = ls at hl ⊢
  have hl : lv_has ls 1 [(0, .ref (c))] := hl
  refine lv_aload_n hx hb dX8_init_0 rfl (lv_at hl 0 rfl) ?_
  refine W.objInit hx hb hown (hts _ q208) (hts _ q103) (hts _ q104) rfl (by rw [hml]; exact hl.1) rfl dX8_init_1 (Nat.le_of_ble_eq_true rfl) (Nat.le_of_ble_eq_true rfl) ?_
  exact W.vret hx hb hr (fun t9 ht9 _ => ⟨⟨_, rfl, (rfl).symm, hb9 ht9 hm⟩, hS.F ht9⟩) hS.2.2 dX8_init_4
abbrev C3_init (t : mt) (M : mm) (c : Nat) : mm := M
set_option maxHeartbeats 4000000 in
theorem cm3_init (l : Launch) (E : mE) (t : mt) (M : mm) (c : Nat)  (hc : isP t c)  : Met l yX3_init (ws_ yX3_init cX3_init 1 none) ({ frames := 1, cells := 0, slots := 0, locals := 24 }) (va_Pc [.ref c] (wP E t M)) (va_Qv (fun (u : mm) => u = C3_init t M c ) (fun u U => mw E t u U.heap) (eA E)) 0 0 (eA E) := by
  refine Met.ofW (cc := cX3_init) (maxL := 1) (ret := none) (by decide) rfl ?_
  intro p e s m args below meth c0 s₁ B hml hv
  obtain ⟨rfl, hs, hm⟩ := hv
  have hx := B.exec
  have hb := B.bytes
  have hr := B.returns
  have hts := atoms_spec (ws := ws_ yX3_init cX3_init 1 none) B.pre
  have hts : ∀ w ∈ lw_all, w.before _ s = true := fun w h => hts w (List.mem_cons_of_mem _ h)
  have hown : s.vm.findClass RX3 = some m.cls := findClass_of_methodNamed B.named
  have hlocks := B.notSynchronized
  have hS : va_S (eA E) s.heap s.heap [] := va_S.rf
  have hl := lv_entry ([.ref c]) (n := 1) (Nat.le_of_ble_eq_true rfl)
  rw [lg_entry_eq]
  generalize (lg_sl ([.ref c]) ++ List.replicate (1 - (lg_sl ([.ref c])).length) Slot.unset).toArray = ls at hl ⊢
  have hl : lv_has ls 1 [(0, .ref (c))] := hl
  refine lv_aload_n hx hb dX3_init_0 rfl (lv_at hl 0 rfl) ?_
  refine W.objInit hx hb hown (hts _ q131) (hts _ q103) (hts _ q104) rfl (by rw [hml]; exact hl.1) rfl dX3_init_1 (Nat.le_of_ble_eq_true rfl) (Nat.le_of_ble_eq_true rfl) ?_
  exact W.vret hx hb hr (fun t9 ht9 _ => ⟨⟨_, rfl, (rfl).symm, hb9 ht9 hm⟩, hS.F ht9⟩) hS.2.2 dX3_init_4
abbrev C4_init (t : mt) (M : mm) (c : Nat) : mm := M
set_option maxHeartbeats 4000000 in
theorem cm4_init (l : Launch) (E : mE) (t : mt) (M : mm) (c : Nat)  (hc : t c = (3, 0))  : Met l yX4_init (ws_ yX4_init cX4_init 1 none) ({ frames := 2, cells := 0, slots := 0, locals := 44 }) (va_Pc [.ref c] (wP E t M)) (va_Qv (fun (u : mm) => u = C4_init t M c ) (fun u U => mw E t u U.heap) (eA E)) 0 0 (eA E) := by
  refine Met.ofW (cc := cX4_init) (maxL := 1) (ret := none) (by decide) rfl ?_
  intro p e s m args below meth c0 s₁ B hml hv
  obtain ⟨rfl, hs, hm⟩ := hv
  have hx := B.exec
  have hb := B.bytes
  have hr := B.returns
  have hts := atoms_spec (ws := ws_ yX4_init cX4_init 1 none) B.pre
  have hts : ∀ w ∈ lw_all, w.before _ s = true := fun w h => hts w (List.mem_cons_of_mem _ h)
  have hown : s.vm.findClass RX4 = some m.cls := findClass_of_methodNamed B.named
  have hlocks := B.notSynchronized
  have hS : va_S (eA E) s.heap s.heap [] := va_S.rf
  have hl := lv_entry ([.ref c]) (n := 1) (Nat.le_of_ble_eq_true rfl)
  rw [lg_entry_eq]
  generalize (lg_sl ([.ref c]) ++ List.replicate (1 - (lg_sl ([.ref c])).length) Slot.unset).toArray = ls at hl ⊢
  have hl : lv_has ls 1 [(0, .ref (c))] := hl
  refine lv_aload_n hx hb dX4_init_0 rfl (lv_at hl 0 rfl) ?_
  refine k_callv (va_runIN (As := []) (rest := []) ⟨hx, hb, hml, hown, hts⟩ (cm3_init l E t M c (Or.inl hc)) (⟨va_cnB 0 hts (lw_meth q130) rfl rfl rfl (hs.2.2.1 _ q128 rfl) (hts _ q60) (by decide +kernel) ⟨Nat.le_of_ble_eq_true rfl, Nat.le_of_ble_eq_true rfl⟩, rfl, hts _ q129⟩) (k_preS hs hm hS) rfl rfl hl.1 rfl (lv_room (Nat.le_of_ble_eq_true rfl)) dX4_init_1 ⟨Nat.le_of_ble_eq_true rfl, Nat.le_of_ble_eq_true rfl⟩) hS (fun u_1 H locs hu_1 hm hS => ?_)
  replace hu_1 : M = u_1 := Eq.symm hu_1
  subst hu_1
  have hm : mw E t M H := hm
  exact W.vret hx hb hr (fun t9 ht9 _ => ⟨⟨_, rfl, (rfl).symm, hb9 ht9 hm⟩, hS.F ht9⟩) hS.2.2 dX4_init_4
abbrev C5_init (t : mt) (M : mm) (c : Nat) : mm := M
set_option maxHeartbeats 4000000 in
theorem cm5_init (l : Launch) (E : mE) (t : mt) (M : mm) (c : Nat)  (hc : t c = (4, 0))  : Met l yX5_init (ws_ yX5_init cX5_init 1 none) ({ frames := 2, cells := 0, slots := 0, locals := 44 }) (va_Pc [.ref c] (wP E t M)) (va_Qv (fun (u : mm) => u = C5_init t M c ) (fun u U => mw E t u U.heap) (eA E)) 0 0 (eA E) := by
  refine Met.ofW (cc := cX5_init) (maxL := 1) (ret := none) (by decide) rfl ?_
  intro p e s m args below meth c0 s₁ B hml hv
  obtain ⟨rfl, hs, hm⟩ := hv
  have hx := B.exec
  have hb := B.bytes
  have hr := B.returns
  have hts := atoms_spec (ws := ws_ yX5_init cX5_init 1 none) B.pre
  have hts : ∀ w ∈ lw_all, w.before _ s = true := fun w h => hts w (List.mem_cons_of_mem _ h)
  have hown : s.vm.findClass RX5 = some m.cls := findClass_of_methodNamed B.named
  have hlocks := B.notSynchronized
  have hS : va_S (eA E) s.heap s.heap [] := va_S.rf
  have hl := lv_entry ([.ref c]) (n := 1) (Nat.le_of_ble_eq_true rfl)
  rw [lg_entry_eq]
  generalize (lg_sl ([.ref c]) ++ List.replicate (1 - (lg_sl ([.ref c])).length) Slot.unset).toArray = ls at hl ⊢
  have hl : lv_has ls 1 [(0, .ref (c))] := hl
  refine lv_aload_n hx hb dX5_init_0 rfl (lv_at hl 0 rfl) ?_
  refine k_callv (va_runIN (As := []) (rest := []) ⟨hx, hb, hml, hown, hts⟩ (cm3_init l E t M c (Or.inr hc)) (⟨va_cnB 0 hts (lw_meth q130) rfl rfl rfl (hs.2.2.1 _ q152 rfl) (hts _ q60) (by decide +kernel) ⟨Nat.le_of_ble_eq_true rfl, Nat.le_of_ble_eq_true rfl⟩, rfl, hts _ q129⟩) (k_preS hs hm hS) rfl rfl hl.1 rfl (lv_room (Nat.le_of_ble_eq_true rfl)) dX5_init_1 ⟨Nat.le_of_ble_eq_true rfl, Nat.le_of_ble_eq_true rfl⟩) hS (fun u_1 H locs hu_1 hm hS => ?_)
  replace hu_1 : M = u_1 := Eq.symm hu_1
  subst hu_1
  have hm : mw E t M H := hm
  exact W.vret hx hb hr (fun t9 ht9 _ => ⟨⟨_, rfl, (rfl).symm, hb9 ht9 hm⟩, hS.F ht9⟩) hS.2.2 dX5_init_4
