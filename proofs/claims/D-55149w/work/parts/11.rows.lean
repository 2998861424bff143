set_option maxRecDepth 100000
/-! rows over our memory: fields, arrays, calls -/
theorem mw.at {E : mE} {t : mt} {M : mm} {L : List Nat} {a : Nat} (ha : a ∈ L) : ∃ k : Nat, (va_pl L (ct E t M))[k]? = some (a, ct E t M a) := List.getElem?_of_mem (List.mem_map.mpr ⟨a, ha, rfl⟩)
theorem pl_set {A : Nat → Prop} {L : List Nat} {f : Nat → va_E} {a k : Nat} {e : va_E} (hD : va_D A (va_pl L f)) (h : a ∈ L) (hk : (va_pl L f)[k]? = some (a, f a)) : (va_pl L f).set k (a, e) = va_pl L (va_up f a e) := va_pl_set (X := []) hD h hk
theorem va_D.up {A : Nat → Prop} {L : List Nat} {f g : Nat → va_E} (h : va_D A (va_pl L f)) : va_D A (va_pl L g) := by
  have key : ∀ (k : Nat) (q : Nat × va_E), (va_pl L g)[k]? = some q → (va_pl L f)[k]? = some (q.1, f q.1) := by
    intro k q hk
    simp only [va_pl, List.getElem?_map] at hk ⊢
    cases hb : L[k]? with
    | none => rw [hb] at hk; cases hk
    | some b => rw [hb] at hk; cases hk; rfl
  exact ⟨fun i j x y hi hj e => h.1 i j _ _ (key i x hi) (key j y hj) e, fun k q hk => h.2 k (q.1, f q.1) (key k q hk)⟩
theorem mt_ne {t : mt} {a k n : Nat} (h : t a = (k, n)) (hk : k ≠ 0) : (t a).1 ≠ 0 := by rw [h]; exact hk
theorem ct_k {E : mE} {t : mt} {M : mm} {a k n : Nat} (h : t a = (k, n)) : ct E t M a = ct E (fun _ => (k, n)) M a := by
  unfold ct
  rw [h]
section KR
variable {p : Program} {l : Launch} {e : Env} {R : Room} {s : State} {m : MethodId} {args : Array Value} {below : List Frame} {meth : Method} {c : Code} {H : Heap} {locs : List Loc} {cells slots : Nat} {Q : State → Prop}
variable {cc : ByteArray} {pc : Nat} {ls : Array Slot} {rest : List Value} {a : Nat} {E : mE} {t : mt} {M : mm}
theorem k_get (hexec : p.tables.exec = Jvm.exec) (hb : c.code = cc) {own ref C : String} {T : u_T} {N ci index : Nat} (hts : ∀ w ∈ lw_all, w.before args s = true) (hin : ∀ w ∈ u_ws C T N, w ∈ lw_all) (hown : s.vm.findClass own = some m.cls) (hs : sP E s) (hm : mw E t M H) (ha : (t a).1 ≠ 0) {fs : List Value} (he : ct E t M a = .inr (ci, fs)) (hc : clA[ci]? = some (C, T, N)) (k : Nat) (hk : k < N) (hlink : (Cond.fieldLink own index ref (T k).2.1 (T k).2.2.1).before args s = true) (hsame : ∀ x, s.fieldFound? (T k).1 (T k).2.1 (T k).2.2.1 = some x → s.fieldFound? ref (T k).2.1 (T k).2.2.1 = some x) {v : Value} (hv : fs[k]? = some v) (hdg : decode cc pc = .ok (.getfield index, 3))
    (kk : W p l e R s m args below meth c H locs cells slots Q (F0 m (pc + 3) ls (v :: rest))) : W p l e R s m args below meth c H locs cells slots Q (F0 m pc ls (.ref a :: rest)) := by
  obtain ⟨L, hL, hP, hD⟩ := hm
  obtain ⟨q0, hq⟩ := mw.at (E := E) (t := t) (M := M) (hL a ha)
  rw [he] at hq
  exact va_get hexec hb hts hin hown hs.2.1 hP q0 hq hc k hk hlink hsame hv hdg kk
theorem k_getN (hexec : p.tables.exec = Jvm.exec) (hb : c.code = cc) {own ref C host : String} {T : u_T} {N ci index : Nat} (hts : ∀ w ∈ lw_all, w.before args s = true) (hin : ∀ w ∈ u_ws C T N, w ∈ lw_all) (hown : s.vm.findClass own = some m.cls) (hs : sP E s) (hm : mw E t M H) (ha : (t a).1 ≠ 0) {fs : List Value} (he : ct E t M a = .inr (ci, fs)) (hc : clA[ci]? = some (C, T, N)) (k : Nat) (hk : k < N) (hlink : (Cond.fieldLinkNest own index ref (T k).2.1 (T k).2.2.1 host) ∈ lw_tbl) (hsame : ∀ x, s.fieldFound? (T k).1 (T k).2.1 (T k).2.2.1 = some x → s.fieldFound? ref (T k).2.1 (T k).2.2.1 = some x) {v : Value} (hv : fs[k]? = some v) (hdg : decode cc pc = .ok (.getfield index, 3))
    (kk : W p l e R s m args below meth c H locs cells slots Q (F0 m (pc + 3) ls (v :: rest))) : W p l e R s m args below meth c H locs cells slots Q (F0 m pc ls (.ref a :: rest)) := by
  obtain ⟨L, hL, hP, hD⟩ := hm
  obtain ⟨q0, hq⟩ := mw.at (E := E) (t := t) (M := M) (hL a ha)
  rw [he] at hq
  exact va_getN hexec hb hts hin hown hs.2.1 hP q0 hq hc k hk (hs.2.2.1.at hlink rfl rfl) hsame hv hdg kk
theorem k_put {M1 : mm} (hexec : p.tables.exec = Jvm.exec) (hb : c.code = cc) {own ref C : String} {T : u_T} {N ci index : Nat} (hts : ∀ w ∈ lw_all, w.before args s = true) (hin : ∀ w ∈ u_ws C T N, w ∈ lw_all) (ty0 : Nat → FieldType) (hty : ∀ k, k < N → parseFieldDescriptor (T k).2.2.1 = some (ty0 k)) (hnm : ∀ a, a < N → ∀ b, b < N → a ≠ b → (T a).2.1 ≠ (T b).2.1) (hown : s.vm.findClass own = some m.cls) (hs : sP E s) (hm : mw E t M H) (hS : va_S (eA E) s.heap H locs) (ha : (t a).1 ≠ 0) {fs : List Value} (he : ct E t M a = .inr (ci, fs)) (hc : clA[ci]? = some (C, T, N)) (k : Nat) (hk : k < N) (hlink : (Cond.fieldLink own index ref (T k).2.1 (T k).2.2.1).before args s = true) (hsame : ∀ x, s.fieldFound? (T k).1 (T k).2.1 (T k).2.2.1 = some x → s.fieldFound? ref (T k).2.1 (T k).2.2.1 = some x) (hfin : (T k).2.2.2 = false) {ty : FieldType} {v : Value} (hd : parseFieldDescriptor (T k).2.2.1 = some ty) (hn : narrow ty v = v) (hfit : fits ty v = true) (hl : k < fs.length) (hM : ∀ b, ct E t M1 b = va_up (ct E t M) a (.inr (ci, fs.set k v)) b)
    (hdg : decode cc pc = .ok (.putfield index, 3)) (kk : ∀ (H1 : Heap) (locs1 : List Loc), mw E t M1 H1 → va_S (eA E) s.heap H1 locs1 → W p l e R s m args below meth c H1 locs1 cells slots Q (F0 m (pc + 3) ls rest)) : W p l e R s m args below meth c H locs cells slots Q (F0 m pc ls (v :: .ref a :: rest)) := by
  obtain ⟨L, hL, hP, hD⟩ := hm
  obtain ⟨q0, hq⟩ := mw.at (E := E) (t := t) (M := M) (hL a ha)
  have hset := pl_set (e := .inr (ci, fs.set k v)) hD (hL a ha) hq
  rw [he] at hq
  refine va_put hexec hb hts hin ty0 hty hnm hown hs.2.1 hP hD hS q0 hq hc k hk hlink hsame hfin hd hn hfit hl hdg (fun H1 locs1 hP1 hD1 hS1 => kk H1 locs1 ?_ hS1)
  rw [hset] at hP1 hD1
  exact mw.to hL hM hP1 hD1
theorem k_putN {M1 : mm} (hexec : p.tables.exec = Jvm.exec) (hb : c.code = cc) {own ref C host : String} {T : u_T} {N ci index : Nat} (hts : ∀ w ∈ lw_all, w.before args s = true) (hin : ∀ w ∈ u_ws C T N, w ∈ lw_all) (ty0 : Nat → FieldType) (hty : ∀ k, k < N → parseFieldDescriptor (T k).2.2.1 = some (ty0 k)) (hnm : ∀ a, a < N → ∀ b, b < N → a ≠ b → (T a).2.1 ≠ (T b).2.1) (hown : s.vm.findClass own = some m.cls) (hs : sP E s) (hm : mw E t M H) (hS : va_S (eA E) s.heap H locs) (ha : (t a).1 ≠ 0) {fs : List Value} (he : ct E t M a = .inr (ci, fs)) (hc : clA[ci]? = some (C, T, N)) (k : Nat) (hk : k < N) (hlink : (Cond.fieldLinkNest own index ref (T k).2.1 (T k).2.2.1 host) ∈ lw_tbl) (hsame : ∀ x, s.fieldFound? (T k).1 (T k).2.1 (T k).2.2.1 = some x → s.fieldFound? ref (T k).2.1 (T k).2.2.1 = some x) (hfin : (T k).2.2.2 = false) {ty : FieldType} {v : Value} (hd : parseFieldDescriptor (T k).2.2.1 = some ty) (hn : narrow ty v = v) (hfit : fits ty v = true) (hl : k < fs.length) (hM : ∀ b, ct E t M1 b = va_up (ct E t M) a (.inr (ci, fs.set k v)) b)
    (hdg : decode cc pc = .ok (.putfield index, 3)) (kk : ∀ (H1 : Heap) (locs1 : List Loc), mw E t M1 H1 → va_S (eA E) s.heap H1 locs1 → W p l e R s m args below meth c H1 locs1 cells slots Q (F0 m (pc + 3) ls rest)) : W p l e R s m args below meth c H locs cells slots Q (F0 m pc ls (v :: .ref a :: rest)) := by
  obtain ⟨L, hL, hP, hD⟩ := hm
  obtain ⟨q0, hq⟩ := mw.at (E := E) (t := t) (M := M) (hL a ha)
  have hset := pl_set (e := .inr (ci, fs.set k v)) hD (hL a ha) hq
  rw [he] at hq
  refine va_putN hexec hb hts hin ty0 hty hnm hown hs.2.1 hP hD hS q0 hq hc k hk (hs.2.2.1.at hlink rfl rfl) hsame hfin hd hn hfit hl hdg (fun H1 locs1 hP1 hD1 hS1 => kk H1 locs1 ?_ hS1)
  rw [hset] at hP1 hD1
  exact mw.to hL hM hP1 hD1
theorem k_iald {n : Nat} (hexec : p.tables.exec = Jvm.exec) (hb : c.code = cc) (hs : sP E s) (hm : mw E t M H) (ht : t a = (20, n)) {i : Int32} (hin : vp_in i n) (hdg : decode cc pc = .ok (.iaload, 1))
    (kk : W p l e R s m args below meth c H locs cells slots Q (F0 m (pc + 1) ls (.int (aI M a i.toNatClampNeg) :: rest))) : W p l e R s m args below meth c H locs cells slots Q (F0 m pc ls (.int i :: .ref a :: rest)) := by
  obtain ⟨L, hL, hP, hD⟩ := hm
  obtain ⟨q0, hq⟩ := mw.at (E := E) (t := t) (M := M) (hL a (mt_ne ht (by decide)))
  rw [show ct E t M a = .inl (E.2.1 0, n, .inl (aI M a)) from ct_k ht] at hq
  exact va_iald hexec hb hs.2.1 hP q0 0 hq rfl hin hdg kk
theorem k_cald {n : Nat} (hexec : p.tables.exec = Jvm.exec) (hb : c.code = cc) (hs : sP E s) (hm : mw E t M H) (ht : t a = (22, n)) {i : Int32} (hin : vp_in i n) (hdg : decode cc pc = .ok (.caload, 1))
    (kk : W p l e R s m args below meth c H locs cells slots Q (F0 m (pc + 1) ls (.int (aI M a i.toNatClampNeg) :: rest))) : W p l e R s m args below meth c H locs cells slots Q (F0 m pc ls (.int i :: .ref a :: rest)) := by
  obtain ⟨L, hL, hP, hD⟩ := hm
  obtain ⟨q0, hq⟩ := mw.at (E := E) (t := t) (M := M) (hL a (mt_ne ht (by decide)))
  rw [show ct E t M a = .inl (E.2.1 2, n, .inl (aI M a)) from ct_k ht] at hq
  exact va_cald hexec hb hs.2.1 hP q0 2 hq rfl hin hdg kk
theorem k_bald {n : Nat} (hexec : p.tables.exec = Jvm.exec) (hb : c.code = cc) (hs : sP E s) (hm : mw E t M H) (ht : t a = (23, n)) {i : Int32} (hin : vp_in i n) (hdg : decode cc pc = .ok (.baload, 1))
    (kk : W p l e R s m args below meth c H locs cells slots Q (F0 m (pc + 1) ls (.int (aI M a i.toNatClampNeg) :: rest))) : W p l e R s m args below meth c H locs cells slots Q (F0 m pc ls (.int i :: .ref a :: rest)) := by
  obtain ⟨L, hL, hP, hD⟩ := hm
  obtain ⟨q0, hq⟩ := mw.at (E := E) (t := t) (M := M) (hL a (mt_ne ht (by decide)))
  rw [show ct E t M a = .inl (E.2.1 3, n, .inl (aI M a)) from ct_k ht] at hq
  exact va_bald hexec hb hs.2.1 hP q0 3 hq rfl hin hdg kk
theorem k_fald {n : Nat} (hexec : p.tables.exec = Jvm.exec) (hb : c.code = cc) (hs : sP E s) (hm : mw E t M H) (ht : t a = (21, n)) {i : Int32} (hin : vp_in i n) (hdg : decode cc pc = .ok (.faload, 1))
    (kk : W p l e R s m args below meth c H locs cells slots Q (F0 m (pc + 1) ls (.float (aF M a i.toNatClampNeg) :: rest))) : W p l e R s m args below meth c H locs cells slots Q (F0 m pc ls (.int i :: .ref a :: rest)) := by
  obtain ⟨L, hL, hP, hD⟩ := hm
  obtain ⟨q0, hq⟩ := mw.at (E := E) (t := t) (M := M) (hL a (mt_ne ht (by decide)))
  rw [show ct E t M a = .inl (E.2.1 1, n, .inr (.inr (.inl (aF M a)))) from ct_k ht] at hq
  exact va_fald hexec hb hs.2.1 hP q0 1 hq rfl hin hdg kk
theorem k_iast {n : Nat} (hexec : p.tables.exec = Jvm.exec) (hb : c.code = cc) (hs : sP E s) (hm : mw E t M H) (hS : va_S (eA E) s.heap H locs) (ht : t a = (20, n)) {i x : Int32} (hin : vp_in i n) (hdg : decode cc pc = .ok (.iastore, 1))
    (kk : ∀ (H1 : Heap) (locs1 : List Loc), mw E t (wI M a (upd (aI M a) i.toNatClampNeg x)) H1 → va_S (eA E) s.heap H1 locs1 → W p l e R s m args below meth c H1 locs1 cells slots Q (F0 m (pc + 1) ls rest)) : W p l e R s m args below meth c H locs cells slots Q (F0 m pc ls (.int x :: .int i :: .ref a :: rest)) := by
  obtain ⟨L, hL, hP, hD⟩ := hm
  obtain ⟨q0, hq⟩ := mw.at (E := E) (t := t) (M := M) (hL a (mt_ne ht (by decide)))
  have hset := pl_set (e := .inl (E.2.1 0, n, .inl (upd (aI M a) i.toNatClampNeg x))) hD (hL a (mt_ne ht (by decide))) hq
  rw [show ct E t M a = .inl (E.2.1 0, n, .inl (aI M a)) from ct_k ht] at hq
  refine va_iast hexec hb hs.2.1 hP hD hS q0 0 hq rfl hin hdg (fun H1 locs1 hP1 hD1 hS1 => kk H1 locs1 ?_ hS1)
  rw [hset] at hP1 hD1
  refine mw.to hL (fun b => ?_) hP1 hD1
  by_cases hba : b = a
  · subst hba
    rw [va_up_self, ct_k ht]
    simp only [ct, aI, wI, m1_at]
  · rw [va_up_ne _ _ hba, ct_wI hba]
theorem k_cast {n : Nat} (hexec : p.tables.exec = Jvm.exec) (hb : c.code = cc) (hs : sP E s) (hm : mw E t M H) (hS : va_S (eA E) s.heap H locs) (ht : t a = (22, n)) {i x : Int32} (hin : vp_in i n) (hdg : decode cc pc = .ok (.castore, 1))
    (kk : ∀ (H1 : Heap) (locs1 : List Loc), mw E t (wI M a (upd (aI M a) i.toNatClampNeg (vp_nar .char x))) H1 → va_S (eA E) s.heap H1 locs1 → W p l e R s m args below meth c H1 locs1 cells slots Q (F0 m (pc + 1) ls rest)) : W p l e R s m args below meth c H locs cells slots Q (F0 m pc ls (.int x :: .int i :: .ref a :: rest)) := by
  obtain ⟨L, hL, hP, hD⟩ := hm
  obtain ⟨q0, hq⟩ := mw.at (E := E) (t := t) (M := M) (hL a (mt_ne ht (by decide)))
  have hset := pl_set (e := .inl (E.2.1 2, n, .inl (upd (aI M a) i.toNatClampNeg (vp_nar .char x)))) hD (hL a (mt_ne ht (by decide))) hq
  rw [show ct E t M a = .inl (E.2.1 2, n, .inl (aI M a)) from ct_k ht] at hq
  refine va_cast hexec hb hs.2.1 hP hD hS q0 2 hq rfl hin hdg (fun H1 locs1 hP1 hD1 hS1 => kk H1 locs1 ?_ hS1)
  rw [hset] at hP1 hD1
  refine mw.to hL (fun b => ?_) hP1 hD1
  by_cases hba : b = a
  · subst hba
    rw [va_up_self, ct_k ht]
    simp only [ct, aI, wI, m1_at]
  · rw [va_up_ne _ _ hba, ct_wI hba]
theorem k_bast {n : Nat} (hexec : p.tables.exec = Jvm.exec) (hb : c.code = cc) (hs : sP E s) (hm : mw E t M H) (hS : va_S (eA E) s.heap H locs) (ht : t a = (23, n)) {i x : Int32} (hin : vp_in i n) (hdg : decode cc pc = .ok (.bastore, 1))
    (kk : ∀ (H1 : Heap) (locs1 : List Loc), mw E t (wI M a (upd (aI M a) i.toNatClampNeg (vp_nar .byte x))) H1 → va_S (eA E) s.heap H1 locs1 → W p l e R s m args below meth c H1 locs1 cells slots Q (F0 m (pc + 1) ls rest)) : W p l e R s m args below meth c H locs cells slots Q (F0 m pc ls (.int x :: .int i :: .ref a :: rest)) := by
  obtain ⟨L, hL, hP, hD⟩ := hm
  obtain ⟨q0, hq⟩ := mw.at (E := E) (t := t) (M := M) (hL a (mt_ne ht (by decide)))
  have hset := pl_set (e := .inl (E.2.1 3, n, .inl (upd (aI M a) i.toNatClampNeg (vp_nar .byte x)))) hD (hL a (mt_ne ht (by decide))) hq
  rw [show ct E t M a = .inl (E.2.1 3, n, .inl (aI M a)) from ct_k ht] at hq
  refine va_bast hexec hb hs.2.1 hP hD hS q0 3 hq rfl hin hdg (fun H1 locs1 hP1 hD1 hS1 => kk H1 locs1 ?_ hS1)
  rw [hset] at hP1 hD1
  refine mw.to hL (fun b => ?_) hP1 hD1
  by_cases hba : b = a
  · subst hba
    rw [va_up_self, ct_k ht]
    simp only [ct, aI, wI, m1_at]
  · rw [va_up_ne _ _ hba, ct_wI hba]
theorem k_fast {n : Nat} (hexec : p.tables.exec = Jvm.exec) (hb : c.code = cc) (hs : sP E s) (hm : mw E t M H) (hS : va_S (eA E) s.heap H locs) (ht : t a = (21, n)) {i : Int32} {x : UInt32} (hin : vp_in i n) (hdg : decode cc pc = .ok (.fastore, 1))
    (kk : ∀ (H1 : Heap) (locs1 : List Loc), mw E t (wF M a (vf_upd (aF M a) i.toNatClampNeg x)) H1 → va_S (eA E) s.heap H1 locs1 → W p l e R s m args below meth c H1 locs1 cells slots Q (F0 m (pc + 1) ls rest)) : W p l e R s m args below meth c H locs cells slots Q (F0 m pc ls (.float x :: .int i :: .ref a :: rest)) := by
  obtain ⟨L, hL, hP, hD⟩ := hm
  obtain ⟨q0, hq⟩ := mw.at (E := E) (t := t) (M := M) (hL a (mt_ne ht (by decide)))
  have hset := pl_set (e := .inl (E.2.1 1, n, .inr (.inr (.inl (vf_upd (aF M a) i.toNatClampNeg x))))) hD (hL a (mt_ne ht (by decide))) hq
  rw [show ct E t M a = .inl (E.2.1 1, n, .inr (.inr (.inl (aF M a)))) from ct_k ht] at hq
  refine va_fast hexec hb hs.2.1 hP hD hS q0 1 hq rfl hin hdg (fun H1 locs1 hP1 hD1 hS1 => kk H1 locs1 ?_ hS1)
  rw [hset] at hP1 hD1
  refine mw.to hL (fun b => ?_) hP1 hD1
  by_cases hba : b = a
  · subst hba
    rw [va_up_self, ct_k ht]
    simp only [ct, aF, wF, m1_at]
  · rw [va_up_ne _ _ hba, ct_wF hba]
/-- calls: what comes back is the memory that the callee's contract says -/
theorem k_calli {S : Type} {post : Int32 → S → Prop} {B : S → Heap → Prop} {mc ms : Nat} {st0 : List Value} {av : Array Value} (hr : va_Run p l e R s m args below meth c H locs cells slots mc ms (F0 m pc ls st0) rest (va_Qi post (fun u U => B u U.heap) (eA E) av) (eA E)) (hS : va_S (eA E) s.heap H locs)
    (kk : ∀ (r : Int32) (u : S) (H1 : Heap) (locs1 : List Loc), post r u → B u H1 → va_S (eA E) s.heap H1 locs1 → W p l e R s m args below meth c H1 locs1 (cells + mc) (slots + ms) Q (F0 m (pc + 3) ls (.int r :: rest))) : W p l e R s m args below meth c H locs cells slots Q (F0 m pc ls st0) :=
  va_calli hr hS (fun _ _ h => h) (fun _ h => h) (fun r u t H1 locs1 ht _ hp hB _ _ hS1 => kk r u H1 locs1 hp (by rw [← ht]; exact hB) hS1)
theorem k_callf {S : Type} {post : UInt32 → S → Prop} {B : S → Heap → Prop} {mc ms : Nat} {st0 : List Value} {av : Array Value} (hr : va_Run p l e R s m args below meth c H locs cells slots mc ms (F0 m pc ls st0) rest (va_Qf post (fun u U => B u U.heap) (eA E) av) (eA E)) (hS : va_S (eA E) s.heap H locs)
    (kk : ∀ (r : UInt32) (u : S) (H1 : Heap) (locs1 : List Loc), post r u → B u H1 → va_S (eA E) s.heap H1 locs1 → W p l e R s m args below meth c H1 locs1 (cells + mc) (slots + ms) Q (F0 m (pc + 3) ls (.float r :: rest))) : W p l e R s m args below meth c H locs cells slots Q (F0 m pc ls st0) :=
  va_callf hr hS (fun _ _ h => h) (fun _ h => h) (fun r u t H1 locs1 ht _ hp hB _ _ hS1 => kk r u H1 locs1 hp (by rw [← ht]; exact hB) hS1)
theorem k_calll {S : Type} {post : Int64 → S → Prop} {B : S → Heap → Prop} {mc ms : Nat} {st0 : List Value} {av : Array Value} (hr : va_Run p l e R s m args below meth c H locs cells slots mc ms (F0 m pc ls st0) rest (va_Ql post (fun u U => B u U.heap) (eA E) av) (eA E)) (hS : va_S (eA E) s.heap H locs)
    (kk : ∀ (r : Int64) (u : S) (H1 : Heap) (locs1 : List Loc), post r u → B u H1 → va_S (eA E) s.heap H1 locs1 → W p l e R s m args below meth c H1 locs1 (cells + mc) (slots + ms) Q (F0 m (pc + 3) ls (.long r :: rest))) : W p l e R s m args below meth c H locs cells slots Q (F0 m pc ls st0) :=
  va_calll hr hS (fun _ _ h => h) (fun _ h => h) (fun r u t H1 locs1 ht _ hp hB _ _ hS1 => kk r u H1 locs1 hp (by rw [← ht]; exact hB) hS1)
theorem k_callv {S : Type} {post : S → Prop} {B : S → Heap → Prop} {mc ms : Nat} {st0 : List Value} {av : Array Value} (hr : va_Run p l e R s m args below meth c H locs cells slots mc ms (F0 m pc ls st0) rest (va_Qv post (fun u U => B u U.heap) (eA E) av) (eA E)) (hS : va_S (eA E) s.heap H locs)
    (kk : ∀ (u : S) (H1 : Heap) (locs1 : List Loc), post u → B u H1 → va_S (eA E) s.heap H1 locs1 → W p l e R s m args below meth c H1 locs1 (cells + mc) (slots + ms) Q (F0 m (pc + 3) ls rest)) : W p l e R s m args below meth c H locs cells slots Q (F0 m pc ls st0) :=
  va_callv hr hS (fun _ _ h => h) (fun _ h => h) (fun u t H1 locs1 ht _ hp hB _ _ hS1 => kk u H1 locs1 hp (by rw [← ht]; exact hB) hS1)
theorem k_callr {S : Type} {post : S → Prop} {B : S → Nat → Heap → Prop} {mc ms : Nat} {st0 : List Value} {av : Array Value} (hr : va_Run p l e R s m args below meth c H locs cells slots mc ms (F0 m pc ls st0) rest (va_Qr post (fun u a U => B u a U.heap) (eA E) av) (eA E)) (hS : va_S (eA E) s.heap H locs)
    (kk : ∀ (r : Nat) (u : S) (H1 : Heap) (locs1 : List Loc), post u → B u r H1 → va_S (eA E) s.heap H1 locs1 → W p l e R s m args below meth c H1 locs1 (cells + mc) (slots + ms) Q (F0 m (pc + 3) ls (.ref r :: rest))) : W p l e R s m args below meth c H locs cells slots Q (F0 m pc ls st0) :=
  va_callr hr hS (fun _ _ h => h) (fun _ h => h) (fun u r t H1 locs1 ht _ hp hB _ _ hS1 => kk r u H1 locs1 hp (by rw [← ht]; exact hB) hS1)
theorem k_callq {S : Type} {post : Option Nat → S → Prop} {B : S → Heap → Prop} {mc ms : Nat} {st0 : List Value} {av : Array Value} (hr : va_Run p l e R s m args below meth c H locs cells slots mc ms (F0 m pc ls st0) rest (va_Qq post (fun u U => B u U.heap) (eA E) av) (eA E)) (hS : va_S (eA E) s.heap H locs)
    (kk : ∀ (r : Option Nat) (u : S) (H1 : Heap) (locs1 : List Loc), post r u → B u H1 → va_S (eA E) s.heap H1 locs1 → W p l e R s m args below meth c H1 locs1 (cells + mc) (slots + ms) Q (F0 m (pc + 3) ls (va_rf r :: rest))) : W p l e R s m args below meth c H locs cells slots Q (F0 m pc ls st0) :=
  va_callq hr hS (fun _ _ h => h) (fun _ h => h) (fun r u t H1 locs1 ht _ hp hB _ _ hS1 => kk r u H1 locs1 hp (by rw [← ht]; exact hB) hS1)
theorem k_preV {C : String} {b : Nat} {As : List Value} (hs : sP E s) (hm : mw E t M H) (hS : va_S (eA E) s.heap H locs) (hr : ∃ cell : Cell, H[b]? = some cell ∧ cell.vm.isStatics = false ∧ s.vm.findClass C = some cell.cls) : PreV s H C b (va_Pc (.ref b :: As) (wP E t M)) As := ⟨wP.blind, hr, fun U hU hW => ⟨rfl, hs.moved hS hU hW, by rw [hU]; exact hm⟩⟩
theorem k_preS {As : List Value} (hs : sP E s) (hm : mw E t M H) (hS : va_S (eA E) s.heap H locs) : PreS s H (va_Pc As (wP E t M)) As := ⟨wP.blind, fun U hU hW => ⟨rfl, hs.moved hS hU hW, by rw [hU]; exact hm⟩⟩
end KR
