set_option maxRecDepth 100000
/-! the class: where a cliff lies, rows for its arrays of objects -/
/-- a cliff at c -/
def lay (t : mt) (c : Nat) : Prop := (t c = (2, 0) ∧ t (c + 1) = (21, 12) ∧ t (c + 2) = (20, 12) ∧ t (c + 3) = (20, 12) ∧ t (c + 4) = (24, 12) ∧ t (c + 5) = (31, 18) ∧ t (c + 6) = (31, 18) ∧ t (c + 7) = (25, 5) ∧ t (c + 8) = (26, 5) ∧ t (c + 9) = (27, 6) ∧ t (c + 10) = (28, 4) ∧ t (c + 11) = (29, 6)) ∧ (∀ k, k < 18 → t (c + 12 + 2 * k) = (3, 0)) ∧ (∀ k, k < 18 → t (c + 13 + 2 * k) = (4, 0)) ∧ (∀ k, k < 6 → t (c + 48 + k) = (5, 0)) ∧ (∀ k, k < 4 → t (c + 54 + k) = (6, 0)) ∧ (∀ k, k < 6 → t (c + 58 + k) = (7, 0))
section LAY
variable {t : mt} {c : Nat}
theorem lay.z (h : lay t c) : t c = (2, 0) := h.1.1
theorem lay.a1 (h : lay t c) : t (c + 1) = (21, 12) := h.1.2.1
theorem lay.a2 (h : lay t c) : t (c + 2) = (20, 12) := h.1.2.2.1
theorem lay.a3 (h : lay t c) : t (c + 3) = (20, 12) := h.1.2.2.2.1
theorem lay.a4 (h : lay t c) : t (c + 4) = (24, 12) := h.1.2.2.2.2.1
theorem lay.a5 (h : lay t c) : t (c + 5) = (31, 18) := h.1.2.2.2.2.2.1
theorem lay.a6 (h : lay t c) : t (c + 6) = (31, 18) := h.1.2.2.2.2.2.2.1
theorem lay.a7 (h : lay t c) : t (c + 7) = (25, 5) := h.1.2.2.2.2.2.2.2.1
theorem lay.a8 (h : lay t c) : t (c + 8) = (26, 5) := h.1.2.2.2.2.2.2.2.2.1
theorem lay.a9 (h : lay t c) : t (c + 9) = (27, 6) := h.1.2.2.2.2.2.2.2.2.2.1
theorem lay.a10 (h : lay t c) : t (c + 10) = (28, 4) := h.1.2.2.2.2.2.2.2.2.2.2.1
theorem lay.a11 (h : lay t c) : t (c + 11) = (29, 6) := h.1.2.2.2.2.2.2.2.2.2.2.2
theorem lay.mar (h : lay t c) {k : Nat} (hk : k < 18) : t (c + 12 + 2 * k) = (3, 0) := h.2.1 k hk
theorem lay.bea (h : lay t c) {k : Nat} (hk : k < 18) : t (c + 13 + 2 * k) = (4, 0) := h.2.2.1 k hk
theorem lay.mem (h : lay t c) {k : Nat} (hk : k < 6) : t (c + 48 + k) = (5, 0) := h.2.2.2.1 k hk
theorem lay.shd (h : lay t c) {k : Nat} (hk : k < 4) : t (c + 54 + k) = (6, 0) := h.2.2.2.2.1 k hk
theorem lay.prz (h : lay t c) {k : Nat} (hk : k < 6) : t (c + 58 + k) = (7, 0) := h.2.2.2.2.2 k hk
end LAY
theorem ix.nlt {B : Nat} {x : Int32} (h : ix B x) (hB : B ≤ 2 ^ 30 := by decide) : x.toNatClampNeg < B := (h.nat hB).1
/-- a plant's kind: 1 a bean, 0 a marrow -/
def kd4 (t : mt) (p : Nat) : Int32 := if (t p).1 = 4 then 1 else 0
/-- p is a plant -/
def isP (t : mt) (p : Nat) : Prop := t p = (3, 0) ∨ t p = (4, 0)
/-- null or a plant -/
def plO (t : mt) (r : Option Nat) : Prop := ∀ p, r = some p → isP t p
theorem plO.get {t : mt} {r : Option Nat} (h : plO t r) (hn : ¬ r = none) : isP t (r.getD 0) := by
  cases r with
  | none => exact absurd rfl hn
  | some p => exact h p rfl
section KR2
variable {p : Program} {l : Launch} {e : Env} {R : Room} {s : State} {m : MethodId} {args : Array Value} {below : List Frame} {meth : Method} {c : Code} {H : Heap} {locs : List Loc} {cells slots : Nat} {Q : State → Prop}
variable {cc : ByteArray} {pc : Nat} {ls : Array Slot} {rest : List Value} {a : Nat} {E : mE} {t : mt} {M : mm}
/-- a reference that isn't null, by its address -/
theorem k_nn {r : Option Nat} {pc : Nat} (h : ¬ r = none) (kk : W p l e R s m args below meth c H locs cells slots Q (F0 m pc ls (.ref (r.getD 0) :: rest))) : W p l e R s m args below meth c H locs cells slots Q (F0 m pc ls (va_rf r :: rest)) := by
  cases r with
  | none => exact absurd rfl h
  | some p => exact kk
/-- an array of references that may change -/
theorem k_aaldG {j n : Nat} {C : String} (hexec : p.tables.exec = Jvm.exec) (hb : c.code = cc) (hs : sP E s) (hm : mw E t M H) (hk : (t a).1 ≠ 0) {f : Nat → Option Nat} (he : ct E t M a = .inl (E.2.1 j, n, .inr (.inr (.inr (.inr f))))) (ht : (tyA E.2.1)[j]? = some (E.2.1 j, .object C)) {i : Int32} (hin : vp_in i n) (hdg : decode cc pc = .ok (.aaload, 1))
    (kk : W p l e R s m args below meth c H locs cells slots Q (F0 m (pc + 1) ls (va_rf (f i.toNatClampNeg) :: rest))) : W p l e R s m args below meth c H locs cells slots Q (F0 m pc ls (.int i :: .ref a :: rest)) := by
  obtain ⟨L, hL, hP, hD⟩ := hm
  obtain ⟨q0, hq⟩ := mw.at (E := E) (t := t) (M := M) (hL a hk)
  rw [he] at hq
  exact va_aldq hexec hb hs.2.1 hP q0 j hq ht hin hdg kk
theorem k_aald24 (hexec : p.tables.exec = Jvm.exec) (hb : c.code = cc) (hs : sP E s) (hm : mw E t M H) (ht : t a = (24, 12)) {i : Int32} (hin : vp_in i 12) (hdg : decode cc pc = .ok (.aaload, 1))
    (kk : W p l e R s m args below meth c H locs cells slots Q (F0 m (pc + 1) ls (va_rf (aR M a i.toNatClampNeg) :: rest))) : W p l e R s m args below meth c H locs cells slots Q (F0 m pc ls (.int i :: .ref a :: rest)) := k_aaldG (j := 4) hexec hb hs hm (mt_ne ht (by decide)) (ct_k ht) rfl hin hdg kk
theorem k_aald2 (hexec : p.tables.exec = Jvm.exec) (hb : c.code = cc) (hs : sP E s) (hm : mw E t M H) (ht : t a = (25, 5) ∨ t a = (26, 5)) {i : Int32} (hin : vp_in i 5) (hdg : decode cc pc = .ok (.aaload, 1))
    (kk : W p l e R s m args below meth c H locs cells slots Q (F0 m (pc + 1) ls (va_rf (aR M a i.toNatClampNeg) :: rest))) : W p l e R s m args below meth c H locs cells slots Q (F0 m pc ls (.int i :: .ref a :: rest)) := by
  rcases ht with ht | ht
  · exact k_aaldG (j := 5) hexec hb hs hm (mt_ne ht (by decide)) (ct_k ht) rfl hin hdg kk
  · exact k_aaldG (j := 6) hexec hb hs hm (mt_ne ht (by decide)) (ct_k ht) rfl hin hdg kk
theorem k_aald29 (hexec : p.tables.exec = Jvm.exec) (hb : c.code = cc) (hs : sP E s) (hm : mw E t M H) (ht : t a = (29, 6)) {i : Int32} (hin : vp_in i 6) (hdg : decode cc pc = .ok (.aaload, 1))
    (kk : W p l e R s m args below meth c H locs cells slots Q (F0 m (pc + 1) ls (va_rf (aR M a i.toNatClampNeg) :: rest))) : W p l e R s m args below meth c H locs cells slots Q (F0 m pc ls (.int i :: .ref a :: rest)) := k_aaldG (j := 9) hexec hb hs hm (mt_ne ht (by decide)) (ct_k ht) rfl hin hdg kk
theorem k_aald30 {n : Nat} (hexec : p.tables.exec = Jvm.exec) (hb : c.code = cc) (hs : sP E s) (hm : mw E t M H) (ht : t a = (30, n)) {i : Int32} (hin : vp_in i n) (hdg : decode cc pc = .ok (.aaload, 1))
    (kk : W p l e R s m args below meth c H locs cells slots Q (F0 m (pc + 1) ls (va_rf (aR M a i.toNatClampNeg) :: rest))) : W p l e R s m args below meth c H locs cells slots Q (F0 m pc ls (.int i :: .ref a :: rest)) := k_aaldG (j := 10) hexec hb hs hm (mt_ne ht (by decide)) (ct_k ht) rfl hin hdg kk
/-- arrays whose objects stand fixed -/
theorem k_mem (hexec : p.tables.exec = Jvm.exec) (hb : c.code = cc) (hs : sP E s) (hm : mw E t M H) (ht : t (a + 9) = (27, 6)) {i : Int32} {k : Nat} (hk : k = i.toNatClampNeg) (hin : vp_in i 6) (hdg : decode cc pc = .ok (.aaload, 1))
    (kk : W p l e R s m args below meth c H locs cells slots Q (F0 m (pc + 1) ls (.ref (a + 48 + k) :: rest))) : W p l e R s m args below meth c H locs cells slots Q (F0 m pc ls (.int i :: .ref (a + 9) :: rest)) := k_aaldG (j := 7) (f := fun k => some (a + 9 + 39 + k)) hexec hb hs hm (mt_ne ht (by decide)) (ct_k ht) rfl hin hdg (by
    rw [← hk]
    have e9 : a + 9 + 39 + k = a + 48 + k := by omega
    show W p l e R s m args below meth c H locs cells slots Q (F0 m (pc + 1) ls (.ref (a + 9 + 39 + k) :: rest))
    rw [e9]
    exact kk)
theorem k_shd (hexec : p.tables.exec = Jvm.exec) (hb : c.code = cc) (hs : sP E s) (hm : mw E t M H) (ht : t (a + 10) = (28, 4)) {i : Int32} {k : Nat} (hk : k = i.toNatClampNeg) (hin : vp_in i 4) (hdg : decode cc pc = .ok (.aaload, 1))
    (kk : W p l e R s m args below meth c H locs cells slots Q (F0 m (pc + 1) ls (.ref (a + 54 + k) :: rest))) : W p l e R s m args below meth c H locs cells slots Q (F0 m pc ls (.int i :: .ref (a + 10) :: rest)) := k_aaldG (j := 8) (f := fun k => some (a + 10 + 44 + k)) hexec hb hs hm (mt_ne ht (by decide)) (ct_k ht) rfl hin hdg (by
    rw [← hk]
    have e9 : a + 10 + 44 + k = a + 54 + k := by omega
    show W p l e R s m args below meth c H locs cells slots Q (F0 m (pc + 1) ls (.ref (a + 10 + 44 + k) :: rest))
    rw [e9]
    exact kk)
theorem k_sp (hexec : p.tables.exec = Jvm.exec) (hb : c.code = cc) (hs : sP E s) (hm : mw E t M H) (ht : t a = (31, 18)) {i : Int32} {k : Nat} (hk : k = i.toNatClampNeg) (hin : vp_in i 18) (hdg : decode cc pc = .ok (.aaload, 1))
    (kk : W p l e R s m args below meth c H locs cells slots Q (F0 m (pc + 1) ls (.ref (a + 7 + 2 * k) :: rest))) : W p l e R s m args below meth c H locs cells slots Q (F0 m pc ls (.int i :: .ref a :: rest)) := k_aaldG (j := 4) (f := fun k => some (a + 7 + 2 * k)) hexec hb hs hm (mt_ne ht (by decide)) (ct_k ht) rfl hin hdg (by rw [← hk]; exact kk)
theorem ct_wRs {n : Nat} {k : Nat} {j : Nat} {f : Nat → Option Nat} (ht : t a = (k, n)) (hf : ct E (fun _ => (k, n)) (wR M a f) a = .inl (E.2.1 j, n, .inr (.inr (.inr (.inr (aR (wR M a f) a)))))) (b : Nat) : ct E t (wR M a f) b = va_up (ct E t M) a (.inl (E.2.1 j, n, .inr (.inr (.inr (.inr f))))) b := by
  by_cases hba : b = a
  · subst hba
    rw [va_up_self, ct_k ht, hf]
    simp only [aR, wR, m1_at]
  · rw [va_up_ne _ _ hba, ct_wR hba]
/-- null goes into an array -/
theorem k_aastN {j n k : Nat} {C : String} (hexec : p.tables.exec = Jvm.exec) (hb : c.code = cc) (hs : sP E s) (hm : mw E t M H) (hS : va_S (eA E) s.heap H locs) (ht : t a = (k, n)) (hk : k ≠ 0) (hc : ∀ M, ct E (fun _ => (k, n)) M a = .inl (E.2.1 j, n, .inr (.inr (.inr (.inr (aR M a)))))) (hj : (tyA E.2.1)[j]? = some (E.2.1 j, .object C)) {i : Int32} (hin : vp_in i n) (hdg : decode cc pc = .ok (.aastore, 1))
    (kk : ∀ (H1 : Heap) (locs1 : List Loc), mw E t (wR M a (va_up (aR M a) i.toNatClampNeg none)) H1 → va_S (eA E) s.heap H1 locs1 → W p l e R s m args below meth c H1 locs1 cells slots Q (F0 m (pc + 1) ls rest)) : W p l e R s m args below meth c H locs cells slots Q (F0 m pc ls (.null :: .int i :: .ref a :: rest)) := by
  obtain ⟨L, hL, hP, hD⟩ := hm
  obtain ⟨q0, hq⟩ := mw.at (E := E) (t := t) (M := M) (hL a (mt_ne ht hk))
  have hset := pl_set (e := .inl (E.2.1 j, n, .inr (.inr (.inr (.inr (va_up (aR M a) i.toNatClampNeg none)))))) hD (hL a (mt_ne ht hk)) hq
  rw [show ct E t M a = _ from (ct_k ht).trans (hc M)] at hq
  refine va_astqN hexec hb hs.2.1 hP hD hS q0 j hq hj hin hdg (fun H1 locs1 hP1 hD1 hS1 => kk H1 locs1 ?_ hS1)
  rw [hset] at hP1 hD1
  exact mw.to hL (ct_wRs ht (hc _)) hP1 hD1
/-- an object of a class of ours goes into an array; the array's class takes it -/
theorem k_aastO {j n k v ci : Nat} {C : String} {r : vw_C} {vs : List Value} (hexec : p.tables.exec = Jvm.exec) (hb : c.code = cc) (hs : sP E s) (hm : mw E t M H) (hS : va_S (eA E) s.heap H locs) (ht : t a = (k, n)) (hk : k ≠ 0) (hc : ∀ M, ct E (fun _ => (k, n)) M a = .inl (E.2.1 j, n, .inr (.inr (.inr (.inr (aR M a)))))) (hj : (tyA E.2.1)[j]? = some (E.2.1 j, .object C)) (hv : ct E t M v = .inr (ci, vs)) (hvn : (t v).1 ≠ 0) (hci : clA[ci]? = some r) (hca : va_Nw (.castable r.1 C) s) {i : Int32} (hin : vp_in i n) (hdg : decode cc pc = .ok (.aastore, 1))
    (kk : ∀ (H1 : Heap) (locs1 : List Loc), mw E t (wR M a (va_up (aR M a) i.toNatClampNeg (some v))) H1 → va_S (eA E) s.heap H1 locs1 → W p l e R s m args below meth c H1 locs1 cells slots Q (F0 m (pc + 1) ls rest)) : W p l e R s m args below meth c H locs cells slots Q (F0 m pc ls (.ref v :: .int i :: .ref a :: rest)) := by
  obtain ⟨L, hL, hP, hD⟩ := hm
  obtain ⟨q0, hq⟩ := mw.at (E := E) (t := t) (M := M) (hL a (mt_ne ht hk))
  obtain ⟨q1, hq1⟩ := mw.at (E := E) (t := t) (M := M) (hL v hvn)
  have hset := pl_set (e := .inl (E.2.1 j, n, .inr (.inr (.inr (.inr (va_up (aR M a) i.toNatClampNeg (some v))))))) hD (hL a (mt_ne ht hk)) hq
  rw [show ct E t M a = _ from (ct_k ht).trans (hc M)] at hq
  rw [hv] at hq1
  refine va_astqO hexec hb hs.2.1 hP hD hS q0 j q1 ci hq hj hca hq1 hci hin hdg (fun H1 locs1 hP1 hD1 hS1 => kk H1 locs1 ?_ hS1)
  rw [hset] at hP1 hD1
  exact mw.to hL (ct_wRs ht (hc _)) hP1 hD1
/-- .. the array is of the object's own class -/
theorem k_aastS {j n k v ci : Nat} {r : vw_C} {vs : List Value} (hexec : p.tables.exec = Jvm.exec) (hb : c.code = cc) (hs : sP E s) (hm : mw E t M H) (hS : va_S (eA E) s.heap H locs) (ht : t a = (k, n)) (hk : k ≠ 0) (hc : ∀ M, ct E (fun _ => (k, n)) M a = .inl (E.2.1 j, n, .inr (.inr (.inr (.inr (aR M a)))))) (hj : (tyA E.2.1)[j]? = some (E.2.1 j, .object r.1)) (hv : ct E t M v = .inr (ci, vs)) (hvn : (t v).1 ≠ 0) (hci : clA[ci]? = some r) {i : Int32} (hin : vp_in i n) (hdg : decode cc pc = .ok (.aastore, 1))
    (kk : ∀ (H1 : Heap) (locs1 : List Loc), mw E t (wR M a (va_up (aR M a) i.toNatClampNeg (some v))) H1 → va_S (eA E) s.heap H1 locs1 → W p l e R s m args below meth c H1 locs1 cells slots Q (F0 m (pc + 1) ls rest)) : W p l e R s m args below meth c H locs cells slots Q (F0 m pc ls (.ref v :: .int i :: .ref a :: rest)) := by
  obtain ⟨L, hL, hP, hD⟩ := hm
  obtain ⟨q0, hq⟩ := mw.at (E := E) (t := t) (M := M) (hL a (mt_ne ht hk))
  obtain ⟨q1, hq1⟩ := mw.at (E := E) (t := t) (M := M) (hL v hvn)
  have hset := pl_set (e := .inl (E.2.1 j, n, .inr (.inr (.inr (.inr (va_up (aR M a) i.toNatClampNeg (some v))))))) hD (hL a (mt_ne ht hk)) hq
  rw [show ct E t M a = _ from (ct_k ht).trans (hc M)] at hq
  rw [hv] at hq1
  refine va_astq hexec hb hs.2.1 hP hD hS q0 j q1 ci hq hj hq1 hci hin hdg (fun H1 locs1 hP1 hD1 hS1 => kk H1 locs1 ?_ hS1)
  rw [hset] at hP1 hD1
  exact mw.to hL (ct_wRs ht (hc _)) hP1 hD1
end KR2
theorem lw_U {own : String} {idx : Nat} {C owner : String} {x y : MethodName} {b : ByteArray} {L : Nat} {r : Option FieldType} (h1 : Cond.methodLink own idx x ∈ lw_all) (h2 : Cond.sameMethod x.cls owner x.name x.desc ∈ lw_all) (h3 : Cond.selects C x y ∈ lw_all) (h4 : Cond.instanceMethod y ∈ lw_all) (h5 : Cond.initialized y.cls ∈ lw_all) (h6 : Cond.code y b L r ∈ lw_all) : GoodIn lw_all (va_wsU own idx C owner x y (ws_ y b L r)) := by
  refine lw_app ?_ (lw_meth h6)
  intro w hw
  simp only [List.mem_cons, List.not_mem_nil, or_false] at hw
  rcases hw with e | e | e | e | e
  · rw [e]; exact h1
  · rw [e]; exact h2
  · rw [e]; exact h3
  · rw [e]; exact h4
  · rw [e]; exact h5
/-- what a plant's kind tells: its first weight, its rate, its sign -/
def fst4 (t : mt) (p : Nat) : UInt32 := if (t p).1 = 4 then (1056964608 : UInt32) else FP.fconst1
def rat4 (t : mt) (p : Nat) : UInt32 := if (t p).1 = 4 then (1031127695 : UInt32) else (1039516303 : UInt32)
def sgn4 (t : mt) (p : Nat) : Int32 := if (t p).1 = 4 then (66 : Int32) else (77 : Int32)
theorem rat4_kd (t : mt) (p : Nat) : kd false 0 (rat4 t p) := by
  unfold rat4
  split
  · exact kd_006
  · exact kd_012
theorem is3 {t : mt} {p : Nat} (h : t p = (3, 0)) : ¬ (t p).1 = 4 := by rw [h]; decide
theorem is4 {t : mt} {p : Nat} (h : t p = (4, 0)) : (t p).1 = 4 := by rw [h]
theorem rf_or (r : Option Nat) : va_rf r = .null ∨ ∃ a, va_rf r = .ref a := by
  cases r with
  | none => exact Or.inl rfl
  | some a => exact Or.inr ⟨a, rfl⟩
theorem z01n {x : Int32} (h : x = 0 ∨ x = 1) : narrow .boolean (.int x) = .int x := by
  rcases h with h | h <;> (rw [h]; rfl)
theorem z01f {x : Int32} (h : x = 0 ∨ x = 1) : fits .boolean (.int x) = true := by
  rcases h with h | h <;> (rw [h]; rfl)
theorem pp3 {α β : Type} {x : Int32 × α × β} {r : α} {u : β} (h : x = (0, r, u)) : x.1 = 0 ∧ r = x.2.1 ∧ u = x.2.2 := by subst h; exact ⟨rfl, rfl, rfl⟩
theorem pp4 {α β : Type} {x : Int32 × Int32 × α × β} {r : α} {u : β} {d : Int32} (h : x = (0, d, r, u)) : x.1 = 0 ∧ r = x.2.2.1 ∧ u = x.2.2.2 := by subst h; exact ⟨rfl, rfl, rfl⟩
theorem pp3v {β : Type} {x : Int32 × β} {u : β} (h : x = (0, u)) : x.1 = 0 ∧ u = x.2 := by subst h; exact ⟨rfl, rfl⟩
theorem pp4v {β : Type} {x : Int32 × Int32 × β} {u : β} {d : Int32} (h : x = (0, d, u)) : x.1 = 0 ∧ u = x.2.2 := by subst h; exact ⟨rfl, rfl⟩
section KR3
variable {p : Program} {l : Launch} {e : Env} {R : Room} {s : State} {m : MethodId} {args : Array Value} {below : List Frame} {meth : Method} {c : Code} {H : Heap} {locs : List Loc} {cells slots : Nat} {Q : State → Prop}
variable {cc : ByteArray} {pc : Nat} {ls : Array Slot} {rest : List Value}
theorem lv_ifnullQ (hexec : p.tables.exec = Jvm.exec) (hb : c.code = cc) {x : Option Nat} {off : Int} {tgt : Nat} (hdg : decode cc pc = .ok (.ifnull off, 3)) (ht : (pc : Int) + off = (tgt : Int)) (k1 : x = none → W p l e R s m args below meth c H locs cells slots Q (F0 m tgt ls rest)) (k2 : ¬ x = none → W p l e R s m args below meth c H locs cells slots Q (F0 m (pc + 3) ls rest)) : W p l e R s m args below meth c H locs cells slots Q (F0 m pc ls (va_rf x :: rest)) := by
  cases x with
  | none => exact lv_ifnullN hexec hb hdg ht (k1 rfl)
  | some a => exact lv_ifnull hexec hb hdg (k2 (fun h => nomatch h))
theorem lv_ifnonnullQ (hexec : p.tables.exec = Jvm.exec) (hb : c.code = cc) {x : Option Nat} {off : Int} {tgt : Nat} (hdg : decode cc pc = .ok (.ifnonnull off, 3)) (ht : (pc : Int) + off = (tgt : Int)) (k1 : ¬ x = none → W p l e R s m args below meth c H locs cells slots Q (F0 m tgt ls rest)) (k2 : x = none → W p l e R s m args below meth c H locs cells slots Q (F0 m (pc + 3) ls rest)) : W p l e R s m args below meth c H locs cells slots Q (F0 m pc ls (va_rf x :: rest)) := by
  cases x with
  | none => exact lv_ifnonnullN hexec hb hdg (k2 rfl)
  | some a => exact lv_ifnonnull hexec hb hdg ht (k1 (fun h => nomatch h))
end KR3
