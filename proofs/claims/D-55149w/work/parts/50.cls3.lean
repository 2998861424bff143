set_option maxRecDepth 100000
/-! the memory: kept, with a cell more, with a cell less -/
theorem mw.kept {E : mE} {t : mt} {M : mm} {H H1 : Heap} (h : mw E t M H) (hk : ∀ q : Nat, q < H.size → H1[q]? = H[q]?) : mw E t M H1 := by
  obtain ⟨L, h1, h2, h3⟩ := h
  exact ⟨L, h1, h2.kept (fun k x hx => hk x.1 ((h2 k x hx).lt)), h3⟩
theorem nodup_of_D {A : Nat → Prop} {L : List Nat} {f : Nat → va_E} (h : va_D A (va_pl L f)) : L.Pairwise (· ≠ ·) := by
  rw [List.pairwise_iff_getElem]
  intro i j hi hj hij e
  have h1 : (va_pl L f)[i]? = some (L[i], f L[i]) := by simp [va_pl, List.getElem?_map, List.getElem?_eq_getElem hi]
  have h2 : (va_pl L f)[j]? = some (L[j], f L[j]) := by simp [va_pl, List.getElem?_map, List.getElem?_eq_getElem hj]
  have := h.1 i j _ _ h1 h2 e
  omega
theorem D_of_nodup {A : Nat → Prop} {L : List Nat} {f : Nat → va_E} (h : L.Pairwise (· ≠ ·)) (hA : ∀ a ∈ L, A a) : va_D A (va_pl L f) := by
  have key : ∀ (k : Nat) (q : Nat × va_E), (va_pl L f)[k]? = some q → L[k]? = some q.1 := by
    intro k q hk
    simp only [va_pl, List.getElem?_map] at hk
    cases hb : L[k]? with
    | none => rw [hb] at hk; cases hk
    | some b => rw [hb] at hk; cases hk; rfl
  rw [List.pairwise_iff_getElem] at h
  refine ⟨fun i j p q hp hq e => ?_, fun k q hq => hA _ (List.mem_of_getElem? (key k q hq))⟩
  obtain ⟨hi, e1⟩ := List.getElem?_eq_some_iff.mp (key i p hp)
  obtain ⟨hj, e2⟩ := List.getElem?_eq_some_iff.mp (key j q hq)
  rcases Nat.lt_trichotomy i j with h9 | h9 | h9
  · exact absurd (e1.trans (e.trans e2.symm)) (h i j hi hj h9)
  · exact h9
  · exact absurd (e2.trans (e.symm.trans e1.symm)) (h j i hj hi h9)
theorem P_at {E : mE} {L : List Nat} {f : Nat → va_E} {H : Heap} (h : va_P E.1 clA (va_pl L f) H) {a : Nat} (ha : a ∈ L) : va_at E.1 clA (a, f a) H := by
  obtain ⟨k, hk⟩ := List.getElem?_of_mem (show (a, f a) ∈ va_pl L f from List.mem_map.mpr ⟨a, ha, rfl⟩)
  exact h k _ hk
theorem P_of {E : mE} {L : List Nat} {f : Nat → va_E} {H : Heap} (h : ∀ a ∈ L, va_at E.1 clA (a, f a) H) : va_P E.1 clA (va_pl L f) H := by
  intro k q hk
  obtain ⟨a, ha, e⟩ := List.mem_map.mp (List.mem_of_getElem? hk)
  rw [← e]
  exact h a ha
/-- a cell less -/
theorem mw.drop {E : mE} {t : mt} {M : mm} {H : Heap} {q : Nat} {x : Nat × Nat} (h : mw E (m1 t q x) M H) (hq : (t q).1 = 0) : mw E t M H := by
  obtain ⟨L, h1, h2, h3⟩ := h
  have hne : ∀ a, a ≠ q → m1 t q x a = t a := fun a ha => m1_ne t x ha
  have hct : ∀ a, a ≠ q → ct E (m1 t q x) M a = ct E t M a := fun a ha => by unfold ct; rw [hne a ha]
  refine ⟨L.filter (fun a => decide (a ≠ q)), fun a ha => ?_, P_of (fun a ha => ?_), D_of_nodup ((nodup_of_D h3).filter _) (fun a ha => ?_)⟩
  · have hne' : a ≠ q := fun e => ha (by rw [e]; exact hq)
    exact List.mem_filter.mpr ⟨h1 a (by rw [hne a hne']; exact ha), decide_eq_true hne'⟩
  · obtain ⟨ha1, ha2⟩ := List.mem_filter.mp ha
    rw [← hct a (of_decide_eq_true ha2)]
    exact P_at h2 ha1
  · obtain ⟨ha1, ha2⟩ := List.mem_filter.mp ha
    obtain ⟨k, hk⟩ := List.getElem?_of_mem (show (a, ct E (m1 t q x) M a) ∈ va_pl L (ct E (m1 t q x) M) from List.mem_map.mpr ⟨a, ha1, rfl⟩)
    exact h3.2 k _ hk
/-- another memory that says the same of all cells of ours -/
theorem mw.eqv {E : mE} {t : mt} {M M1 : mm} {H : Heap} (h : mw E t M H) (he : ∀ b, (t b).1 ≠ 0 → ct E t M b = ct E t M1 b) : mw E t M1 H := by
  have e : ct E t M = ct E t M1 := by
    funext b
    by_cases hb : (t b).1 = 0
    · unfold ct
      rw [hb]
      rfl
    · exact he b hb
  obtain ⟨L, h1, h2, h3⟩ := h
  exact ⟨L, h1, by rw [← e]; exact h2, by rw [← e]; exact h3⟩
theorem push_at {t : mt} {q a k n : Nat} {x : Nat × Nat} (hq : (t q).1 = 0) (ha : t a = (k, n)) (hk : k ≠ 0 := by decide) : m1 t q x a = (k, n) := by
  by_cases e : a = q
  · exfalso
    subst e
    rw [ha] at hq
    exact hk hq
  · rw [m1_ne t x e]
    exact ha
theorem lay.push {t : mt} {c q : Nat} {x : Nat × Nat} (h : lay t c) (hq : (t q).1 = 0) : lay (m1 t q x) c :=
  ⟨⟨push_at hq h.z, push_at hq h.a1, push_at hq h.a2, push_at hq h.a3, push_at hq h.a4, push_at hq h.a5, push_at hq h.a6, push_at hq h.a7, push_at hq h.a8, push_at hq h.a9, push_at hq h.a10, push_at hq h.a11⟩, fun k hk => push_at hq (h.mar hk), fun k hk => push_at hq (h.bea hk), fun k hk => push_at hq (h.mem hk), fun k hk => push_at hq (h.shd hk), fun k hk => push_at hq (h.prz hk)⟩
section KR7
variable {p : Program} {l : Launch} {e : Env} {R : Room} {s : State} {m : MethodId} {args : Array Value} {below : List Frame} {meth : Method} {c : Code} {H : Heap} {locs : List Loc} {cells slots : Nat} {Q : State → Prop}
variable {cc : ByteArray} {pc : Nat} {ls : Array Slot} {rest : List Value} {a : Nat} {E : mE} {t : mt} {M : mm}
/-- a copy of an array of ints -/
theorem k_cloneI {n : Nat} (hexec : p.tables.exec = Jvm.exec) (hb : c.code = cc) (hml : c.maxLocals = ls.size) {own : String} {index : Nat} (hown : s.vm.findClass own = some m.cls)
    (hlink : (Cond.methodLink own index ⟨"[I", "clone", "()Ljava/lang/Object;"⟩).before args s = true) (hsame : (Cond.sameMethod "[I" "java/lang/Object" "clone" "()Ljava/lang/Object;").before args s = true)
    (hnat : (Cond.native ⟨"java/lang/Object", "clone", "()Ljava/lang/Object;"⟩).before args s = true) (hinst : (Cond.instanceMethod ⟨"java/lang/Object", "clone", "()Ljava/lang/Object;"⟩).before args s = true)
    (hsel : (Cond.selects "[I" ⟨"[I", "clone", "()Ljava/lang/Object;"⟩ ⟨"java/lang/Object", "clone", "()Ljava/lang/Object;"⟩).before args s = true)
    (hs : sP E s) (hm : mw E t M H) (hS : va_S (eA E) s.heap H locs) (ht : t a = (20, n)) (hframes : 1 ≤ R.frames) (hlocals : (rest.map fun v => v.category).sum + 14 ≤ R.locals) (hcells : cells + 1 ≤ R.cells) (hslots : slots + n ≤ R.slots) (hdg : decode cc pc = .ok (.invokevirtual index, 3))
    (kk : ∀ (q : Nat) (H1 : Heap), (t q).1 = 0 → mw E (m1 t q (20, n)) (wI M q (aI M a)) H1 → va_S (eA E) s.heap H1 locs → W p l e R s m args below meth c H1 locs (cells + 1) (slots + n) Q (F0 m (pc + 3) ls (.ref q :: rest))) : W p l e R s m args below meth c H locs cells slots Q (F0 m pc ls (.ref a :: rest)) := by
  obtain ⟨L, hL, hP, hD⟩ := hm
  obtain ⟨q0, hq⟩ := mw.at (E := E) (t := t) (M := M) (hL a (mt_ne ht (by decide)))
  rw [show ct E t M a = .inl (E.2.1 0, n, .inl (aI M a)) from ct_k ht] at hq
  refine va_clone hexec hb hml hown hlink hsame hnat hinst hsel (hs.2.2.1 _ q995 rfl) hs.2.1 hP hD hS (eA.all hs) q0 0 hq rfl (hs.2.1.2 0 _ rfl).2 (fun i v hv => ?_) hframes hlocals hcells hslots hdg (fun q H1 _ hP1 hD1 hS1 => ?_)
  · have hi : i < n := by
      have h9 := (Array.getElem?_eq_some_iff.mp hv).1
      rw [vp_cell_i, arrV_size] at h9
      exact h9
    rw [vp_cell_i, arrV_read _ _ hi] at hv
    cases hv
    rfl
  · have hqL : q ∉ L := fun h9 => by
      obtain ⟨k, hk⟩ := List.getElem?_of_mem (show (q, ct E t M q) ∈ va_pl L (ct E t M) from List.mem_map.mpr ⟨q, h9, rfl⟩)
      have hlen : k < (va_pl L (ct E t M)).length := (List.getElem?_eq_some_iff.mp hk).1
      have h2 := hD1.1 k (va_pl L (ct E t M)).length (q, ct E t M q) (q, .inl (E.2.1 0, n, .inl (aI M a))) (by rw [List.getElem?_append_left hlen]; exact hk) (by rw [List.getElem?_append_right (Nat.le_refl _)]; simp) rfl
      omega
    have hq0 : (t q).1 = 0 := by
      by_cases h9 : (t q).1 = 0
      · exact h9
      · exact absurd (hL q h9) hqL
    refine kk q H1 hq0 (mw.push (H := H) hqL hL (fun b hb h9 => by rw [m1_ne t _ hb] at h9; exact h9) (fun b hb => ?_) ?_ hP1 hD1) hS1
    · rw [ct_wI hb]; unfold ct; rw [m1_ne t _ hb]
    · unfold ct; rw [m1_at]; simp only [aI, wI, m1_at]
end KR7
