set_option maxRecDepth 100000
/-! the reference, method by method: what it computes (T_..), and that it does (tm_..) -/
theorem cpy0 {α : Type} (f g : Nat → α) (x y : Nat) : va_cpy f g x y 0 = g := by
  funext j
  unfold va_cpy
  rw [if_neg (by omega)]
theorem cpy_stepI (f g : Nat → Int32) (x y k : Nat) : upd (va_cpy f g x y k) (y + k) (f (x + k)) = va_cpy f g x y (k + 1) := by
  funext j
  unfold va_cpy upd
  dsimp only
  by_cases h : j = y + k
  · subst h
    rw [if_pos rfl, if_pos (by omega), show y + k - y = k by omega]
  · rw [if_neg h]
    by_cases h2 : y ≤ j ∧ j < y + k
    · rw [if_pos h2, if_pos (by omega)]
    · rw [if_neg h2, if_neg (by omega)]
theorem cpy_stepF (f g : Nat → UInt32) (x y k : Nat) : vf_upd (va_cpy f g x y k) (y + k) (f (x + k)) = va_cpy f g x y (k + 1) := by
  funext j
  unfold va_cpy vf_upd
  dsimp only
  by_cases h : j = y + k
  · subst h
    rw [if_pos rfl, if_pos (by omega), show y + k - y = k by omega]
  · rw [if_neg h]
    by_cases h2 : y ≤ j ∧ j < y + k
    · rw [if_pos h2, if_pos (by omega)]
    · rw [if_neg h2, if_neg (by omega)]
section KC
variable {p : Program} {l : Launch} {e : Env} {R : Room} {s : State} {m : MethodId} {args : Array Value} {below : List Frame} {meth : Method} {c : Code} {H : Heap} {locs : List Loc} {cells slots : Nat} {Q : State → Prop}
variable {pc : Nat} {ls : Array Slot} {rest st0 : List Value} {E : mE} {ws : va_W} {mc ms : Nat} {av : Array Value}
/-- a call that got two arrays of a world and changed the second -/
theorem k_call2 (qa qb : Nat) {a b : Nat} {c0 c1 : ClassId} {x0 x1 x2 : vp_A} (hm : va_P E.1 clA ws H ∧ va_D (eA E) ws) (ha : ws[qa]? = some (a, .inl (c0, x0))) (hb : ws[qb]? = some (b, .inl (c1, x1))) (hr : va_Run p l e R s m args below meth c H locs cells slots mc ms (F0 m pc ls st0) rest (va_Qv (fun _ : Unit => True) (fun _ U => va_P E.1 clA [(a, .inl (c0, x0)), (b, .inl (c1, x2))] U.heap) (fun q => q = a ∨ q = b) av) (fun q => q = a ∨ q = b)) (hS : va_S (eA E) s.heap H locs)
    (kk : ∀ (H1 : Heap) (locs1 : List Loc), va_P E.1 clA (ws.set qb (b, .inl (c1, x2))) H1 ∧ va_D (eA E) (ws.set qb (b, .inl (c1, x2))) → va_S (eA E) s.heap H1 locs1 → W p l e R s m args below meth c H1 locs1 (cells + mc) (slots + ms) Q (F0 m (pc + 3) ls rest)) : W p l e R s m args below meth c H locs cells slots Q (F0 m pc ls st0) := by
  have hAa : eA E a := hm.2.2 qa _ ha
  have hAb : eA E b := hm.2.2 qb _ hb
  refine va_callv hr hS (fun q _ h => by rcases h with rfl | rfl <;> assumption) (fun q h => by rcases h with rfl | rfl <;> assumption) (fun u t H1 locs1 ht _ _ hB _ hk hS1 => kk H1 locs1 ⟨?_, va_D.set hm.2 hb⟩ hS1)
  rw [ht] at hB
  have hla := (hm.1 qa _ ha).lt
  have h1a : H1[a]? = some (vp_cell c0 x0) := hB 0 _ rfl
  have h0a : H[a]? = some (vp_cell c0 x0) := hm.1 qa _ ha
  have hlen := (List.getElem?_eq_some_iff.mp hb).1
  intro k q hq
  by_cases hkb : k = qb
  · subst hkb
    rw [List.getElem?_set_self hlen] at hq
    cases hq
    exact hB 1 _ rfl
  · rw [List.getElem?_set_ne (Ne.symm hkb)] at hq
    refine (hm.1 k q hq).kept ?_
    by_cases hqa : q.1 = a
    · rw [hqa, h1a, h0a]
    · refine hk q.1 (hm.1 k q hq).lt (fun h => ?_)
      rcases h with h | h
      · exact hqa h
      · exact hkb (hm.2.1 k qb q _ hq hb h)
theorem k_pre2 {a b : Nat} {e0 e1 : va_E} {qa qb : Nat} {As : List Value} (hs : sP E s) (hm : va_P E.1 clA ws H ∧ va_D (eA E) ws) (ha : ws[qa]? = some (a, e0)) (hb : ws[qb]? = some (b, e1)) (hab : qa ≠ qb) : PreS s H (va_Pc As (fun U => va_K E.1 clA (tyA E.2.1) U ∧ va_P E.1 clA [(a, e0), (b, e1)] U.heap ∧ va_D (fun q => q = a ∨ q = b) [(a, e0), (b, e1)])) As := by
  refine ⟨fun x U g mk q => ?_, fun U hU hW => ⟨rfl, va_K.moved hW.alike hs.2.1, ?_, ?_⟩⟩
  · obtain ⟨q1, q2, q3, q4⟩ := q
    exact ⟨q1, va_K.moved (u := U) (U := U.calling g mk x) (Vm.Alike.refl U.vm) q2, q3, q4⟩
  · rw [hU]
    intro k q hq
    match k, hq with
    | 0, hq => cases hq; exact hm.1 qa _ ha
    | 1, hq => cases hq; exact hm.1 qb _ hb
    | k + 2, hq => simp at hq
  · have hne : a ≠ b := fun h => hab (hm.2.1 qa qb _ _ ha hb h)
    refine ⟨fun i j x y hi hj hxy => ?_, fun k q hq => ?_⟩
    · match i, j, hi, hj with
      | 0, 0, _, _ => rfl
      | 1, 1, _, _ => rfl
      | 0, 1, hi, hj => cases hi; cases hj; exact absurd hxy hne
      | 1, 0, hi, hj => cases hi; cases hj; exact absurd hxy.symm hne
      | i + 2, _, hi, _ => simp at hi
      | _, j + 2, _, hj => simp at hj
    · match k, hq with
      | 0, hq => cases hq; exact Or.inl rfl
      | 1, hq => cases hq; exact Or.inr rfl
      | k + 2, hq => simp at hq
end KC
theorem tW_set_0 {E : mE} {h : Nat} {v : tw} {H : Heap} {y : Nat → Int32} (h9 : va_P E.1 clA ((twL E h v).set 1 (h + 1, .inl (E.2.1 0, 112, .inl y))) H ∧ va_D (eA E) ((twL E h v).set 1 (h + 1, .inl (E.2.1 0, 112, .inl y)))) : tW E h (u0 v y) H := h9
theorem tW_set_1 {E : mE} {h : Nat} {v : tw} {H : Heap} {y : Nat → UInt32} (h9 : va_P E.1 clA ((twL E h v).set 2 (h + 2, .inl (E.2.1 1, 33, .inr (.inr (.inl y))))) H ∧ va_D (eA E) ((twL E h v).set 2 (h + 2, .inl (E.2.1 1, 33, .inr (.inr (.inl y)))))) : tW E h (u1 v y) H := h9
theorem tW_set_2 {E : mE} {h : Nat} {v : tw} {H : Heap} {y : Nat → Int32} (h9 : va_P E.1 clA ((twL E h v).set 3 (h + 3, .inl (E.2.1 0, 112, .inl y))) H ∧ va_D (eA E) ((twL E h v).set 3 (h + 3, .inl (E.2.1 0, 112, .inl y)))) : tW E h (u2 v y) H := h9
theorem tW_set_3 {E : mE} {h : Nat} {v : tw} {H : Heap} {y : Nat → UInt32} (h9 : va_P E.1 clA ((twL E h v).set 4 (h + 4, .inl (E.2.1 1, 33, .inr (.inr (.inl y))))) H ∧ va_D (eA E) ((twL E h v).set 4 (h + 4, .inl (E.2.1 1, 33, .inr (.inr (.inl y)))))) : tW E h (u3 v y) H := h9
theorem tW_set_4 {E : mE} {h : Nat} {v : tw} {H : Heap} {y : Nat → Int32} (h9 : va_P E.1 clA ((twL E h v).set 5 (h + 5, .inl (E.2.1 0, 896, .inl y))) H ∧ va_D (eA E) ((twL E h v).set 5 (h + 5, .inl (E.2.1 0, 896, .inl y)))) : tW E h (u4 v y) H := h9
theorem tW_set_5 {E : mE} {h : Nat} {v : tw} {H : Heap} {y : Nat → UInt32} (h9 : va_P E.1 clA ((twL E h v).set 6 (h + 6, .inl (E.2.1 1, 264, .inr (.inr (.inl y))))) H ∧ va_D (eA E) ((twL E h v).set 6 (h + 6, .inl (E.2.1 1, 264, .inr (.inr (.inl y)))))) : tW E h (u5 v y) H := h9
theorem tW_set_7 {E : mE} {h : Nat} {v : tw} {H : Heap} {y : Nat → Int32} (h9 : va_P E.1 clA ((twL E h v).set 7 (h + 7, .inl (E.2.1 0, 112, .inl y))) H ∧ va_D (eA E) ((twL E h v).set 7 (h + 7, .inl (E.2.1 0, 112, .inl y)))) : tW E h (u7 v y) H := h9
theorem tW_set_8 {E : mE} {h : Nat} {v : tw} {H : Heap} {y : Nat → UInt32} (h9 : va_P E.1 clA ((twL E h v).set 8 (h + 8, .inl (E.2.1 1, 33, .inr (.inr (.inl y))))) H ∧ va_D (eA E) ((twL E h v).set 8 (h + 8, .inl (E.2.1 1, 33, .inr (.inr (.inl y)))))) : tW E h (u8 v y) H := h9
theorem tW_set_10 {E : mE} {h : Nat} {v : tw} {H : Heap} {y : Nat → Int32} (h9 : va_P E.1 clA ((twL E h v).set 9 (h + 9, .inl (E.2.1 0, 112, .inl y))) H ∧ va_D (eA E) ((twL E h v).set 9 (h + 9, .inl (E.2.1 0, 112, .inl y)))) : tW E h (u10 v y) H := h9
theorem tW_set_11 {E : mE} {h : Nat} {v : tw} {H : Heap} {y : Nat → UInt32} (h9 : va_P E.1 clA ((twL E h v).set 10 (h + 10, .inl (E.2.1 1, 33, .inr (.inr (.inl y))))) H ∧ va_D (eA E) ((twL E h v).set 10 (h + 10, .inl (E.2.1 1, 33, .inr (.inr (.inl y)))))) : tW E h (u11 v y) H := h9
theorem tW_set_21 {E : mE} {h : Nat} {v : tw} {H : Heap} {y : Nat → Int32} (h9 : va_P E.1 clA ((twL E h v).set 12 (h + 12, .inl (E.2.1 0, 180, .inl y))) H ∧ va_D (eA E) ((twL E h v).set 12 (h + 12, .inl (E.2.1 0, 180, .inl y)))) : tW E h (u21 v y) H := h9
set_option maxHeartbeats 4000000 in
theorem tm_copy (l : Launch) (E : mE) (a b n0 n1 : Nat) (f0 f1 : Nat → Int32) (x y : Nat) (hx0 : x + 112 ≤ n0) (hy0 : y + 112 ≤ n1) (hn0 : n0 ≤ 2 ^ 20) (hn1 : n1 ≤ 2 ^ 20) : Met l yX10_copy (ws_ yX10_copy cX10_copy 5 none) ({ frames := 0, cells := 0, slots := 0, locals := 0 }) (va_Pc [.ref a, .int (nI x), .ref b, .int (nI y)] (fun U => va_K E.1 clA (tyA E.2.1) U ∧ va_P E.1 clA [(a, .inl (E.2.1 0, n0, .inl f0)), (b, .inl (E.2.1 0, n1, .inl f1))] U.heap ∧ va_D (fun q => q = a ∨ q = b) [(a, .inl (E.2.1 0, n0, .inl f0)), (b, .inl (E.2.1 0, n1, .inl f1))])) (va_Qv (fun _ : Unit => True) (fun _ U => va_P E.1 clA [(a, .inl (E.2.1 0, n0, .inl f0)), (b, .inl (E.2.1 0, n1, .inl (va_cpy f0 f1 x y 112)))] U.heap) (fun q => q = a ∨ q = b)) 0 0 (fun q => q = a ∨ q = b) := by
  refine Met.ofW (cc := cX10_copy) (maxL := 5) (ret := none) (by decide) rfl ?_
  intro p e s m args below meth c s₁ B hml hv
  obtain ⟨rfl, hK, hP, hD⟩ := hv
  have hx := B.exec
  have hb := B.bytes
  have hr := B.returns
  have hlocks := B.notSynchronized
  have hS : va_S (fun q => q = a ∨ q = b) s.heap s.heap [] := va_S.rf
  have hl := lv_entry ([.ref a, .int (nI x), .ref b, .int (nI y)]) (n := 5) (Nat.le_of_ble_eq_true rfl)
  rw [lg_entry_eq]
  generalize (lg_sl ([.ref a, .int (nI x), .ref b, .int (nI y)]) ++ List.replicate (5 - (lg_sl ([.ref a, .int (nI x), .ref b, .int (nI y)])).length) Slot.unset).toArray = ls at hl ⊢
  have hl : lv_has ls 5 [(0, .ref a), (1, .int (nI x)), (2, .ref b), (3, .int (nI y))] := hl
  refine lv_iconst (v := 0) hx hb dX10_copy_0 (by decide) ?_
  refine lv_istore (lv' := [(4, _), (0, _), (1, _), (2, _), (3, _)]) hx hb dX10_copy_1 hl (by decide) rfl (fun ls hl => ?_)
  refine k_loop (fun k => 112 - k) (fun (k : Nat) H locs ls => k ≤ 112 ∧ (va_P E.1 clA [(a, .inl (E.2.1 0, n0, .inl f0)), (b, .inl (E.2.1 0, n1, .inl (va_cpy f0 f1 x y k)))] H ∧ va_D (fun q => q = a ∨ q = b) [(a, .inl (E.2.1 0, n0, .inl f0)), (b, .inl (E.2.1 0, n1, .inl (va_cpy f0 f1 x y k)))]) ∧ va_S (fun q => q = a ∨ q = b) s.heap H locs ∧ lv_has ls 5 [(4, .int (nI k)), (0, .ref a), (1, .int (nI x)), (2, .ref b), (3, .int (nI y))]) (fun k ls => F0 m 3 ls []) (fun _ => (0, 0)) (fun k ih H locs ls hP => ?_) 0 ⟨by omega, ⟨by rw [cpy0]; exact hP, by rw [cpy0]; exact hD⟩, hS, hl⟩
  obtain ⟨hk0, ⟨hP, hD⟩, hS, hl⟩ := hP
  refine lv_iload hx hb dX10_copy_3 (lv_at hl 0 rfl) ?_
  refine lv_bipush (v := nI 112) hx hb dX10_copy_5 (by decide) ?_
  refine lv_icmp_ge (tgt := 28) hx hb dX10_copy_7 (by decide) (fun c1 => ?_) (fun c1 => ?_)
  · obtain rfl : k = 112 := lp_ge (by decide) hk0 c1
    exact W.vret hx hb hr (fun t9 ht9 _ => ⟨⟨(), rfl, trivial, hb9 (B := fun H9 => va_P E.1 clA _ H9) ht9 hP⟩, hS.F ht9⟩) hS.2.2 dX10_copy_28
  · have hk : k < 112 := lp_lt (by decide) hk0 c1
    refine lv_aload_n hx hb dX10_copy_10 rfl (lv_at hl 3 rfl) ?_
    refine lv_iload_n hx hb dX10_copy_11 rfl (lv_at hl 4 rfl) ?_
    refine lv_iload hx hb dX10_copy_12 (lv_at hl 0 rfl) ?_
    refine lv_iadd hx hb dX10_copy_14 ?_
    refine lv_aload_n hx hb dX10_copy_15 rfl (lv_at hl 1 rfl) ?_
    refine lv_iload_n hx hb dX10_copy_16 rfl (lv_at hl 2 rfl) ?_
    refine lv_iload hx hb dX10_copy_17 (lv_at hl 0 rfl) ?_
    refine lv_iadd hx hb dX10_copy_19 ?_
    refine va_iald hx hb hK hP 0 0 rfl rfl (by rw [nI_add]; exact vp_in_nI (by omega) (by omega)) dX10_copy_20 ?_
    refine va_iast hx hb hK hP hD hS 1 0 rfl rfl (by rw [nI_add]; exact vp_in_nI (by omega) (by omega)) dX10_copy_21 (fun H locs hP hD hS => ?_)
    refine lv_iinc (v := nI (k + 1)) (lv' := [(4, _), (0, _), (1, _), (2, _), (3, _)]) hx hb dX10_copy_22 hl (k := 0) rfl (nI_succ k).symm (by decide) rfl (fun ls hl => ?_)
    refine lv_goto (tgt := 3) hx hb dX10_copy_25 (by decide) ?_
    have e1 : upd (va_cpy f0 f1 x y k) (nI y + nI k).toNatClampNeg (f0 (nI x + nI k).toNatClampNeg) = va_cpy f0 f1 x y (k + 1) := by
      rw [cl_add y (by omega), cl_add x (by omega)]
      exact cpy_stepI _ _ _ _ _
    have hP : va_P E.1 clA [(a, .inl (E.2.1 0, n0, .inl f0)), (b, .inl (E.2.1 0, n1, .inl (upd (va_cpy f0 f1 x y k) (nI y + nI k).toNatClampNeg (f0 (nI x + nI k).toNatClampNeg))))] H := hP
    have hD : va_D (fun q => q = a ∨ q = b) [(a, .inl (E.2.1 0, n0, .inl f0)), (b, .inl (E.2.1 0, n1, .inl (upd (va_cpy f0 f1 x y k) (nI y + nI k).toNatClampNeg (f0 (nI x + nI k).toNatClampNeg))))] := hD
    rw [e1] at hP hD
    exact ih (k + 1) (by omega) _ _ _ ⟨by omega, ⟨hP, hD⟩, hS, hl⟩
set_option maxHeartbeats 4000000 in
theorem tm_copyFloats (l : Launch) (E : mE) (a b n0 n1 : Nat) (f0 f1 : Nat → UInt32) (x y : Nat) (hx0 : x + 33 ≤ n0) (hy0 : y + 33 ≤ n1) (hn0 : n0 ≤ 2 ^ 20) (hn1 : n1 ≤ 2 ^ 20) : Met l yX10_copyFloats (ws_ yX10_copyFloats cX10_copyFloats 5 none) ({ frames := 0, cells := 0, slots := 0, locals := 0 }) (va_Pc [.ref a, .int (nI x), .ref b, .int (nI y)] (fun U => va_K E.1 clA (tyA E.2.1) U ∧ va_P E.1 clA [(a, .inl (E.2.1 1, n0, .inr (.inr (.inl f0)))), (b, .inl (E.2.1 1, n1, .inr (.inr (.inl f1))))] U.heap ∧ va_D (fun q => q = a ∨ q = b) [(a, .inl (E.2.1 1, n0, .inr (.inr (.inl f0)))), (b, .inl (E.2.1 1, n1, .inr (.inr (.inl f1))))])) (va_Qv (fun _ : Unit => True) (fun _ U => va_P E.1 clA [(a, .inl (E.2.1 1, n0, .inr (.inr (.inl f0)))), (b, .inl (E.2.1 1, n1, .inr (.inr (.inl (va_cpy f0 f1 x y 33)))))] U.heap) (fun q => q = a ∨ q = b)) 0 0 (fun q => q = a ∨ q = b) := by
  refine Met.ofW (cc := cX10_copyFloats) (maxL := 5) (ret := none) (by decide) rfl ?_
  intro p e s m args below meth c s₁ B hml hv
  obtain ⟨rfl, hK, hP, hD⟩ := hv
  have hx := B.exec
  have hb := B.bytes
  have hr := B.returns
  have hlocks := B.notSynchronized
  have hS : va_S (fun q => q = a ∨ q = b) s.heap s.heap [] := va_S.rf
  have hl := lv_entry ([.ref a, .int (nI x), .ref b, .int (nI y)]) (n := 5) (Nat.le_of_ble_eq_true rfl)
  rw [lg_entry_eq]
  generalize (lg_sl ([.ref a, .int (nI x), .ref b, .int (nI y)]) ++ List.replicate (5 - (lg_sl ([.ref a, .int (nI x), .ref b, .int (nI y)])).length) Slot.unset).toArray = ls at hl ⊢
  have hl : lv_has ls 5 [(0, .ref a), (1, .int (nI x)), (2, .ref b), (3, .int (nI y))] := hl
  refine lv_iconst (v := 0) hx hb dX10_copyFloats_0 (by decide) ?_
  refine lv_istore (lv' := [(4, _), (0, _), (1, _), (2, _), (3, _)]) hx hb dX10_copyFloats_1 hl (by decide) rfl (fun ls hl => ?_)
  refine k_loop (fun k => 33 - k) (fun (k : Nat) H locs ls => k ≤ 33 ∧ (va_P E.1 clA [(a, .inl (E.2.1 1, n0, .inr (.inr (.inl f0)))), (b, .inl (E.2.1 1, n1, .inr (.inr (.inl (va_cpy f0 f1 x y k)))))] H ∧ va_D (fun q => q = a ∨ q = b) [(a, .inl (E.2.1 1, n0, .inr (.inr (.inl f0)))), (b, .inl (E.2.1 1, n1, .inr (.inr (.inl (va_cpy f0 f1 x y k)))))]) ∧ va_S (fun q => q = a ∨ q = b) s.heap H locs ∧ lv_has ls 5 [(4, .int (nI k)), (0, .ref a), (1, .int (nI x)), (2, .ref b), (3, .int (nI y))]) (fun k ls => F0 m 3 ls []) (fun _ => (0, 0)) (fun k ih H locs ls hP => ?_) 0 ⟨by omega, ⟨by rw [cpy0]; exact hP, by rw [cpy0]; exact hD⟩, hS, hl⟩
  obtain ⟨hk0, ⟨hP, hD⟩, hS, hl⟩ := hP
  refine lv_iload hx hb dX10_copyFloats_3 (lv_at hl 0 rfl) ?_
  refine lv_bipush (v := nI 33) hx hb dX10_copyFloats_5 (by decide) ?_
  refine lv_icmp_ge (tgt := 28) hx hb dX10_copyFloats_7 (by decide) (fun c1 => ?_) (fun c1 => ?_)
  · obtain rfl : k = 33 := lp_ge (by decide) hk0 c1
    exact W.vret hx hb hr (fun t9 ht9 _ => ⟨⟨(), rfl, trivial, hb9 (B := fun H9 => va_P E.1 clA _ H9) ht9 hP⟩, hS.F ht9⟩) hS.2.2 dX10_copyFloats_28
  · have hk : k < 33 := lp_lt (by decide) hk0 c1
    refine lv_aload_n hx hb dX10_copyFloats_10 rfl (lv_at hl 3 rfl) ?_
    refine lv_iload_n hx hb dX10_copyFloats_11 rfl (lv_at hl 4 rfl) ?_
    refine lv_iload hx hb dX10_copyFloats_12 (lv_at hl 0 rfl) ?_
    refine lv_iadd hx hb dX10_copyFloats_14 ?_
    refine lv_aload_n hx hb dX10_copyFloats_15 rfl (lv_at hl 1 rfl) ?_
    refine lv_iload_n hx hb dX10_copyFloats_16 rfl (lv_at hl 2 rfl) ?_
    refine lv_iload hx hb dX10_copyFloats_17 (lv_at hl 0 rfl) ?_
    refine lv_iadd hx hb dX10_copyFloats_19 ?_
    refine va_fald hx hb hK hP 0 1 rfl rfl (by rw [nI_add]; exact vp_in_nI (by omega) (by omega)) dX10_copyFloats_20 ?_
    refine va_fast hx hb hK hP hD hS 1 1 rfl rfl (by rw [nI_add]; exact vp_in_nI (by omega) (by omega)) dX10_copyFloats_21 (fun H locs hP hD hS => ?_)
    refine lv_iinc (v := nI (k + 1)) (lv' := [(4, _), (0, _), (1, _), (2, _), (3, _)]) hx hb dX10_copyFloats_22 hl (k := 0) rfl (nI_succ k).symm (by decide) rfl (fun ls hl => ?_)
    refine lv_goto (tgt := 3) hx hb dX10_copyFloats_25 (by decide) ?_
    have e1 : vf_upd (va_cpy f0 f1 x y k) (nI y + nI k).toNatClampNeg (f0 (nI x + nI k).toNatClampNeg) = va_cpy f0 f1 x y (k + 1) := by
      rw [cl_add y (by omega), cl_add x (by omega)]
      exact cpy_stepF _ _ _ _ _
    have hP : va_P E.1 clA [(a, .inl (E.2.1 1, n0, .inr (.inr (.inl f0)))), (b, .inl (E.2.1 1, n1, .inr (.inr (.inl (vf_upd (va_cpy f0 f1 x y k) (nI y + nI k).toNatClampNeg (f0 (nI x + nI k).toNatClampNeg))))))] H := hP
    have hD : va_D (fun q => q = a ∨ q = b) [(a, .inl (E.2.1 1, n0, .inr (.inr (.inl f0)))), (b, .inl (E.2.1 1, n1, .inr (.inr (.inl (vf_upd (va_cpy f0 f1 x y k) (nI y + nI k).toNatClampNeg (f0 (nI x + nI k).toNatClampNeg))))))] := hD
    rw [e1] at hP hD
    exact ih (k + 1) (by omega) _ _ _ ⟨by omega, ⟨hP, hD⟩, hS, hl⟩
def T_in (x : Int32) (lo : Int32) (hi : Int32) : Int32 :=
  if x < lo then
    (0 : Int32)
  else
    if hi < x then
      (0 : Int32)
    else
      (1 : Int32)
set_option maxHeartbeats 4000000 in
theorem tm_in (l : Launch) (E : mE) (x : Int32) (lo : Int32) (hi : Int32) (H0 : Heap) : Met l yX10_in (ws_ yX10_in cX10_in 3 (some .boolean)) ({ frames := 0, cells := 0, slots := 0, locals := 0 }) (va_Pc [.int x, .int lo, .int hi] (pP E H0)) (va_Qi (fun (r : Int32) (_ : Unit) => r = T_in x lo hi) (fun _ U => hEq H0 U.heap) (eA E)) 0 0 (eA E) := by
  refine Met.ofW (cc := cX10_in) (maxL := 3) (ret := (some .boolean)) (by decide) rfl ?_
  intro p e s m args below meth c s₁ B hml hv
  obtain ⟨rfl, hs, hv⟩ := hv
  subst hv
  have hm : s.heap = s.heap := rfl
  have hx := B.exec
  have hb := B.bytes
  have hr := B.returns
  have hts := atoms_spec (ws := ws_ yX10_in cX10_in 3 (some .boolean)) B.pre
  have hts : ∀ w ∈ lw_all, w.before _ s = true := fun w h => hts w (List.mem_cons_of_mem _ h)
  have hown : s.vm.findClass RX10 = some m.cls := findClass_of_methodNamed B.named
  have hlocks := B.notSynchronized
  have hS : va_S (eA E) s.heap s.heap [] := va_S.rf
  have hl := lv_entry ([.int x, .int lo, .int hi]) (n := 3) (Nat.le_of_ble_eq_true rfl)
  rw [lg_entry_eq]
  generalize (lg_sl ([.int x, .int lo, .int hi]) ++ List.replicate (3 - (lg_sl ([.int x, .int lo, .int hi])).length) Slot.unset).toArray = ls at hl ⊢
  have hl : lv_has ls 3 [(0, .int (x)), (1, .int (lo)), (2, .int (hi))] := hl
  refine lv_iload_n hx hb dX10_in_0 rfl (lv_at hl 0 rfl) ?_
  refine lv_iload_n hx hb dX10_in_1 rfl (lv_at hl 1 rfl) ?_
  refine lv_icmp_lt (tgt := 14) hx hb dX10_in_2 (by decide) (fun c_1 => ?_) (fun c_1 => ?_)
  · refine lv_iconst (v := (0 : Int32)) hx hb dX10_in_14 (by decide) ?_
    exact W.zret (v := _) hx hb hr rfl (fun t9 ht9 _ => ⟨⟨_, (), rfl, ((if_pos c_1).trans (rfl)).symm, ht9⟩, hS.F ht9⟩) hS.2.2 dX10_in_15
  · refine lv_iload_n hx hb dX10_in_5 rfl (lv_at hl 0 rfl) ?_
    refine lv_iload_n hx hb dX10_in_6 rfl (lv_at hl 2 rfl) ?_
    refine lv_icmp_gt (tgt := 14) hx hb dX10_in_7 (by decide) (fun c_2 => ?_) (fun c_2 => ?_)
    · refine lv_iconst (v := (0 : Int32)) hx hb dX10_in_14 (by decide) ?_
      exact W.zret (v := _) hx hb hr rfl (fun t9 ht9 _ => ⟨⟨_, (), rfl, ((if_neg c_1).trans ((if_pos c_2).trans (rfl))).symm, ht9⟩, hS.F ht9⟩) hS.2.2 dX10_in_15
    · refine lv_iconst (v := (1 : Int32)) hx hb dX10_in_10 (by decide) ?_
      refine lv_goto (tgt := 15) hx hb dX10_in_11 (by decide) ?_
      exact W.zret (v := _) hx hb hr rfl (fun t9 ht9 _ => ⟨⟨_, (), rfl, ((if_neg c_1).trans ((if_neg c_2).trans (rfl))).symm, ht9⟩, hS.F ht9⟩) hS.2.2 dX10_in_15
theorem Tz_in (x : Int32) (lo : Int32) (hi : Int32) : narrow .boolean (.int (T_in x lo hi)) = .int (T_in x lo hi) := by
  unfold T_in
  try dsimp only
  (repeat' split) <;> rfl
theorem Tin_ix {x hi r : Int32} {B : Nat} (hr : r = T_in x 0 hi) (c : ¬ r = 0) (hh : hi.toInt < B) (hB : B ≤ 2 ^ 30) : ix B x := by
  unfold T_in at hr
  split at hr
  · exact absurd hr c
  · rename_i h1
    split at hr
    · exact absurd hr c
    · rename_i h2
      exact ix.of h1 h2 hh hB
def T_isPlot (x : Int32) : Int32 :=
  let r_1 := T_in (x) ((0 : Int32)) ((11 : Int32));
  r_1
set_option maxHeartbeats 4000000 in
theorem tm_isPlot (l : Launch) (E : mE) (x : Int32) (H0 : Heap) : Met l yX10_isPlot (ws_ yX10_isPlot cX10_isPlot 1 (some .boolean)) ({ frames := 1, cells := 0, slots := 0, locals := 22 }) (va_Pc [.int x] (pP E H0)) (va_Qi (fun (r : Int32) (_ : Unit) => r = T_isPlot x) (fun _ U => hEq H0 U.heap) (eA E)) 0 0 (eA E) := by
  refine Met.ofW (cc := cX10_isPlot) (maxL := 1) (ret := (some .boolean)) (by decide) rfl ?_
  intro p e s m args below meth c s₁ B hml hv
  obtain ⟨rfl, hs, hv⟩ := hv
  subst hv
  have hm : s.heap = s.heap := rfl
  have hx := B.exec
  have hb := B.bytes
  have hr := B.returns
  have hts := atoms_spec (ws := ws_ yX10_isPlot cX10_isPlot 1 (some .boolean)) B.pre
  have hts : ∀ w ∈ lw_all, w.before _ s = true := fun w h => hts w (List.mem_cons_of_mem _ h)
  have hown : s.vm.findClass RX10 = some m.cls := findClass_of_methodNamed B.named
  have hlocks := B.notSynchronized
  have hS : va_S (eA E) s.heap s.heap [] := va_S.rf
  have hl := lv_entry ([.int x]) (n := 1) (Nat.le_of_ble_eq_true rfl)
  rw [lg_entry_eq]
  generalize (lg_sl ([.int x]) ++ List.replicate (1 - (lg_sl ([.int x])).length) Slot.unset).toArray = ls at hl ⊢
  have hl : lv_has ls 1 [(0, .int (x))] := hl
  refine lv_iload_n hx hb dX10_isPlot_0 rfl (lv_at hl 0 rfl) ?_
  refine lv_iconst (v := (0 : Int32)) hx hb dX10_isPlot_1 (by decide) ?_
  refine lv_bipush (v := (11 : Int32)) hx hb dX10_isPlot_2 (by decide) ?_
  refine k_calli (va_runS (As := [.int (x), .int ((0 : Int32)), .int ((11 : Int32))]) (rest := []) ⟨hx, hb, hml, hown, hts⟩ (tm_in l E (x) ((0 : Int32)) ((11 : Int32)) _) (va_cwS 3 hts (lw_S q1763 q1764 q80 q1765) rfl rfl rfl (by decide +kernel) ⟨Nat.le_of_ble_eq_true rfl, Nat.le_of_ble_eq_true rfl⟩) (k_pure hs hS) rfl rfl hl.1 rfl (lv_room (Nat.le_of_ble_eq_true rfl)) dX10_isPlot_4 ⟨Nat.le_of_ble_eq_true rfl, Nat.le_of_ble_eq_true rfl⟩) hS (fun r_1 u_1 H9 locs hw_1 hm_1 hS => ?_)
  replace hm_1 : _ = H9 := Eq.symm hm_1
  subst hm_1
  have hr_1 := hw_1
  subst hr_1
  exact W.zret (v := _) hx hb hr (Tz_in _ _ _) (fun t9 ht9 _ => ⟨⟨_, (), rfl, (rfl).symm, ht9⟩, hS.F ht9⟩) hS.2.2 dX10_isPlot_7
theorem Tz_isPlot (x : Int32) : narrow .boolean (.int (T_isPlot x)) = .int (T_isPlot x) := by
  unfold T_isPlot
  exact Tz_in _ _ _
theorem plot_ix {x r : Int32} (hr : r = T_isPlot x) (c : ¬ r = 0) : ix 12 x := Tin_ix (hi := 11) hr c (by decide) (by decide)
def T_isBench (x : Int32) : Int32 :=
  let r_1 := T_in (x) ((0 : Int32)) ((1 : Int32));
  r_1
set_option maxHeartbeats 4000000 in
theorem tm_isBench (l : Launch) (E : mE) (x : Int32) (H0 : Heap) : Met l yX10_isBench (ws_ yX10_isBench cX10_isBench 1 (some .boolean)) ({ frames := 1, cells := 0, slots := 0, locals := 22 }) (va_Pc [.int x] (pP E H0)) (va_Qi (fun (r : Int32) (_ : Unit) => r = T_isBench x) (fun _ U => hEq H0 U.heap) (eA E)) 0 0 (eA E) := by
  refine Met.ofW (cc := cX10_isBench) (maxL := 1) (ret := (some .boolean)) (by decide) rfl ?_
  intro p e s m args below meth c s₁ B hml hv
  obtain ⟨rfl, hs, hv⟩ := hv
  subst hv
  have hm : s.heap = s.heap := rfl
  have hx := B.exec
  have hb := B.bytes
  have hr := B.returns
  have hts := atoms_spec (ws := ws_ yX10_isBench cX10_isBench 1 (some .boolean)) B.pre
  have hts : ∀ w ∈ lw_all, w.before _ s = true := fun w h => hts w (List.mem_cons_of_mem _ h)
  have hown : s.vm.findClass RX10 = some m.cls := findClass_of_methodNamed B.named
  have hlocks := B.notSynchronized
  have hS : va_S (eA E) s.heap s.heap [] := va_S.rf
  have hl := lv_entry ([.int x]) (n := 1) (Nat.le_of_ble_eq_true rfl)
  rw [lg_entry_eq]
  generalize (lg_sl ([.int x]) ++ List.replicate (1 - (lg_sl ([.int x])).length) Slot.unset).toArray = ls at hl ⊢
  have hl : lv_has ls 1 [(0, .int (x))] := hl
  refine lv_iload_n hx hb dX10_isBench_0 rfl (lv_at hl 0 rfl) ?_
  refine lv_iconst (v := (0 : Int32)) hx hb dX10_isBench_1 (by decide) ?_
  refine lv_iconst (v := (1 : Int32)) hx hb dX10_isBench_2 (by decide) ?_
  refine k_calli (va_runS (As := [.int (x), .int ((0 : Int32)), .int ((1 : Int32))]) (rest := []) ⟨hx, hb, hml, hown, hts⟩ (tm_in l E (x) ((0 : Int32)) ((1 : Int32)) _) (va_cwS 3 hts (lw_S q1763 q1764 q80 q1765) rfl rfl rfl (by decide +kernel) ⟨Nat.le_of_ble_eq_true rfl, Nat.le_of_ble_eq_true rfl⟩) (k_pure hs hS) rfl rfl hl.1 rfl (lv_room (Nat.le_of_ble_eq_true rfl)) dX10_isBench_3 ⟨Nat.le_of_ble_eq_true rfl, Nat.le_of_ble_eq_true rfl⟩) hS (fun r_1 u_1 H9 locs hw_1 hm_1 hS => ?_)
  replace hm_1 : _ = H9 := Eq.symm hm_1
  subst hm_1
  have hr_1 := hw_1
  subst hr_1
  exact W.zret (v := _) hx hb hr (Tz_in _ _ _) (fun t9 ht9 _ => ⟨⟨_, (), rfl, (rfl).symm, ht9⟩, hS.F ht9⟩) hS.2.2 dX10_isBench_6
theorem Tz_isBench (x : Int32) : narrow .boolean (.int (T_isBench x)) = .int (T_isBench x) := by
  unfold T_isBench
  exact Tz_in _ _ _
theorem bench_ix {x r : Int32} (hr : r = T_isBench x) (c : ¬ r = 0) : ix 2 x := Tin_ix (hi := 1) hr c (by decide) (by decide)
def T_isPlace (x : Int32) (y : Int32) : Int32 :=
  let r_1 := T_isBench (x);
  if r_1 = 0 then
    (0 : Int32)
  else
    let r_3 := T_in (y) ((0 : Int32)) ((4 : Int32));
    if r_3 = 0 then
      (0 : Int32)
    else
      (1 : Int32)
set_option maxHeartbeats 4000000 in
theorem tm_isPlace (l : Launch) (E : mE) (x : Int32) (y : Int32) (H0 : Heap) : Met l yX10_isPlace (ws_ yX10_isPlace cX10_isPlace 2 (some .boolean)) ({ frames := 2, cells := 0, slots := 0, locals := 42 }) (va_Pc [.int x, .int y] (pP E H0)) (va_Qi (fun (r : Int32) (_ : Unit) => r = T_isPlace x y) (fun _ U => hEq H0 U.heap) (eA E)) 0 0 (eA E) := by
  refine Met.ofW (cc := cX10_isPlace) (maxL := 2) (ret := (some .boolean)) (by decide) rfl ?_
  intro p e s m args below meth c s₁ B hml hv
  obtain ⟨rfl, hs, hv⟩ := hv
  subst hv
  have hm : s.heap = s.heap := rfl
  have hx := B.exec
  have hb := B.bytes
  have hr := B.returns
  have hts := atoms_spec (ws := ws_ yX10_isPlace cX10_isPlace 2 (some .boolean)) B.pre
  have hts : ∀ w ∈ lw_all, w.before _ s = true := fun w h => hts w (List.mem_cons_of_mem _ h)
  have hown : s.vm.findClass RX10 = some m.cls := findClass_of_methodNamed B.named
  have hlocks := B.notSynchronized
  have hS : va_S (eA E) s.heap s.heap [] := va_S.rf
  have hl := lv_entry ([.int x, .int y]) (n := 2) (Nat.le_of_ble_eq_true rfl)
  rw [lg_entry_eq]
  generalize (lg_sl ([.int x, .int y]) ++ List.replicate (2 - (lg_sl ([.int x, .int y])).length) Slot.unset).toArray = ls at hl ⊢
  have hl : lv_has ls 2 [(0, .int (x)), (1, .int (y))] := hl
  refine lv_iload_n hx hb dX10_isPlace_0 rfl (lv_at hl 0 rfl) ?_
  refine k_calli (va_runS (As := [.int (x)]) (rest := []) ⟨hx, hb, hml, hown, hts⟩ (tm_isBench l E (x) _) (va_cwS 1 hts (lw_S q1896 q1897 q80 q1898) rfl rfl rfl (by decide +kernel) ⟨Nat.le_of_ble_eq_true rfl, Nat.le_of_ble_eq_true rfl⟩) (k_pure hs hS) rfl rfl hl.1 rfl (lv_room (Nat.le_of_ble_eq_true rfl)) dX10_isPlace_1 ⟨Nat.le_of_ble_eq_true rfl, Nat.le_of_ble_eq_true rfl⟩) hS (fun r_1 u_1 H9 locs hw_1 hm_1 hS => ?_)
  replace hm_1 : _ = H9 := Eq.symm hm_1
  subst hm_1
  have hr_1 := hw_1
  refine lv_if_eq (tgt := 20) hx hb dX10_isPlace_4 (by decide) (fun c_2 => ?_) (fun c_2 => ?_)
  · refine lv_iconst (v := (0 : Int32)) hx hb dX10_isPlace_20 (by decide) ?_
    subst hr_1
    exact W.zret (v := _) hx hb hr rfl (fun t9 ht9 _ => ⟨⟨_, (), rfl, ((if_pos c_2).trans (rfl)).symm, ht9⟩, hS.F ht9⟩) hS.2.2 dX10_isPlace_21
  · refine lv_iload_n hx hb dX10_isPlace_7 rfl (lv_at hl 1 rfl) ?_
    refine lv_iconst (v := (0 : Int32)) hx hb dX10_isPlace_8 (by decide) ?_
    refine lv_iconst (v := (4 : Int32)) hx hb dX10_isPlace_9 (by decide) ?_
    refine k_calli (va_runS (As := [.int (y), .int ((0 : Int32)), .int ((4 : Int32))]) (rest := []) ⟨hx, hb, hml, hown, hts⟩ (tm_in l E (y) ((0 : Int32)) ((4 : Int32)) _) (va_cwS 3 hts (lw_S q1763 q1764 q80 q1765) rfl rfl rfl (by decide +kernel) ⟨Nat.le_of_ble_eq_true rfl, Nat.le_of_ble_eq_true rfl⟩) (k_pure hs hS) rfl rfl hl.1 rfl (lv_room (Nat.le_of_ble_eq_true rfl)) dX10_isPlace_10 ⟨Nat.le_of_ble_eq_true rfl, Nat.le_of_ble_eq_true rfl⟩) hS (fun r_3 u_3 H9 locs hw_3 hm_3 hS => ?_)
    replace hm_3 : _ = H9 := Eq.symm hm_3
    subst hm_3
    have hr_3 := hw_3
    refine lv_if_eq (tgt := 20) hx hb dX10_isPlace_13 (by decide) (fun c_4 => ?_) (fun c_4 => ?_)
    · refine lv_iconst (v := (0 : Int32)) hx hb dX10_isPlace_20 (by decide) ?_
      subst hr_3
      subst hr_1
      exact W.zret (v := _) hx hb hr rfl (fun t9 ht9 _ => ⟨⟨_, (), rfl, ((if_neg c_2).trans ((if_pos c_4).trans (rfl))).symm, ht9⟩, hS.F ht9⟩) hS.2.2 dX10_isPlace_21
    · refine lv_iconst (v := (1 : Int32)) hx hb dX10_isPlace_16 (by decide) ?_
      refine lv_goto (tgt := 21) hx hb dX10_isPlace_17 (by decide) ?_
      subst hr_3
      subst hr_1
      exact W.zret (v := _) hx hb hr rfl (fun t9 ht9 _ => ⟨⟨_, (), rfl, ((if_neg c_2).trans ((if_neg c_4).trans (rfl))).symm, ht9⟩, hS.F ht9⟩) hS.2.2 dX10_isPlace_21
theorem Tz_isPlace (x : Int32) (y : Int32) : narrow .boolean (.int (T_isPlace x y)) = .int (T_isPlace x y) := by
  unfold T_isPlace
  try dsimp only
  (repeat' split) <;> rfl
theorem place_ix {x y r : Int32} (hr : r = T_isPlace x y) (c : ¬ r = 0) : ix 2 x ∧ ix 5 y := by
  unfold T_isPlace at hr
  dsimp only at hr
  split at hr
  · exact absurd hr c
  · rename_i h1
    split at hr
    · exact absurd hr c
    · rename_i h2
      exact ⟨bench_ix rfl h1, Tin_ix rfl h2 (by decide) (by decide)⟩
def T_isLetter (x : Int32) : Int32 :=
  if x = (100 : Int32) then
    (1 : Int32)
  else
    if x = (114 : Int32) then
      (1 : Int32)
    else
      if x = (119 : Int32) then
        (1 : Int32)
      else
        if x = (110 : Int32) then
          (1 : Int32)
        else
          if x = (118 : Int32) then
            (1 : Int32)
          else
            if x = (99 : Int32) then
              (1 : Int32)
            else
              if x = (112 : Int32) then
                (1 : Int32)
              else
                (0 : Int32)
set_option maxHeartbeats 4000000 in
theorem tm_isLetter (l : Launch) (E : mE) (x : Int32) (H0 : Heap) : Met l yX10_isLetter (ws_ yX10_isLetter cX10_isLetter 1 (some .boolean)) ({ frames := 0, cells := 0, slots := 0, locals := 0 }) (va_Pc [.int x] (pP E H0)) (va_Qi (fun (r : Int32) (_ : Unit) => r = T_isLetter x) (fun _ U => hEq H0 U.heap) (eA E)) 0 0 (eA E) := by
  refine Met.ofW (cc := cX10_isLetter) (maxL := 1) (ret := (some .boolean)) (by decide) rfl ?_
  intro p e s m args below meth c s₁ B hml hv
  obtain ⟨rfl, hs, hv⟩ := hv
  subst hv
  have hm : s.heap = s.heap := rfl
  have hx := B.exec
  have hb := B.bytes
  have hr := B.returns
  have hts := atoms_spec (ws := ws_ yX10_isLetter cX10_isLetter 1 (some .boolean)) B.pre
  have hts : ∀ w ∈ lw_all, w.before _ s = true := fun w h => hts w (List.mem_cons_of_mem _ h)
  have hown : s.vm.findClass RX10 = some m.cls := findClass_of_methodNamed B.named
  have hlocks := B.notSynchronized
  have hS : va_S (eA E) s.heap s.heap [] := va_S.rf
  have hl := lv_entry ([.int x]) (n := 1) (Nat.le_of_ble_eq_true rfl)
  rw [lg_entry_eq]
  generalize (lg_sl ([.int x]) ++ List.replicate (1 - (lg_sl ([.int x])).length) Slot.unset).toArray = ls at hl ⊢
  have hl : lv_has ls 1 [(0, .int (x))] := hl
  refine lv_iload_n hx hb dX10_isLetter_0 rfl (lv_at hl 0 rfl) ?_
  refine lv_bipush (v := (100 : Int32)) hx hb dX10_isLetter_1 (by decide) ?_
  refine lv_icmp_eq (tgt := 42) hx hb dX10_isLetter_3 (by decide) (fun c_1 => ?_) (fun c_1 => ?_)
  · refine lv_iconst (v := (1 : Int32)) hx hb dX10_isLetter_42 (by decide) ?_
    refine lv_goto (tgt := 47) hx hb dX10_isLetter_43 (by decide) ?_
    exact W.zret (v := _) hx hb hr rfl (fun t9 ht9 _ => ⟨⟨_, (), rfl, ((if_pos c_1).trans (rfl)).symm, ht9⟩, hS.F ht9⟩) hS.2.2 dX10_isLetter_47
  · refine lv_iload_n hx hb dX10_isLetter_6 rfl (lv_at hl 0 rfl) ?_
    refine lv_bipush (v := (114 : Int32)) hx hb dX10_isLetter_7 (by decide) ?_
    refine lv_icmp_eq (tgt := 42) hx hb dX10_isLetter_9 (by decide) (fun c_2 => ?_) (fun c_2 => ?_)
    · refine lv_iconst (v := (1 : Int32)) hx hb dX10_isLetter_42 (by decide) ?_
      refine lv_goto (tgt := 47) hx hb dX10_isLetter_43 (by decide) ?_
      exact W.zret (v := _) hx hb hr rfl (fun t9 ht9 _ => ⟨⟨_, (), rfl, ((if_neg c_1).trans ((if_pos c_2).trans (rfl))).symm, ht9⟩, hS.F ht9⟩) hS.2.2 dX10_isLetter_47
    · refine lv_iload_n hx hb dX10_isLetter_12 rfl (lv_at hl 0 rfl) ?_
      refine lv_bipush (v := (119 : Int32)) hx hb dX10_isLetter_13 (by decide) ?_
      refine lv_icmp_eq (tgt := 42) hx hb dX10_isLetter_15 (by decide) (fun c_3 => ?_) (fun c_3 => ?_)
      · refine lv_iconst (v := (1 : Int32)) hx hb dX10_isLetter_42 (by decide) ?_
        refine lv_goto (tgt := 47) hx hb dX10_isLetter_43 (by decide) ?_
        exact W.zret (v := _) hx hb hr rfl (fun t9 ht9 _ => ⟨⟨_, (), rfl, ((if_neg c_1).trans ((if_neg c_2).trans ((if_pos c_3).trans (rfl)))).symm, ht9⟩, hS.F ht9⟩) hS.2.2 dX10_isLetter_47
      · refine lv_iload_n hx hb dX10_isLetter_18 rfl (lv_at hl 0 rfl) ?_
        refine lv_bipush (v := (110 : Int32)) hx hb dX10_isLetter_19 (by decide) ?_
        refine lv_icmp_eq (tgt := 42) hx hb dX10_isLetter_21 (by decide) (fun c_4 => ?_) (fun c_4 => ?_)
        · refine lv_iconst (v := (1 : Int32)) hx hb dX10_isLetter_42 (by decide) ?_
          refine lv_goto (tgt := 47) hx hb dX10_isLetter_43 (by decide) ?_
          exact W.zret (v := _) hx hb hr rfl (fun t9 ht9 _ => ⟨⟨_, (), rfl, ((if_neg c_1).trans ((if_neg c_2).trans ((if_neg c_3).trans ((if_pos c_4).trans (rfl))))).symm, ht9⟩, hS.F ht9⟩) hS.2.2 dX10_isLetter_47
        · refine lv_iload_n hx hb dX10_isLetter_24 rfl (lv_at hl 0 rfl) ?_
          refine lv_bipush (v := (118 : Int32)) hx hb dX10_isLetter_25 (by decide) ?_
          refine lv_icmp_eq (tgt := 42) hx hb dX10_isLetter_27 (by decide) (fun c_5 => ?_) (fun c_5 => ?_)
          · refine lv_iconst (v := (1 : Int32)) hx hb dX10_isLetter_42 (by decide) ?_
            refine lv_goto (tgt := 47) hx hb dX10_isLetter_43 (by decide) ?_
            exact W.zret (v := _) hx hb hr rfl (fun t9 ht9 _ => ⟨⟨_, (), rfl, ((if_neg c_1).trans ((if_neg c_2).trans ((if_neg c_3).trans ((if_neg c_4).trans ((if_pos c_5).trans (rfl)))))).symm, ht9⟩, hS.F ht9⟩) hS.2.2 dX10_isLetter_47
          · refine lv_iload_n hx hb dX10_isLetter_30 rfl (lv_at hl 0 rfl) ?_
            refine lv_bipush (v := (99 : Int32)) hx hb dX10_isLetter_31 (by decide) ?_
            refine lv_icmp_eq (tgt := 42) hx hb dX10_isLetter_33 (by decide) (fun c_6 => ?_) (fun c_6 => ?_)
            · refine lv_iconst (v := (1 : Int32)) hx hb dX10_isLetter_42 (by decide) ?_
              refine lv_goto (tgt := 47) hx hb dX10_isLetter_43 (by decide) ?_
              exact W.zret (v := _) hx hb hr rfl (fun t9 ht9 _ => ⟨⟨_, (), rfl, ((if_neg c_1).trans ((if_neg c_2).trans ((if_neg c_3).trans ((if_neg c_4).trans ((if_neg c_5).trans ((if_pos c_6).trans (rfl))))))).symm, ht9⟩, hS.F ht9⟩) hS.2.2 dX10_isLetter_47
            · refine lv_iload_n hx hb dX10_isLetter_36 rfl (lv_at hl 0 rfl) ?_
              refine lv_bipush (v := (112 : Int32)) hx hb dX10_isLetter_37 (by decide) ?_
              refine lv_icmp_ne (tgt := 46) hx hb dX10_isLetter_39 (by decide) (fun c_7 => ?_) (fun c_7 => ?_)
              · refine lv_iconst (v := (0 : Int32)) hx hb dX10_isLetter_46 (by decide) ?_
                exact W.zret (v := _) hx hb hr rfl (fun t9 ht9 _ => ⟨⟨_, (), rfl, ((if_neg c_1).trans ((if_neg c_2).trans ((if_neg c_3).trans ((if_neg c_4).trans ((if_neg c_5).trans ((if_neg c_6).trans ((if_neg c_7).trans (rfl)))))))).symm, ht9⟩, hS.F ht9⟩) hS.2.2 dX10_isLetter_47
              · refine lv_iconst (v := (1 : Int32)) hx hb dX10_isLetter_42 (by decide) ?_
                refine lv_goto (tgt := 47) hx hb dX10_isLetter_43 (by decide) ?_
                exact W.zret (v := _) hx hb hr rfl (fun t9 ht9 _ => ⟨⟨_, (), rfl, ((if_neg c_1).trans ((if_neg c_2).trans ((if_neg c_3).trans ((if_neg c_4).trans ((if_neg c_5).trans ((if_neg c_6).trans ((if_pos c_7).trans (rfl)))))))).symm, ht9⟩, hS.F ht9⟩) hS.2.2 dX10_isLetter_47
theorem Tz_isLetter (x : Int32) : narrow .boolean (.int (T_isLetter x)) = .int (T_isLetter x) := by
  unfold T_isLetter
  try dsimp only
  (repeat' split) <;> rfl
def T_most (x : UInt32) (y : UInt32) : UInt32 :=
  if (Op.cmpValue (FP.fcmp x y) .l) ≤ 0 then
    x
  else
    y
set_option maxHeartbeats 4000000 in
theorem tm_most (l : Launch) (E : mE) (x : UInt32) (y : UInt32) (H0 : Heap) : Met l yX10_most (ws_ yX10_most cX10_most 2 (some .float)) ({ frames := 0, cells := 0, slots := 0, locals := 0 }) (va_Pc [.float x, .float y] (pP E H0)) (va_Qf (fun (r : UInt32) (_ : Unit) => r = T_most x y) (fun _ U => hEq H0 U.heap) (eA E)) 0 0 (eA E) := by
  refine Met.ofW (cc := cX10_most) (maxL := 2) (ret := (some .float)) (by decide) rfl ?_
  intro p e s m args below meth c s₁ B hml hv
  obtain ⟨rfl, hs, hv⟩ := hv
  subst hv
  have hm : s.heap = s.heap := rfl
  have hx := B.exec
  have hb := B.bytes
  have hr := B.returns
  have hts := atoms_spec (ws := ws_ yX10_most cX10_most 2 (some .float)) B.pre
  have hts : ∀ w ∈ lw_all, w.before _ s = true := fun w h => hts w (List.mem_cons_of_mem _ h)
  have hown : s.vm.findClass RX10 = some m.cls := findClass_of_methodNamed B.named
  have hlocks := B.notSynchronized
  have hS : va_S (eA E) s.heap s.heap [] := va_S.rf
  have hl := lv_entry ([.float x, .float y]) (n := 2) (Nat.le_of_ble_eq_true rfl)
  rw [lg_entry_eq]
  generalize (lg_sl ([.float x, .float y]) ++ List.replicate (2 - (lg_sl ([.float x, .float y])).length) Slot.unset).toArray = ls at hl ⊢
  have hl : lv_has ls 2 [(0, .float (x)), (1, .float (y))] := hl
  refine lv_fload_n hx hb dX10_most_0 rfl (lv_at hl 0 rfl) ?_
  refine lv_fload_n hx hb dX10_most_1 rfl (lv_at hl 1 rfl) ?_
  refine lv_fcmp hx hb dX10_most_2 ?_
  refine lv_if_le (tgt := 10) hx hb dX10_most_3 (by decide) (fun c_1 => ?_) (fun c_1 => ?_)
  · refine lv_fload_n hx hb dX10_most_10 rfl (lv_at hl 0 rfl) ?_
    exact W.fret (v := _) hx hb hr (fun t9 ht9 _ => ⟨⟨_, (), rfl, ((if_pos c_1).trans (rfl)).symm, ht9⟩, hS.F ht9⟩) hS.2.2 dX10_most_11
  · refine lv_fload_n hx hb dX10_most_6 rfl (lv_at hl 1 rfl) ?_
    refine lv_goto (tgt := 11) hx hb dX10_most_7 (by decide) ?_
    exact W.fret (v := _) hx hb hr (fun t9 ht9 _ => ⟨⟨_, (), rfl, ((if_neg c_1).trans (rfl)).symm, ht9⟩, hS.F ht9⟩) hS.2.2 dX10_most_11
def T_least (x : UInt32) : UInt32 :=
  if 0 ≤ (Op.cmpValue (FP.fcmp x FP.fconst0) .g) then
    x
  else
    FP.fconst0
set_option maxHeartbeats 4000000 in
theorem tm_least (l : Launch) (E : mE) (x : UInt32) (H0 : Heap) : Met l yX10_least (ws_ yX10_least cX10_least 1 (some .float)) ({ frames := 0, cells := 0, slots := 0, locals := 0 }) (va_Pc [.float x] (pP E H0)) (va_Qf (fun (r : UInt32) (_ : Unit) => r = T_least x) (fun _ U => hEq H0 U.heap) (eA E)) 0 0 (eA E) := by
  refine Met.ofW (cc := cX10_least) (maxL := 1) (ret := (some .float)) (by decide) rfl ?_
  intro p e s m args below meth c s₁ B hml hv
  obtain ⟨rfl, hs, hv⟩ := hv
  subst hv
  have hm : s.heap = s.heap := rfl
  have hx := B.exec
  have hb := B.bytes
  have hr := B.returns
  have hts := atoms_spec (ws := ws_ yX10_least cX10_least 1 (some .float)) B.pre
  have hts : ∀ w ∈ lw_all, w.before _ s = true := fun w h => hts w (List.mem_cons_of_mem _ h)
  have hown : s.vm.findClass RX10 = some m.cls := findClass_of_methodNamed B.named
  have hlocks := B.notSynchronized
  have hS : va_S (eA E) s.heap s.heap [] := va_S.rf
  have hl := lv_entry ([.float x]) (n := 1) (Nat.le_of_ble_eq_true rfl)
  rw [lg_entry_eq]
  generalize (lg_sl ([.float x]) ++ List.replicate (1 - (lg_sl ([.float x])).length) Slot.unset).toArray = ls at hl ⊢
  have hl : lv_has ls 1 [(0, .float (x))] := hl
  refine lv_fload_n hx hb dX10_least_0 rfl (lv_at hl 0 rfl) ?_
  refine lv_fconst0 hx hb dX10_least_1 ?_
  refine lv_fcmp hx hb dX10_least_2 ?_
  refine lv_if_ge (tgt := 10) hx hb dX10_least_3 (by decide) (fun c_1 => ?_) (fun c_1 => ?_)
  · refine lv_fload_n hx hb dX10_least_10 rfl (lv_at hl 0 rfl) ?_
    exact W.fret (v := _) hx hb hr (fun t9 ht9 _ => ⟨⟨_, (), rfl, ((if_pos c_1).trans (rfl)).symm, ht9⟩, hS.F ht9⟩) hS.2.2 dX10_least_11
  · refine lv_fconst0 hx hb dX10_least_6 ?_
    refine lv_goto (tgt := 11) hx hb dX10_least_7 (by decide) ?_
    exact W.fret (v := _) hx hb hr (fun t9 ht9 _ => ⟨⟨_, (), rfl, ((if_neg c_1).trans (rfl)).symm, ht9⟩, hS.F ht9⟩) hS.2.2 dX10_least_11
def T_done (v : tw) (x : Int32) : Int32 × tw :=
  (x, (u18 v (0 : Int32)))
set_option maxHeartbeats 4000000 in
theorem tm_done (l : Launch) (E : mE) (h : Nat) (v : tw) (x : Int32)  : Met l yX10_done (ws_ yX10_done cX10_done 2 (some .int)) ({ frames := 0, cells := 0, slots := 0, locals := 0 }) (va_Pc [.ref h, .int x] (tP E h v)) (va_Qi (fun (r : Int32) (u : tw) => r = (T_done v x).1 ∧ u = (T_done v x).2) (fun u U => tW E h u U.heap) (eA E)) 0 0 (eA E) := by
  refine Met.ofW (cc := cX10_done) (maxL := 2) (ret := (some .int)) (by decide) rfl ?_
  intro p e s m args below meth c s₁ B hml hv
  obtain ⟨rfl, hs, hm⟩ := hv
  have hx := B.exec
  have hb := B.bytes
  have hr := B.returns
  have hts := atoms_spec (ws := ws_ yX10_done cX10_done 2 (some .int)) B.pre
  have hts : ∀ w ∈ lw_all, w.before _ s = true := fun w h => hts w (List.mem_cons_of_mem _ h)
  have hown : s.vm.findClass RX10 = some m.cls := findClass_of_methodNamed B.named
  have hlocks := B.notSynchronized
  have hS : va_S (eA E) s.heap s.heap [] := va_S.rf
  have hl := lv_entry ([.ref h, .int x]) (n := 2) (Nat.le_of_ble_eq_true rfl)
  rw [lg_entry_eq]
  generalize (lg_sl ([.ref h, .int x]) ++ List.replicate (2 - (lg_sl ([.ref h, .int x])).length) Slot.unset).toArray = ls at hl ⊢
  have hl : lv_has ls 2 [(0, .ref (h)), (1, .int (x))] := hl
  refine lv_aload_n hx hb dX10_done_0 rfl (lv_at hl 0 rfl) ?_
  refine lv_iconst (v := (0 : Int32)) hx hb dX10_done_1 (by decide) ?_
  refine tp_18 hx hb hts hown hs hm hS (hts _ q1692) dX10_done_2 (fun H locs hm hS => ?_)
  have hm : tW E h (u18 v (0 : Int32)) H := hm
  refine lv_iload_n hx hb dX10_done_5 rfl (lv_at hl 1 rfl) ?_
  exact W.iret (v := _) hx hb hr (fun t9 ht9 _ => ⟨⟨_, _, rfl, pp (rfl), hb9 ht9 hm⟩, hS.F ht9⟩) hS.2.2 dX10_done_6
def T_fails (v : tw) (x : Int32) : Int32 × tw :=
  ((0 : Int32), (u17 (u18 v x) (0 : Int32)))
set_option maxHeartbeats 4000000 in
theorem tm_fails (l : Launch) (E : mE) (h : Nat) (v : tw) (x : Int32)  : Met l yX10_fails (ws_ yX10_fails cX10_fails 2 (some .int)) ({ frames := 0, cells := 0, slots := 0, locals := 0 }) (va_Pc [.ref h, .int x] (tP E h v)) (va_Qi (fun (r : Int32) (u : tw) => r = (T_fails v x).1 ∧ u = (T_fails v x).2) (fun u U => tW E h u U.heap) (eA E)) 0 0 (eA E) := by
  refine Met.ofW (cc := cX10_fails) (maxL := 2) (ret := (some .int)) (by decide) rfl ?_
  intro p e s m args below meth c s₁ B hml hv
  obtain ⟨rfl, hs, hm⟩ := hv
  have hx := B.exec
  have hb := B.bytes
  have hr := B.returns
  have hts := atoms_spec (ws := ws_ yX10_fails cX10_fails 2 (some .int)) B.pre
  have hts : ∀ w ∈ lw_all, w.before _ s = true := fun w h => hts w (List.mem_cons_of_mem _ h)
  have hown : s.vm.findClass RX10 = some m.cls := findClass_of_methodNamed B.named
  have hlocks := B.notSynchronized
  have hS : va_S (eA E) s.heap s.heap [] := va_S.rf
  have hl := lv_entry ([.ref h, .int x]) (n := 2) (Nat.le_of_ble_eq_true rfl)
  rw [lg_entry_eq]
  generalize (lg_sl ([.ref h, .int x]) ++ List.replicate (2 - (lg_sl ([.ref h, .int x])).length) Slot.unset).toArray = ls at hl ⊢
  have hl : lv_has ls 2 [(0, .ref (h)), (1, .int (x))] := hl
  refine lv_aload_n hx hb dX10_fails_0 rfl (lv_at hl 0 rfl) ?_
  refine lv_iload_n hx hb dX10_fails_1 rfl (lv_at hl 1 rfl) ?_
  refine tp_18 hx hb hts hown hs hm hS (hts _ q1692) dX10_fails_2 (fun H locs hm hS => ?_)
  have hm : tW E h (u18 v x) H := hm
  refine lv_aload_n hx hb dX10_fails_5 rfl (lv_at hl 0 rfl) ?_
  refine lv_iconst (v := (0 : Int32)) hx hb dX10_fails_6 (by decide) ?_
  refine tp_17 hx hb hts hown hs hm hS (hts _ q1691) rfl rfl dX10_fails_7 (fun H locs hm hS => ?_)
  have hm : tW E h (u17 (u18 v x) (0 : Int32)) H := hm
  refine lv_iconst (v := (0 : Int32)) hx hb dX10_fails_10 (by decide) ?_
  exact W.iret (v := _) hx hb hr (fun t9 ht9 _ => ⟨⟨_, _, rfl, pp (rfl), hb9 ht9 hm⟩, hS.F ht9⟩) hS.2.2 dX10_fails_11
def T_refused (v : tw) (x : Int32) (y : Int32) (z : Int32) : Int32 × tw :=
  ((0 : Int32), (u17 (u18 (u16 (u15 v x) y) z) (1 : Int32)))
set_option maxHeartbeats 4000000 in
theorem tm_refused (l : Launch) (E : mE) (h : Nat) (v : tw) (x : Int32) (y : Int32) (z : Int32)  : Met l yX10_refused (ws_ yX10_refused cX10_refused 4 (some .int)) ({ frames := 0, cells := 0, slots := 0, locals := 0 }) (va_Pc [.ref h, .int x, .int y, .int z] (tP E h v)) (va_Qi (fun (r : Int32) (u : tw) => r = (T_refused v x y z).1 ∧ u = (T_refused v x y z).2) (fun u U => tW E h u U.heap) (eA E)) 0 0 (eA E) := by
  refine Met.ofW (cc := cX10_refused) (maxL := 4) (ret := (some .int)) (by decide) rfl ?_
  intro p e s m args below meth c s₁ B hml hv
  obtain ⟨rfl, hs, hm⟩ := hv
  have hx := B.exec
  have hb := B.bytes
  have hr := B.returns
  have hts := atoms_spec (ws := ws_ yX10_refused cX10_refused 4 (some .int)) B.pre
  have hts : ∀ w ∈ lw_all, w.before _ s = true := fun w h => hts w (List.mem_cons_of_mem _ h)
  have hown : s.vm.findClass RX10 = some m.cls := findClass_of_methodNamed B.named
  have hlocks := B.notSynchronized
  have hS : va_S (eA E) s.heap s.heap [] := va_S.rf
  have hl := lv_entry ([.ref h, .int x, .int y, .int z]) (n := 4) (Nat.le_of_ble_eq_true rfl)
  rw [lg_entry_eq]
  generalize (lg_sl ([.ref h, .int x, .int y, .int z]) ++ List.replicate (4 - (lg_sl ([.ref h, .int x, .int y, .int z])).length) Slot.unset).toArray = ls at hl ⊢
  have hl : lv_has ls 4 [(0, .ref (h)), (1, .int (x)), (2, .int (y)), (3, .int (z))] := hl
  refine lv_aload_n hx hb dX10_refused_0 rfl (lv_at hl 0 rfl) ?_
  refine lv_iload_n hx hb dX10_refused_1 rfl (lv_at hl 1 rfl) ?_
  refine tp_15 hx hb hts hown hs hm hS (hts _ q1689) dX10_refused_2 (fun H locs hm hS => ?_)
  have hm : tW E h (u15 v x) H := hm
  refine lv_aload_n hx hb dX10_refused_5 rfl (lv_at hl 0 rfl) ?_
  refine lv_iload_n hx hb dX10_refused_6 rfl (lv_at hl 2 rfl) ?_
  refine tp_16 hx hb hts hown hs hm hS (hts _ q1690) dX10_refused_7 (fun H locs hm hS => ?_)
  have hm : tW E h (u16 (u15 v x) y) H := hm
  refine lv_aload_n hx hb dX10_refused_10 rfl (lv_at hl 0 rfl) ?_
  refine lv_iload_n hx hb dX10_refused_11 rfl (lv_at hl 3 rfl) ?_
  refine tp_18 hx hb hts hown hs hm hS (hts _ q1692) dX10_refused_12 (fun H locs hm hS => ?_)
  have hm : tW E h (u18 (u16 (u15 v x) y) z) H := hm
  refine lv_aload_n hx hb dX10_refused_15 rfl (lv_at hl 0 rfl) ?_
  refine lv_iconst (v := (1 : Int32)) hx hb dX10_refused_16 (by decide) ?_
  refine tp_17 hx hb hts hown hs hm hS (hts _ q1691) rfl rfl dX10_refused_17 (fun H locs hm hS => ?_)
  have hm : tW E h (u17 (u18 (u16 (u15 v x) y) z) (1 : Int32)) H := hm
  refine lv_iconst (v := (0 : Int32)) hx hb dX10_refused_20 (by decide) ?_
  exact W.iret (v := _) hx hb hr (fun t9 ht9 _ => ⟨⟨_, _, rfl, pp (rfl), hb9 ht9 hm⟩, hS.F ht9⟩) hS.2.2 dX10_refused_21
def T_thrown (v : tw)  : Int32 × tw :=
  ((t18 v), v)
set_option maxHeartbeats 4000000 in
theorem tm_thrown (l : Launch) (E : mE) (h : Nat) (v : tw)   : Met l yX10_thrown (ws_ yX10_thrown cX10_thrown 1 (some .int)) ({ frames := 0, cells := 0, slots := 0, locals := 0 }) (va_Pc [.ref h] (tP E h v)) (va_Qi (fun (r : Int32) (u : tw) => r = (T_thrown v ).1 ∧ u = (T_thrown v ).2) (fun u U => tW E h u U.heap) (eA E)) 0 0 (eA E) := by
  refine Met.ofW (cc := cX10_thrown) (maxL := 1) (ret := (some .int)) (by decide) rfl ?_
  intro p e s m args below meth c s₁ B hml hv
  obtain ⟨rfl, hs, hm⟩ := hv
  have hx := B.exec
  have hb := B.bytes
  have hr := B.returns
  have hts := atoms_spec (ws := ws_ yX10_thrown cX10_thrown 1 (some .int)) B.pre
  have hts : ∀ w ∈ lw_all, w.before _ s = true := fun w h => hts w (List.mem_cons_of_mem _ h)
  have hown : s.vm.findClass RX10 = some m.cls := findClass_of_methodNamed B.named
  have hlocks := B.notSynchronized
  have hS : va_S (eA E) s.heap s.heap [] := va_S.rf
  have hl := lv_entry ([.ref h]) (n := 1) (Nat.le_of_ble_eq_true rfl)
  rw [lg_entry_eq]
  generalize (lg_sl ([.ref h]) ++ List.replicate (1 - (lg_sl ([.ref h])).length) Slot.unset).toArray = ls at hl ⊢
  have hl : lv_has ls 1 [(0, .ref (h))] := hl
  refine lv_aload_n hx hb dX10_thrown_0 rfl (lv_at hl 0 rfl) ?_
  refine tg_18 hx hb hts hown hs hm (hts _ q1692) dX10_thrown_1 ?_
  exact W.iret (v := _) hx hb hr (fun t9 ht9 _ => ⟨⟨_, _, rfl, pp (rfl), hb9 ht9 hm⟩, hS.F ht9⟩) hS.2.2 dX10_thrown_4
def T_looksBack (v : tw)  : tw :=
  (u3 (u2 v (va_cpy (t0 v) (t2 v) (0) (0) 112)) (va_cpy (t1 v) (t3 v) (0) (0) 33))
set_option maxHeartbeats 4000000 in
theorem tm_looksBack (l : Launch) (E : mE) (h : Nat) (v : tw)   : Met l yX10_looksBack (ws_ yX10_looksBack cX10_looksBack 1 none) ({ frames := 1, cells := 0, slots := 0, locals := 24 }) (va_Pc [.ref h] (tP E h v)) (va_Qv (fun (u : tw) => u = T_looksBack v ) (fun u U => tW E h u U.heap) (eA E)) 0 0 (eA E) := by
  refine Met.ofW (cc := cX10_looksBack) (maxL := 1) (ret := none) (by decide) rfl ?_
  intro p e s m args below meth c s₁ B hml hv
  obtain ⟨rfl, hs, hm⟩ := hv
  have hx := B.exec
  have hb := B.bytes
  have hr := B.returns
  have hts := atoms_spec (ws := ws_ yX10_looksBack cX10_looksBack 1 none) B.pre
  have hts : ∀ w ∈ lw_all, w.before _ s = true := fun w h => hts w (List.mem_cons_of_mem _ h)
  have hown : s.vm.findClass RX10 = some m.cls := findClass_of_methodNamed B.named
  have hlocks := B.notSynchronized
  have hS : va_S (eA E) s.heap s.heap [] := va_S.rf
  have hl := lv_entry ([.ref h]) (n := 1) (Nat.le_of_ble_eq_true rfl)
  rw [lg_entry_eq]
  generalize (lg_sl ([.ref h]) ++ List.replicate (1 - (lg_sl ([.ref h])).length) Slot.unset).toArray = ls at hl ⊢
  have hl : lv_has ls 1 [(0, .ref (h))] := hl
  refine lv_aload_n hx hb dX10_looksBack_0 rfl (lv_at hl 0 rfl) ?_
  refine tg_0 hx hb hts hown hs hm (hts _ q1674) dX10_looksBack_1 ?_
  refine lv_iconst (v := (0 : Int32)) hx hb dX10_looksBack_4 (by decide) ?_
  refine lv_aload_n hx hb dX10_looksBack_5 rfl (lv_at hl 0 rfl) ?_
  refine tg_2 hx hb hts hown hs hm (hts _ q1676) dX10_looksBack_6 ?_
  refine lv_iconst (v := (0 : Int32)) hx hb dX10_looksBack_9 (by decide) ?_
  refine k_call2 1 3 hm rfl rfl (va_runS (As := [.ref (h + 1), .int (nI (0)), .ref (h + 3), .int (nI (0))]) (rest := []) ⟨hx, hb, hml, hown, hts⟩ (tm_copy l E _ _ _ _ _ _ (0) (0) (by decide) (by decide) (by decide) (by decide)) (va_cwS 4 hts (lw_S q1753 q1754 q80 q1755) rfl rfl rfl (by decide +kernel) ⟨Nat.le_of_ble_eq_true rfl, Nat.le_of_ble_eq_true rfl⟩) (k_pre2 (qa := 1) (qb := 3) hs hm rfl rfl (by decide)) rfl rfl hl.1 rfl (lv_room (Nat.le_of_ble_eq_true rfl)) dX10_looksBack_10 ⟨Nat.le_of_ble_eq_true rfl, Nat.le_of_ble_eq_true rfl⟩) hS (fun H locs hm hS => ?_)
  have hm := tW_set_2 hm
  have hm : tW E h (u2 v (va_cpy (t0 v) (t2 v) (0) (0) 112)) H := hm
  refine lv_aload_n hx hb dX10_looksBack_13 rfl (lv_at hl 0 rfl) ?_
  refine tg_1 hx hb hts hown hs hm (hts _ q1675) dX10_looksBack_14 ?_
  refine lv_iconst (v := (0 : Int32)) hx hb dX10_looksBack_17 (by decide) ?_
  refine lv_aload_n hx hb dX10_looksBack_18 rfl (lv_at hl 0 rfl) ?_
  refine tg_3 hx hb hts hown hs hm (hts _ q1677) dX10_looksBack_19 ?_
  refine lv_iconst (v := (0 : Int32)) hx hb dX10_looksBack_22 (by decide) ?_
  refine k_call2 2 4 hm rfl rfl (va_runS (As := [.ref (h + 2), .int (nI (0)), .ref (h + 4), .int (nI (0))]) (rest := []) ⟨hx, hb, hml, hown, hts⟩ (tm_copyFloats l E _ _ _ _ _ _ (0) (0) (by decide) (by decide) (by decide) (by decide)) (va_cwS 4 hts (lw_S q1756 q1757 q80 q1758) rfl rfl rfl (by decide +kernel) ⟨Nat.le_of_ble_eq_true rfl, Nat.le_of_ble_eq_true rfl⟩) (k_pre2 (qa := 2) (qb := 4) hs hm rfl rfl (by decide)) rfl rfl hl.1 rfl (lv_room (Nat.le_of_ble_eq_true rfl)) dX10_looksBack_23 ⟨Nat.le_of_ble_eq_true rfl, Nat.le_of_ble_eq_true rfl⟩) hS (fun H locs hm hS => ?_)
  have hm := tW_set_3 hm
  have hm : tW E h (u3 (u2 v (va_cpy (t0 v) (t2 v) (0) (0) 112)) (va_cpy (t1 v) (t3 v) (0) (0) 33)) H := hm
  exact W.vret hx hb hr (fun t9 ht9 _ => ⟨⟨_, rfl, (rfl).symm, hb9 ht9 hm⟩, hS.F ht9⟩) hS.2.2 dX10_looksBack_26
def T_laysAside (v : tw)  : tw :=
  (u11 (u10 v (va_cpy (t0 v) (t10 v) (0) (0) 112)) (va_cpy (t1 v) (t11 v) (0) (0) 33))
set_option maxHeartbeats 4000000 in
theorem tm_laysAside (l : Launch) (E : mE) (h : Nat) (v : tw)   : Met l yX10_laysAside (ws_ yX10_laysAside cX10_laysAside 1 none) ({ frames := 1, cells := 0, slots := 0, locals := 24 }) (va_Pc [.ref h] (tP E h v)) (va_Qv (fun (u : tw) => u = T_laysAside v ) (fun u U => tW E h u U.heap) (eA E)) 0 0 (eA E) := by
  refine Met.ofW (cc := cX10_laysAside) (maxL := 1) (ret := none) (by decide) rfl ?_
  intro p e s m args below meth c s₁ B hml hv
  obtain ⟨rfl, hs, hm⟩ := hv
  have hx := B.exec
  have hb := B.bytes
  have hr := B.returns
  have hts := atoms_spec (ws := ws_ yX10_laysAside cX10_laysAside 1 none) B.pre
  have hts : ∀ w ∈ lw_all, w.before _ s = true := fun w h => hts w (List.mem_cons_of_mem _ h)
  have hown : s.vm.findClass RX10 = some m.cls := findClass_of_methodNamed B.named
  have hlocks := B.notSynchronized
  have hS : va_S (eA E) s.heap s.heap [] := va_S.rf
  have hl := lv_entry ([.ref h]) (n := 1) (Nat.le_of_ble_eq_true rfl)
  rw [lg_entry_eq]
  generalize (lg_sl ([.ref h]) ++ List.replicate (1 - (lg_sl ([.ref h])).length) Slot.unset).toArray = ls at hl ⊢
  have hl : lv_has ls 1 [(0, .ref (h))] := hl
  refine lv_aload_n hx hb dX10_laysAside_0 rfl (lv_at hl 0 rfl) ?_
  refine tg_0 hx hb hts hown hs hm (hts _ q1674) dX10_laysAside_1 ?_
  refine lv_iconst (v := (0 : Int32)) hx hb dX10_laysAside_4 (by decide) ?_
  refine lv_aload_n hx hb dX10_laysAside_5 rfl (lv_at hl 0 rfl) ?_
  refine tg_10 hx hb hts hown hs hm (hts _ q1684) dX10_laysAside_6 ?_
  refine lv_iconst (v := (0 : Int32)) hx hb dX10_laysAside_9 (by decide) ?_
  refine k_call2 1 9 hm rfl rfl (va_runS (As := [.ref (h + 1), .int (nI (0)), .ref (h + 9), .int (nI (0))]) (rest := []) ⟨hx, hb, hml, hown, hts⟩ (tm_copy l E _ _ _ _ _ _ (0) (0) (by decide) (by decide) (by decide) (by decide)) (va_cwS 4 hts (lw_S q1753 q1754 q80 q1755) rfl rfl rfl (by decide +kernel) ⟨Nat.le_of_ble_eq_true rfl, Nat.le_of_ble_eq_true rfl⟩) (k_pre2 (qa := 1) (qb := 9) hs hm rfl rfl (by decide)) rfl rfl hl.1 rfl (lv_room (Nat.le_of_ble_eq_true rfl)) dX10_laysAside_10 ⟨Nat.le_of_ble_eq_true rfl, Nat.le_of_ble_eq_true rfl⟩) hS (fun H locs hm hS => ?_)
  have hm := tW_set_10 hm
  have hm : tW E h (u10 v (va_cpy (t0 v) (t10 v) (0) (0) 112)) H := hm
  refine lv_aload_n hx hb dX10_laysAside_13 rfl (lv_at hl 0 rfl) ?_
  refine tg_1 hx hb hts hown hs hm (hts _ q1675) dX10_laysAside_14 ?_
  refine lv_iconst (v := (0 : Int32)) hx hb dX10_laysAside_17 (by decide) ?_
  refine lv_aload_n hx hb dX10_laysAside_18 rfl (lv_at hl 0 rfl) ?_
  refine tg_11 hx hb hts hown hs hm (hts _ q1685) dX10_laysAside_19 ?_
  refine lv_iconst (v := (0 : Int32)) hx hb dX10_laysAside_22 (by decide) ?_
  refine k_call2 2 10 hm rfl rfl (va_runS (As := [.ref (h + 2), .int (nI (0)), .ref (h + 10), .int (nI (0))]) (rest := []) ⟨hx, hb, hml, hown, hts⟩ (tm_copyFloats l E _ _ _ _ _ _ (0) (0) (by decide) (by decide) (by decide) (by decide)) (va_cwS 4 hts (lw_S q1756 q1757 q80 q1758) rfl rfl rfl (by decide +kernel) ⟨Nat.le_of_ble_eq_true rfl, Nat.le_of_ble_eq_true rfl⟩) (k_pre2 (qa := 2) (qb := 10) hs hm rfl rfl (by decide)) rfl rfl hl.1 rfl (lv_room (Nat.le_of_ble_eq_true rfl)) dX10_laysAside_23 ⟨Nat.le_of_ble_eq_true rfl, Nat.le_of_ble_eq_true rfl⟩) hS (fun H locs hm hS => ?_)
  have hm := tW_set_11 hm
  have hm : tW E h (u11 (u10 v (va_cpy (t0 v) (t10 v) (0) (0) 112)) (va_cpy (t1 v) (t11 v) (0) (0) 33)) H := hm
  exact W.vret hx hb hr (fun t9 ht9 _ => ⟨⟨_, rfl, (rfl).symm, hb9 ht9 hm⟩, hS.F ht9⟩) hS.2.2 dX10_laysAside_26
def T_laysBack (v : tw)  : tw :=
  (u1 (u0 v (va_cpy (t10 v) (t0 v) (0) (0) 112)) (va_cpy (t11 v) (t1 v) (0) (0) 33))
set_option maxHeartbeats 4000000 in
theorem tm_laysBack (l : Launch) (E : mE) (h : Nat) (v : tw)   : Met l yX10_laysBack (ws_ yX10_laysBack cX10_laysBack 1 none) ({ frames := 1, cells := 0, slots := 0, locals := 24 }) (va_Pc [.ref h] (tP E h v)) (va_Qv (fun (u : tw) => u = T_laysBack v ) (fun u U => tW E h u U.heap) (eA E)) 0 0 (eA E) := by
  refine Met.ofW (cc := cX10_laysBack) (maxL := 1) (ret := none) (by decide) rfl ?_
  intro p e s m args below meth c s₁ B hml hv
  obtain ⟨rfl, hs, hm⟩ := hv
  have hx := B.exec
  have hb := B.bytes
  have hr := B.returns
  have hts := atoms_spec (ws := ws_ yX10_laysBack cX10_laysBack 1 none) B.pre
  have hts : ∀ w ∈ lw_all, w.before _ s = true := fun w h => hts w (List.mem_cons_of_mem _ h)
  have hown : s.vm.findClass RX10 = some m.cls := findClass_of_methodNamed B.named
  have hlocks := B.notSynchronized
  have hS : va_S (eA E) s.heap s.heap [] := va_S.rf
  have hl := lv_entry ([.ref h]) (n := 1) (Nat.le_of_ble_eq_true rfl)
  rw [lg_entry_eq]
  generalize (lg_sl ([.ref h]) ++ List.replicate (1 - (lg_sl ([.ref h])).length) Slot.unset).toArray = ls at hl ⊢
  have hl : lv_has ls 1 [(0, .ref (h))] := hl
  refine lv_aload_n hx hb dX10_laysBack_0 rfl (lv_at hl 0 rfl) ?_
  refine tg_10 hx hb hts hown hs hm (hts _ q1684) dX10_laysBack_1 ?_
  refine lv_iconst (v := (0 : Int32)) hx hb dX10_laysBack_4 (by decide) ?_
  refine lv_aload_n hx hb dX10_laysBack_5 rfl (lv_at hl 0 rfl) ?_
  refine tg_0 hx hb hts hown hs hm (hts _ q1674) dX10_laysBack_6 ?_
  refine lv_iconst (v := (0 : Int32)) hx hb dX10_laysBack_9 (by decide) ?_
  refine k_call2 9 1 hm rfl rfl (va_runS (As := [.ref (h + 9), .int (nI (0)), .ref (h + 1), .int (nI (0))]) (rest := []) ⟨hx, hb, hml, hown, hts⟩ (tm_copy l E _ _ _ _ _ _ (0) (0) (by decide) (by decide) (by decide) (by decide)) (va_cwS 4 hts (lw_S q1753 q1754 q80 q1755) rfl rfl rfl (by decide +kernel) ⟨Nat.le_of_ble_eq_true rfl, Nat.le_of_ble_eq_true rfl⟩) (k_pre2 (qa := 9) (qb := 1) hs hm rfl rfl (by decide)) rfl rfl hl.1 rfl (lv_room (Nat.le_of_ble_eq_true rfl)) dX10_laysBack_10 ⟨Nat.le_of_ble_eq_true rfl, Nat.le_of_ble_eq_true rfl⟩) hS (fun H locs hm hS => ?_)
  have hm := tW_set_0 hm
  have hm : tW E h (u0 v (va_cpy (t10 v) (t0 v) (0) (0) 112)) H := hm
  refine lv_aload_n hx hb dX10_laysBack_13 rfl (lv_at hl 0 rfl) ?_
  refine tg_11 hx hb hts hown hs hm (hts _ q1685) dX10_laysBack_14 ?_
  refine lv_iconst (v := (0 : Int32)) hx hb dX10_laysBack_17 (by decide) ?_
  refine lv_aload_n hx hb dX10_laysBack_18 rfl (lv_at hl 0 rfl) ?_
  refine tg_1 hx hb hts hown hs hm (hts _ q1675) dX10_laysBack_19 ?_
  refine lv_iconst (v := (0 : Int32)) hx hb dX10_laysBack_22 (by decide) ?_
  refine k_call2 10 2 hm rfl rfl (va_runS (As := [.ref (h + 10), .int (nI (0)), .ref (h + 2), .int (nI (0))]) (rest := []) ⟨hx, hb, hml, hown, hts⟩ (tm_copyFloats l E _ _ _ _ _ _ (0) (0) (by decide) (by decide) (by decide) (by decide)) (va_cwS 4 hts (lw_S q1756 q1757 q80 q1758) rfl rfl rfl (by decide +kernel) ⟨Nat.le_of_ble_eq_true rfl, Nat.le_of_ble_eq_true rfl⟩) (k_pre2 (qa := 10) (qb := 2) hs hm rfl rfl (by decide)) rfl rfl hl.1 rfl (lv_room (Nat.le_of_ble_eq_true rfl)) dX10_laysBack_23 ⟨Nat.le_of_ble_eq_true rfl, Nat.le_of_ble_eq_true rfl⟩) hS (fun H locs hm hS => ?_)
  have hm := tW_set_1 hm
  have hm : tW E h (u1 (u0 v (va_cpy (t10 v) (t0 v) (0) (0) 112)) (va_cpy (t11 v) (t1 v) (0) (0) 33)) H := hm
  exact W.vret hx hb hr (fun t9 ht9 _ => ⟨⟨_, rfl, (rfl).symm, hb9 ht9 hm⟩, hS.F ht9⟩) hS.2.2 dX10_laysBack_26
def T_blows (v : tw) (x : Int32) : Int32 × tw :=
  let r_1 := T_in (x) ((0 : Int32)) ((12 : Int32));
  if r_1 = 0 then
    ((0 : Int32), (T_fails v (1 : Int32)).2)
  else
    ((t0 v ((1 : Int32)).toNatClampNeg), (u18 (u0 v (upd (t0 v) ((1 : Int32)).toNatClampNeg x)) (0 : Int32)))
set_option maxHeartbeats 4000000 in
theorem tm_blows (l : Launch) (E : mE) (h : Nat) (v : tw) (x : Int32)  : Met l yX10_blows (ws_ yX10_blows cX10_blows 3 (some .int)) ({ frames := 1, cells := 0, slots := 0, locals := 22 }) (va_Pc [.ref h, .int x] (tP E h v)) (va_Qi (fun (r : Int32) (u : tw) => r = (T_blows v x).1 ∧ u = (T_blows v x).2) (fun u U => tW E h u U.heap) (eA E)) 0 0 (eA E) := by
  refine Met.ofW (cc := cX10_blows) (maxL := 3) (ret := (some .int)) (by decide) rfl ?_
  intro p e s m args below meth c s₁ B hml hv
  obtain ⟨rfl, hs, hm⟩ := hv
  have hx := B.exec
  have hb := B.bytes
  have hr := B.returns
  have hts := atoms_spec (ws := ws_ yX10_blows cX10_blows 3 (some .int)) B.pre
  have hts : ∀ w ∈ lw_all, w.before _ s = true := fun w h => hts w (List.mem_cons_of_mem _ h)
  have hown : s.vm.findClass RX10 = some m.cls := findClass_of_methodNamed B.named
  have hlocks := B.notSynchronized
  have hS : va_S (eA E) s.heap s.heap [] := va_S.rf
  have hl := lv_entry ([.ref h, .int x]) (n := 3) (Nat.le_of_ble_eq_true rfl)
  rw [lg_entry_eq]
  generalize (lg_sl ([.ref h, .int x]) ++ List.replicate (3 - (lg_sl ([.ref h, .int x])).length) Slot.unset).toArray = ls at hl ⊢
  have hl : lv_has ls 3 [(0, .ref (h)), (1, .int (x))] := hl
  refine lv_iload_n hx hb dX10_blows_0 rfl (lv_at hl 1 rfl) ?_
  refine lv_iconst (v := (0 : Int32)) hx hb dX10_blows_1 (by decide) ?_
  refine lv_bipush (v := (12 : Int32)) hx hb dX10_blows_2 (by decide) ?_
  refine k_calli (va_runS (As := [.int (x), .int ((0 : Int32)), .int ((12 : Int32))]) (rest := []) ⟨hx, hb, hml, hown, hts⟩ (tm_in l E (x) ((0 : Int32)) ((12 : Int32)) _) (va_cwS 3 hts (lw_S q1763 q1764 q80 q1765) rfl rfl rfl (by decide +kernel) ⟨Nat.le_of_ble_eq_true rfl, Nat.le_of_ble_eq_true rfl⟩) (k_pure hs hS) rfl rfl hl.1 rfl (lv_room (Nat.le_of_ble_eq_true rfl)) dX10_blows_4 ⟨Nat.le_of_ble_eq_true rfl, Nat.le_of_ble_eq_true rfl⟩) hS (fun r_1 u_1 H9 locs hw_1 hm_1 hS => ?_)
  replace hm_1 : _ = H9 := Eq.symm hm_1
  subst hm_1
  have hr_1 := hw_1
  refine lv_if_ne (tgt := 16) hx hb dX10_blows_7 (by decide) (fun c_2 => ?_) (fun c_2 => ?_)
  · refine lv_aload_n hx hb dX10_blows_16 rfl (lv_at hl 0 rfl) ?_
    refine tg_0 hx hb hts hown hs hm (hts _ q1674) dX10_blows_17 ?_
    refine lv_iconst (v := (1 : Int32)) hx hb dX10_blows_20 (by decide) ?_
    refine tl_0 hx hb hs hm (vi 1 (by decide) (by decide)) dX10_blows_21 ?_
    refine lv_istore_n (lv' := [(2, _), (0, _), (1, _)]) hx hb dX10_blows_22 rfl hl (by decide) rfl (fun ls hl => ?_)
    refine lv_aload_n hx hb dX10_blows_23 rfl (lv_at hl 1 rfl) ?_
    refine tg_0 hx hb hts hown hs hm (hts _ q1674) dX10_blows_24 ?_
    refine lv_iconst (v := (1 : Int32)) hx hb dX10_blows_27 (by decide) ?_
    refine lv_iload_n hx hb dX10_blows_28 rfl (lv_at hl 2 rfl) ?_
    refine ts_0 hx hb hs hm hS (vi 1 (by decide) (by decide)) dX10_blows_29 (fun H locs hm hS => ?_)
    have hm : tW E h (u0 v (upd (t0 v) ((1 : Int32)).toNatClampNeg x)) H := hm
    refine lv_aload_n hx hb dX10_blows_30 rfl (lv_at hl 1 rfl) ?_
    refine lv_iload_n hx hb dX10_blows_31 rfl (lv_at hl 0 rfl) ?_
    refine k_calli (va_runV (As := [.int ((t0 v ((1 : Int32)).toNatClampNeg))]) (rest := []) ⟨hx, hb, hml, hown, hts⟩ (tm_done l E h (u0 v (upd (t0 v) ((1 : Int32)).toNatClampNeg x)) ((t0 v ((1 : Int32)).toNatClampNeg)) ) (cwV 1 hts (lw_V q1770 q1772 qs24 q80 q1773) rfl rfl rfl (by decide +kernel) ⟨Nat.le_of_ble_eq_true rfl, Nat.le_of_ble_eq_true rfl⟩) (k_preVt hs hm hS) rfl rfl hl.1 rfl (lv_room (Nat.le_of_ble_eq_true rfl)) dX10_blows_32 ⟨Nat.le_of_ble_eq_true rfl, Nat.le_of_ble_eq_true rfl⟩) hS (fun r_3 u_3 H9 locs hw_3 hm_3 hS => ?_)
    replace hw_3 : r_3 = (t0 v ((1 : Int32)).toNatClampNeg) ∧ u_3 = (u18 (u0 v (upd (t0 v) ((1 : Int32)).toNatClampNeg x)) (0 : Int32)) := hw_3
    obtain ⟨hr_3, hw_3⟩ := hw_3
    replace hr_3 := hr_3.symm
    subst hr_3
    replace hw_3 := hw_3.symm
    subst hw_3
    have hm := hm_3
    subst hr_1
    exact W.iret (v := _) hx hb hr (fun t9 ht9 _ => ⟨⟨_, _, rfl, pp ((if_neg c_2).trans (rfl)), hb9 ht9 hm⟩, hS.F ht9⟩) hS.2.2 dX10_blows_35
  · refine lv_aload_n hx hb dX10_blows_10 rfl (lv_at hl 0 rfl) ?_
    refine lv_iconst (v := (1 : Int32)) hx hb dX10_blows_11 (by decide) ?_
    refine k_calli (va_runV (As := [.int ((1 : Int32))]) (rest := []) ⟨hx, hb, hml, hown, hts⟩ (tm_fails l E h v ((1 : Int32)) ) (cwV 1 hts (lw_V q1766 q1768 qs23 q80 q1769) rfl rfl rfl (by decide +kernel) ⟨Nat.le_of_ble_eq_true rfl, Nat.le_of_ble_eq_true rfl⟩) (k_preVt hs hm hS) rfl rfl hl.1 rfl (lv_room (Nat.le_of_ble_eq_true rfl)) dX10_blows_12 ⟨Nat.le_of_ble_eq_true rfl, Nat.le_of_ble_eq_true rfl⟩) hS (fun r_4 u_4 H9 locs hw_4 hm_4 hS => ?_)
    replace hw_4 : r_4 = (0 : Int32) ∧ u_4 = (T_fails v (1 : Int32)).2 := hw_4
    obtain ⟨hr_4, hw_4⟩ := hw_4
    replace hr_4 := hr_4.symm
    subst hr_4
    replace hw_4 := hw_4.symm
    subst hw_4
    have hm := hm_4
    subst hr_1
    exact W.iret (v := _) hx hb hr (fun t9 ht9 _ => ⟨⟨_, _, rfl, pp ((if_pos c_2).trans (rfl)), hb9 ht9 hm⟩, hS.F ht9⟩) hS.2.2 dX10_blows_15
def T_rains (v : tw) (x : Int32) : Int32 × tw :=
  let r_1 := T_in (x) ((0 : Int32)) ((20 : Int32));
  if r_1 = 0 then
    ((0 : Int32), (T_fails v (1 : Int32)).2)
  else
    ((t0 v ((2 : Int32)).toNatClampNeg), (u18 (u0 v (upd (t0 v) ((2 : Int32)).toNatClampNeg x)) (0 : Int32)))
set_option maxHeartbeats 4000000 in
theorem tm_rains (l : Launch) (E : mE) (h : Nat) (v : tw) (x : Int32)  : Met l yX10_rains (ws_ yX10_rains cX10_rains 3 (some .int)) ({ frames := 1, cells := 0, slots := 0, locals := 22 }) (va_Pc [.ref h, .int x] (tP E h v)) (va_Qi (fun (r : Int32) (u : tw) => r = (T_rains v x).1 ∧ u = (T_rains v x).2) (fun u U => tW E h u U.heap) (eA E)) 0 0 (eA E) := by
  refine Met.ofW (cc := cX10_rains) (maxL := 3) (ret := (some .int)) (by decide) rfl ?_
  intro p e s m args below meth c s₁ B hml hv
  obtain ⟨rfl, hs, hm⟩ := hv
  have hx := B.exec
  have hb := B.bytes
  have hr := B.returns
  have hts := atoms_spec (ws := ws_ yX10_rains cX10_rains 3 (some .int)) B.pre
  have hts : ∀ w ∈ lw_all, w.before _ s = true := fun w h => hts w (List.mem_cons_of_mem _ h)
  have hown : s.vm.findClass RX10 = some m.cls := findClass_of_methodNamed B.named
  have hlocks := B.notSynchronized
  have hS : va_S (eA E) s.heap s.heap [] := va_S.rf
  have hl := lv_entry ([.ref h, .int x]) (n := 3) (Nat.le_of_ble_eq_true rfl)
  rw [lg_entry_eq]
  generalize (lg_sl ([.ref h, .int x]) ++ List.replicate (3 - (lg_sl ([.ref h, .int x])).length) Slot.unset).toArray = ls at hl ⊢
  have hl : lv_has ls 3 [(0, .ref (h)), (1, .int (x))] := hl
  refine lv_iload_n hx hb dX10_rains_0 rfl (lv_at hl 1 rfl) ?_
  refine lv_iconst (v := (0 : Int32)) hx hb dX10_rains_1 (by decide) ?_
  refine lv_bipush (v := (20 : Int32)) hx hb dX10_rains_2 (by decide) ?_
  refine k_calli (va_runS (As := [.int (x), .int ((0 : Int32)), .int ((20 : Int32))]) (rest := []) ⟨hx, hb, hml, hown, hts⟩ (tm_in l E (x) ((0 : Int32)) ((20 : Int32)) _) (va_cwS 3 hts (lw_S q1763 q1764 q80 q1765) rfl rfl rfl (by decide +kernel) ⟨Nat.le_of_ble_eq_true rfl, Nat.le_of_ble_eq_true rfl⟩) (k_pure hs hS) rfl rfl hl.1 rfl (lv_room (Nat.le_of_ble_eq_true rfl)) dX10_rains_4 ⟨Nat.le_of_ble_eq_true rfl, Nat.le_of_ble_eq_true rfl⟩) hS (fun r_1 u_1 H9 locs hw_1 hm_1 hS => ?_)
  replace hm_1 : _ = H9 := Eq.symm hm_1
  subst hm_1
  have hr_1 := hw_1
  refine lv_if_ne (tgt := 16) hx hb dX10_rains_7 (by decide) (fun c_2 => ?_) (fun c_2 => ?_)
  · refine lv_aload_n hx hb dX10_rains_16 rfl (lv_at hl 0 rfl) ?_
    refine tg_0 hx hb hts hown hs hm (hts _ q1674) dX10_rains_17 ?_
    refine lv_iconst (v := (2 : Int32)) hx hb dX10_rains_20 (by decide) ?_
    refine tl_0 hx hb hs hm (vi 2 (by decide) (by decide)) dX10_rains_21 ?_
    refine lv_istore_n (lv' := [(2, _), (0, _), (1, _)]) hx hb dX10_rains_22 rfl hl (by decide) rfl (fun ls hl => ?_)
    refine lv_aload_n hx hb dX10_rains_23 rfl (lv_at hl 1 rfl) ?_
    refine tg_0 hx hb hts hown hs hm (hts _ q1674) dX10_rains_24 ?_
    refine lv_iconst (v := (2 : Int32)) hx hb dX10_rains_27 (by decide) ?_
    refine lv_iload_n hx hb dX10_rains_28 rfl (lv_at hl 2 rfl) ?_
    refine ts_0 hx hb hs hm hS (vi 2 (by decide) (by decide)) dX10_rains_29 (fun H locs hm hS => ?_)
    have hm : tW E h (u0 v (upd (t0 v) ((2 : Int32)).toNatClampNeg x)) H := hm
    refine lv_aload_n hx hb dX10_rains_30 rfl (lv_at hl 1 rfl) ?_
    refine lv_iload_n hx hb dX10_rains_31 rfl (lv_at hl 0 rfl) ?_
    refine k_calli (va_runV (As := [.int ((t0 v ((2 : Int32)).toNatClampNeg))]) (rest := []) ⟨hx, hb, hml, hown, hts⟩ (tm_done l E h (u0 v (upd (t0 v) ((2 : Int32)).toNatClampNeg x)) ((t0 v ((2 : Int32)).toNatClampNeg)) ) (cwV 1 hts (lw_V q1770 q1772 qs24 q80 q1773) rfl rfl rfl (by decide +kernel) ⟨Nat.le_of_ble_eq_true rfl, Nat.le_of_ble_eq_true rfl⟩) (k_preVt hs hm hS) rfl rfl hl.1 rfl (lv_room (Nat.le_of_ble_eq_true rfl)) dX10_rains_32 ⟨Nat.le_of_ble_eq_true rfl, Nat.le_of_ble_eq_true rfl⟩) hS (fun r_3 u_3 H9 locs hw_3 hm_3 hS => ?_)
    replace hw_3 : r_3 = (t0 v ((2 : Int32)).toNatClampNeg) ∧ u_3 = (u18 (u0 v (upd (t0 v) ((2 : Int32)).toNatClampNeg x)) (0 : Int32)) := hw_3
    obtain ⟨hr_3, hw_3⟩ := hw_3
    replace hr_3 := hr_3.symm
    subst hr_3
    replace hw_3 := hw_3.symm
    subst hw_3
    have hm := hm_3
    subst hr_1
    exact W.iret (v := _) hx hb hr (fun t9 ht9 _ => ⟨⟨_, _, rfl, pp ((if_neg c_2).trans (rfl)), hb9 ht9 hm⟩, hS.F ht9⟩) hS.2.2 dX10_rains_35
  · refine lv_aload_n hx hb dX10_rains_10 rfl (lv_at hl 0 rfl) ?_
    refine lv_iconst (v := (1 : Int32)) hx hb dX10_rains_11 (by decide) ?_
    refine k_calli (va_runV (As := [.int ((1 : Int32))]) (rest := []) ⟨hx, hb, hml, hown, hts⟩ (tm_fails l E h v ((1 : Int32)) ) (cwV 1 hts (lw_V q1766 q1768 qs23 q80 q1769) rfl rfl rfl (by decide +kernel) ⟨Nat.le_of_ble_eq_true rfl, Nat.le_of_ble_eq_true rfl⟩) (k_preVt hs hm hS) rfl rfl hl.1 rfl (lv_room (Nat.le_of_ble_eq_true rfl)) dX10_rains_12 ⟨Nat.le_of_ble_eq_true rfl, Nat.le_of_ble_eq_true rfl⟩) hS (fun r_4 u_4 H9 locs hw_4 hm_4 hS => ?_)
    replace hw_4 : r_4 = (0 : Int32) ∧ u_4 = (T_fails v (1 : Int32)).2 := hw_4
    obtain ⟨hr_4, hw_4⟩ := hw_4
    replace hr_4 := hr_4.symm
    subst hr_4
    replace hw_4 := hw_4.symm
    subst hw_4
    have hm := hm_4
    subst hr_1
    exact W.iret (v := _) hx hb hr (fun t9 ht9 _ => ⟨⟨_, _, rfl, pp ((if_pos c_2).trans (rfl)), hb9 ht9 hm⟩, hS.F ht9⟩) hS.2.2 dX10_rains_15
def T_isMember (v : tw) (x : Int32) : Int32 :=
  let r_1 := T_in (x) ((0 : Int32)) (((t0 v ((51 : Int32)).toNatClampNeg) - (1 : Int32)));
  r_1
set_option maxHeartbeats 4000000 in
theorem tm_isMember (l : Launch) (E : mE) (h : Nat) (v : tw) (x : Int32)  : Met l yX10_isMember (ws_ yX10_isMember cX10_isMember 2 (some .boolean)) ({ frames := 1, cells := 0, slots := 0, locals := 22 }) (va_Pc [.ref h, .int x] (tP E h v)) (va_Qi (fun (r : Int32) (u : tw) => r = T_isMember v x ∧ u = v) (fun u U => tW E h u U.heap) (eA E)) 0 0 (eA E) := by
  refine Met.ofW (cc := cX10_isMember) (maxL := 2) (ret := (some .boolean)) (by decide) rfl ?_
  intro p e s m args below meth c s₁ B hml hv
  obtain ⟨rfl, hs, hm⟩ := hv
  have hx := B.exec
  have hb := B.bytes
  have hr := B.returns
  have hts := atoms_spec (ws := ws_ yX10_isMember cX10_isMember 2 (some .boolean)) B.pre
  have hts : ∀ w ∈ lw_all, w.before _ s = true := fun w h => hts w (List.mem_cons_of_mem _ h)
  have hown : s.vm.findClass RX10 = some m.cls := findClass_of_methodNamed B.named
  have hlocks := B.notSynchronized
  have hS : va_S (eA E) s.heap s.heap [] := va_S.rf
  have hl := lv_entry ([.ref h, .int x]) (n := 2) (Nat.le_of_ble_eq_true rfl)
  rw [lg_entry_eq]
  generalize (lg_sl ([.ref h, .int x]) ++ List.replicate (2 - (lg_sl ([.ref h, .int x])).length) Slot.unset).toArray = ls at hl ⊢
  have hl : lv_has ls 2 [(0, .ref (h)), (1, .int (x))] := hl
  refine lv_iload_n hx hb dX10_isMember_0 rfl (lv_at hl 1 rfl) ?_
  refine lv_iconst (v := (0 : Int32)) hx hb dX10_isMember_1 (by decide) ?_
  refine lv_aload_n hx hb dX10_isMember_2 rfl (lv_at hl 0 rfl) ?_
  refine tg_0 hx hb hts hown hs hm (hts _ q1674) dX10_isMember_3 ?_
  refine lv_bipush (v := (51 : Int32)) hx hb dX10_isMember_6 (by decide) ?_
  refine tl_0 hx hb hs hm (vi 51 (by decide) (by decide)) dX10_isMember_8 ?_
  refine lv_iconst (v := (1 : Int32)) hx hb dX10_isMember_9 (by decide) ?_
  refine lv_isub hx hb dX10_isMember_10 ?_
  refine k_calli (va_runS (As := [.int (x), .int ((0 : Int32)), .int (((t0 v ((51 : Int32)).toNatClampNeg) - (1 : Int32)))]) (rest := []) ⟨hx, hb, hml, hown, hts⟩ (tm_in l E (x) ((0 : Int32)) (((t0 v ((51 : Int32)).toNatClampNeg) - (1 : Int32))) _) (va_cwS 3 hts (lw_S q1763 q1764 q80 q1765) rfl rfl rfl (by decide +kernel) ⟨Nat.le_of_ble_eq_true rfl, Nat.le_of_ble_eq_true rfl⟩) (k_pure hs hS) rfl rfl hl.1 rfl (lv_room (Nat.le_of_ble_eq_true rfl)) dX10_isMember_11 ⟨Nat.le_of_ble_eq_true rfl, Nat.le_of_ble_eq_true rfl⟩) hS (fun r_1 u_1 H9 locs hw_1 hm_1 hS => ?_)
  replace hm_1 : _ = H9 := Eq.symm hm_1
  subst hm_1
  have hr_1 := hw_1
  subst hr_1
  exact W.zret (v := _) hx hb hr (Tz_in _ _ _) (fun t9 ht9 _ => ⟨⟨_, _, rfl, ⟨(rfl).symm, rfl⟩, hb9 ht9 hm⟩, hS.F ht9⟩) hS.2.2 dX10_isMember_14
theorem Tz_isMember (v : tw) (x : Int32) : narrow .boolean (.int (T_isMember v x)) = .int (T_isMember v x) := by
  unfold T_isMember
  exact Tz_in _ _ _
def T_isShed (v : tw) (x : Int32) : Int32 :=
  let r_1 := T_in (x) ((0 : Int32)) (((t0 v ((80 : Int32)).toNatClampNeg) - (1 : Int32)));
  r_1
set_option maxHeartbeats 4000000 in
theorem tm_isShed (l : Launch) (E : mE) (h : Nat) (v : tw) (x : Int32)  : Met l yX10_isShed (ws_ yX10_isShed cX10_isShed 2 (some .boolean)) ({ frames := 1, cells := 0, slots := 0, locals := 22 }) (va_Pc [.ref h, .int x] (tP E h v)) (va_Qi (fun (r : Int32) (u : tw) => r = T_isShed v x ∧ u = v) (fun u U => tW E h u U.heap) (eA E)) 0 0 (eA E) := by
  refine Met.ofW (cc := cX10_isShed) (maxL := 2) (ret := (some .boolean)) (by decide) rfl ?_
  intro p e s m args below meth c s₁ B hml hv
  obtain ⟨rfl, hs, hm⟩ := hv
  have hx := B.exec
  have hb := B.bytes
  have hr := B.returns
  have hts := atoms_spec (ws := ws_ yX10_isShed cX10_isShed 2 (some .boolean)) B.pre
  have hts : ∀ w ∈ lw_all, w.before _ s = true := fun w h => hts w (List.mem_cons_of_mem _ h)
  have hown : s.vm.findClass RX10 = some m.cls := findClass_of_methodNamed B.named
  have hlocks := B.notSynchronized
  have hS : va_S (eA E) s.heap s.heap [] := va_S.rf
  have hl := lv_entry ([.ref h, .int x]) (n := 2) (Nat.le_of_ble_eq_true rfl)
  rw [lg_entry_eq]
  generalize (lg_sl ([.ref h, .int x]) ++ List.replicate (2 - (lg_sl ([.ref h, .int x])).length) Slot.unset).toArray = ls at hl ⊢
  have hl : lv_has ls 2 [(0, .ref (h)), (1, .int (x))] := hl
  refine lv_iload_n hx hb dX10_isShed_0 rfl (lv_at hl 1 rfl) ?_
  refine lv_iconst (v := (0 : Int32)) hx hb dX10_isShed_1 (by decide) ?_
  refine lv_aload_n hx hb dX10_isShed_2 rfl (lv_at hl 0 rfl) ?_
  refine tg_0 hx hb hts hown hs hm (hts _ q1674) dX10_isShed_3 ?_
  refine lv_bipush (v := (80 : Int32)) hx hb dX10_isShed_6 (by decide) ?_
  refine tl_0 hx hb hs hm (vi 80 (by decide) (by decide)) dX10_isShed_8 ?_
  refine lv_iconst (v := (1 : Int32)) hx hb dX10_isShed_9 (by decide) ?_
  refine lv_isub hx hb dX10_isShed_10 ?_
  refine k_calli (va_runS (As := [.int (x), .int ((0 : Int32)), .int (((t0 v ((80 : Int32)).toNatClampNeg) - (1 : Int32)))]) (rest := []) ⟨hx, hb, hml, hown, hts⟩ (tm_in l E (x) ((0 : Int32)) (((t0 v ((80 : Int32)).toNatClampNeg) - (1 : Int32))) _) (va_cwS 3 hts (lw_S q1763 q1764 q80 q1765) rfl rfl rfl (by decide +kernel) ⟨Nat.le_of_ble_eq_true rfl, Nat.le_of_ble_eq_true rfl⟩) (k_pure hs hS) rfl rfl hl.1 rfl (lv_room (Nat.le_of_ble_eq_true rfl)) dX10_isShed_11 ⟨Nat.le_of_ble_eq_true rfl, Nat.le_of_ble_eq_true rfl⟩) hS (fun r_1 u_1 H9 locs hw_1 hm_1 hS => ?_)
  replace hm_1 : _ = H9 := Eq.symm hm_1
  subst hm_1
  have hr_1 := hw_1
  subst hr_1
  exact W.zret (v := _) hx hb hr (Tz_in _ _ _) (fun t9 ht9 _ => ⟨⟨_, _, rfl, ⟨(rfl).symm, rfl⟩, hb9 ht9 hm⟩, hS.F ht9⟩) hS.2.2 dX10_isShed_14
theorem Tz_isShed (v : tw) (x : Int32) : narrow .boolean (.int (T_isShed v x)) = .int (T_isShed v x) := by
  unfold T_isShed
  exact Tz_in _ _ _
theorem mem_ix {v : tw} {x r : Int32} (hr : r = T_isMember v x) (c : ¬ r = 0) (hw : wf (t0 v) (t1 v)) : ix 6 x := Tin_ix hr c (ix.pred hw.mem (by decide)) (by decide)
theorem shed_ix {v : tw} {x r : Int32} (hr : r = T_isShed v x) (c : ¬ r = 0) (hw : wf (t0 v) (t1 v)) : ix 4 x := Tin_ix hr c (ix.pred hw.shd (by decide)) (by decide)
