set_option maxRecDepth 100000
/-! the class: a cliff takes another one, the rest of it -/
/-- cliffs lie apart -/
theorem lay_far {t : mt} {c d : Nat} (hL : lay t c) (hD : lay t d) (h : ¬ d = c) : d + 64 ≤ c ∨ c + 64 ≤ d := by
  have key : ∀ c d, lay t c → lay t d → c < d → c + 64 ≤ d := by
    intro c d hL hD h1
    rcases Nat.lt_or_ge d (c + 64) with h2 | h2
    · exfalso
      have hz := hD.z
      obtain ⟨i, hi⟩ : ∃ i, d = c + i := ⟨d - c, by omega⟩
      subst hi
      have f : ∀ x, t (c + i) = x → x ≠ (2, 0) → False := fun x h9 h8 => h8 (h9.symm.trans hz)
      rcases Nat.lt_or_ge i 12 with h3 | h3
      · match i, h1, h3 with
        | 0, h9, _ => exact absurd h9 (by omega)
        | 1, _, _ => exact f _ hL.a1 (by decide)
        | 2, _, _ => exact f _ hL.a2 (by decide)
        | 3, _, _ => exact f _ hL.a3 (by decide)
        | 4, _, _ => exact f _ hL.a4 (by decide)
        | 5, _, _ => exact f _ hL.a5 (by decide)
        | 6, _, _ => exact f _ hL.a6 (by decide)
        | 7, _, _ => exact f _ hL.a7 (by decide)
        | 8, _, _ => exact f _ hL.a8 (by decide)
        | 9, _, _ => exact f _ hL.a9 (by decide)
        | 10, _, _ => exact f _ hL.a10 (by decide)
        | 11, _, _ => exact f _ hL.a11 (by decide)
      · rcases Nat.lt_or_ge i 48 with h4 | h4
        · rcases Nat.mod_two_eq_zero_or_one i with h5 | h5
          · exact f (3, 0) (by rw [show c + i = c + 12 + 2 * ((i - 12) / 2) by omega]; exact hL.mar (k := (i - 12) / 2) (by omega)) (by decide)
          · exact f (4, 0) (by rw [show c + i = c + 13 + 2 * ((i - 13) / 2) by omega]; exact hL.bea (k := (i - 13) / 2) (by omega)) (by decide)
        · rcases Nat.lt_or_ge i 54 with h6 | h6
          · exact f (5, 0) (by rw [show c + i = c + 48 + (i - 48) by omega]; exact hL.mem (k := i - 48) (by omega)) (by decide)
          · rcases Nat.lt_or_ge i 58 with h7 | h7
            · exact f (6, 0) (by rw [show c + i = c + 54 + (i - 54) by omega]; exact hL.shd (k := i - 54) (by omega)) (by decide)
            · exact f (7, 0) (by rw [show c + i = c + 58 + (i - 58) by omega]; exact hL.prz (k := i - 58) (by omega)) (by decide)
    · exact h2
  rcases Nat.lt_or_ge c d with h1 | h1
  · exact Or.inr (key c d hL hD h1)
  · exact Or.inl (key d c hD hL (by omega))
/-- a prize -/
def przO (t : mt) (r : Option Nat) : Prop := ∃ p, r = some p ∧ t p = (7, 0)
theorem przO.nn {t : mt} {r : Option Nat} (h : przO t r) : ¬ r = none := by
  obtain ⟨p, rfl, -⟩ := h
  exact fun h => nomatch h
theorem przO.k {t : mt} {r : Option Nat} (h : przO t r) : t (r.getD 0) = (7, 0) := by
  obtain ⟨p, rfl, h2⟩ := h
  exact h2
section KR6
variable {p : Program} {l : Launch} {e : Env} {R : Room} {s : State} {m : MethodId} {args : Array Value} {below : List Frame} {meth : Method} {c : Code} {H : Heap} {locs : List Loc} {cells slots : Nat} {Q : State → Prop}
variable {cc : ByteArray} {pc : Nat} {ls : Array Slot} {rest : List Value} {a b : Nat} {E : mE} {t : mt} {M : mm}
theorem k_cpyI {n0 n1 : Nat} {own : String} {index : Nat} (hexec : p.tables.exec = Jvm.exec) (hb : c.code = cc) (hml : c.maxLocals = ls.size) (hown : s.vm.findClass own = some m.cls) (hlink : (Cond.methodLink own index arraycopyName).before args s = true) (hnat : (Cond.native arraycopyName).before args s = true) (hstat : (Cond.static arraycopyName).before args s = true) (hini : (Cond.initialized "java/lang/System").before args s = true) (hs : sP E s) (hm : mw E t M H) (hS : va_S (eA E) s.heap H locs) (hta : t a = (20, n0)) (htb : t b = (20, n1)) {n : Nat} (hn : n < 2 ^ 31) (h4 : n ≤ n0) (h5 : n ≤ n1) (hframes : 1 ≤ R.frames) (hlocals : (rest.map fun v => v.category).sum + (nativeFrameWords "java/lang/System" "arraycopy" 5 + 11) ≤ R.locals) (hdg : decode cc pc = .ok (.invokestatic index, 3))
    (kk : ∀ (H1 : Heap) (locs1 : List Loc), mw E t (wI M b (va_cpy (aI M a) (aI M b) 0 0 n)) H1 → va_S (eA E) s.heap H1 locs1 → W p l e R s m args below meth c H1 locs1 cells slots Q (F0 m (pc + 3) ls rest)) : W p l e R s m args below meth c H locs cells slots Q (F0 m pc ls (.int (nI n) :: .int (0 : Int32) :: .ref b :: .int (0 : Int32) :: .ref a :: rest)) := by
  obtain ⟨L, hL, hP, hD⟩ := hm
  obtain ⟨q0, hq⟩ := mw.at (E := E) (t := t) (M := M) (hL a (mt_ne hta (by decide)))
  obtain ⟨q1, hq1⟩ := mw.at (E := E) (t := t) (M := M) (hL b (mt_ne htb (by decide)))
  have hset := pl_set (e := .inl (E.2.1 0, n1, .inl (va_cpy (aI M a) (aI M b) 0 0 n))) hD (hL b (mt_ne htb (by decide))) hq1
  rw [show ct E t M a = .inl (E.2.1 0, n0, .inl (aI M a)) from ct_k hta] at hq
  rw [show ct E t M b = .inl (E.2.1 0, n1, .inl (aI M b)) from ct_k htb] at hq1
  have e0 : (0 : Int32).toNatClampNeg = 0 := by decide
  refine va_copyi hexec hb hml hown hlink hnat hstat hini hs.2.1 hP hD hS q0 q1 0 0 hq hq1 rfl rfl rfl (by decide) (by decide) (nI_pos hn) (by rw [nI_clamp hn, e0]; omega) (by rw [nI_clamp hn, e0]; omega) (fun _ _ => rfl) hframes hlocals hdg (fun H1 locs1 hP1 hD1 hS1 => ?_)
  rw [nI_clamp hn, e0, hset] at hP1 hD1
  refine kk H1 locs1 (mw.to hL (fun x => ?_) hP1 hD1) hS1
  by_cases hba : x = b
  · subst hba
    rw [va_up_self, ct_k htb]
    simp only [ct, aI, wI, m1_at]
  · rw [va_up_ne _ _ hba, ct_wI hba]
theorem k_cpyF {n0 n1 : Nat} {own : String} {index : Nat} (hexec : p.tables.exec = Jvm.exec) (hb : c.code = cc) (hml : c.maxLocals = ls.size) (hown : s.vm.findClass own = some m.cls) (hlink : (Cond.methodLink own index arraycopyName).before args s = true) (hnat : (Cond.native arraycopyName).before args s = true) (hstat : (Cond.static arraycopyName).before args s = true) (hini : (Cond.initialized "java/lang/System").before args s = true) (hs : sP E s) (hm : mw E t M H) (hS : va_S (eA E) s.heap H locs) (hta : t a = (21, n0)) (htb : t b = (21, n1)) {n : Nat} (hn : n < 2 ^ 31) (h4 : n ≤ n0) (h5 : n ≤ n1) (hframes : 1 ≤ R.frames) (hlocals : (rest.map fun v => v.category).sum + (nativeFrameWords "java/lang/System" "arraycopy" 5 + 11) ≤ R.locals) (hdg : decode cc pc = .ok (.invokestatic index, 3))
    (kk : ∀ (H1 : Heap) (locs1 : List Loc), mw E t (wF M b (va_cpy (aF M a) (aF M b) 0 0 n)) H1 → va_S (eA E) s.heap H1 locs1 → W p l e R s m args below meth c H1 locs1 cells slots Q (F0 m (pc + 3) ls rest)) : W p l e R s m args below meth c H locs cells slots Q (F0 m pc ls (.int (nI n) :: .int (0 : Int32) :: .ref b :: .int (0 : Int32) :: .ref a :: rest)) := by
  obtain ⟨L, hL, hP, hD⟩ := hm
  obtain ⟨q0, hq⟩ := mw.at (E := E) (t := t) (M := M) (hL a (mt_ne hta (by decide)))
  obtain ⟨q1, hq1⟩ := mw.at (E := E) (t := t) (M := M) (hL b (mt_ne htb (by decide)))
  have hset := pl_set (e := .inl (E.2.1 1, n1, .inr (.inr (.inl (va_cpy (aF M a) (aF M b) 0 0 n))))) hD (hL b (mt_ne htb (by decide))) hq1
  rw [show ct E t M a = .inl (E.2.1 1, n0, .inr (.inr (.inl (aF M a)))) from ct_k hta] at hq
  rw [show ct E t M b = .inl (E.2.1 1, n1, .inr (.inr (.inl (aF M b)))) from ct_k htb] at hq1
  have e0 : (0 : Int32).toNatClampNeg = 0 := by decide
  refine va_copyf hexec hb hml hown hlink hnat hstat hini hs.2.1 hP hD hS q0 q1 1 1 hq hq1 rfl rfl rfl (by decide) (by decide) (nI_pos hn) (by rw [nI_clamp hn, e0]; omega) (by rw [nI_clamp hn, e0]; omega) (fun _ _ => rfl) hframes hlocals hdg (fun H1 locs1 hP1 hD1 hS1 => ?_)
  rw [nI_clamp hn, e0, hset] at hP1 hD1
  refine kk H1 locs1 (mw.to hL (fun x => ?_) hP1 hD1) hS1
  by_cases hba : x = b
  · subst hba
    rw [va_up_self, ct_k htb]
    simp only [ct, aF, wF, m1_at]
  · rw [va_up_ne _ _ hba, ct_wF hba]
end KR6
/-- fields that plants don't have -/
def npF (f : Nat) : Prop := f < 300 ∨ 303 ≤ f
theorem like_gI (t : mt) (M : mm) (c : Nat) (p : Option Nat) {f : Nat} (hf : npF f) (b : Nat) : gI (C2_like t M c p).2 f b = gI M f b := by
  unfold npF at hf
  unfold C2_like
  split
  · rfl
  · simp only [C3_take, C3_begins, gI, sI, sF, m2_nf _ _ (show f ≠ 302 by omega), m2_nf _ _ (show f ≠ 300 by omega)]
theorem tp_gI (t : mt) (M : mm) (c d : Nat) {f : Nat} (hf : npF f) (b : Nat) : gI (C2_takePlants t M c d) f b = gI M f b := by
  have h1 : ∀ M k, gI (L_tpa t M c k) f b = gI M f b := by
    intro M k
    induction k with
    | zero => rw [L_tpa_0]
    | succ k ih => rw [L_tpa_s, ← ih]; unfold npF at hf; simp only [S_tpa, gI, sI, m2_nf _ _ (show f ≠ 302 by omega)]
  have h2 : ∀ M k, gI (L_tpm t M c d k) f b = gI M f b := by
    intro M k
    induction k with
    | zero => rw [L_tpm_0]
    | succ k ih => rw [L_tpm_s, ← ih]; exact like_gI t _ c _ hf b
  have h3 : ∀ M k, gI (L_tpb t M c d k) f b = gI M f b := by
    intro M k
    induction k with
    | zero => rw [L_tpb_0]
    | succ k ih => rw [L_tpb_s, ← ih]; exact like_gI t _ c _ hf b
  have h4 : ∀ M k, gI (L_tpc t M c d k) f b = gI M f b := by
    intro M k
    induction k with
    | zero => rw [L_tpc_0]
    | succ k ih => rw [L_tpc_s, ← ih]; exact like_gI t _ c _ hf b
  unfold C2_takePlants
  rw [h4, h3, h2, h1]
def S_tkm (t : mt) (M : mm) (c : Nat) (d : Nat) (z : mm) (k : Nat) : mm :=
  let u_10 := C6_take t z ((c + 48 + k)) ((d + 48 + k));
  u_10
def L_tkm (t : mt) (M : mm) (c : Nat) (d : Nat) : Nat → mm
  | 0 => M
  | k + 1 => S_tkm t M c d (L_tkm t M c d k) k
  termination_by k => k
theorem L_tkm_0 (t : mt) (M : mm) (c : Nat) (d : Nat) : L_tkm t M c d 0 = M := by rw [L_tkm]
theorem L_tkm_s (t : mt) (M : mm) (c : Nat) (d : Nat) (k : Nat) : L_tkm t M c d (k + 1) = S_tkm t M c d (L_tkm t M c d k) k := by rw [L_tkm]
theorem tkm_gI (t : mt) (M : mm) (c d f b : Nat) (hf : f < 500 ∨ 510 ≤ f) : ∀ k, gI (L_tkm t M c d k) f b = gI M f b
  | 0 => by rw [L_tkm_0]
  | k + 1 => by
    rw [L_tkm_s, ← tkm_gI t M c d f b hf k]
    simp only [S_tkm, C6_take, gI, sI, sF, m2_nf _ _ (show f ≠ 500 by omega), m2_nf _ _ (show f ≠ 501 by omega), m2_nf _ _ (show f ≠ 502 by omega)]
def S_tks (t : mt) (M : mm) (c : Nat) (d : Nat) (z : mm) (k : Nat) : mm :=
  let u_9 := C7_take t z ((c + 54 + k)) ((d + 54 + k));
  u_9
def L_tks (t : mt) (M : mm) (c : Nat) (d : Nat) : Nat → mm
  | 0 => M
  | k + 1 => S_tks t M c d (L_tks t M c d k) k
  termination_by k => k
theorem L_tks_0 (t : mt) (M : mm) (c : Nat) (d : Nat) : L_tks t M c d 0 = M := by rw [L_tks]
theorem L_tks_s (t : mt) (M : mm) (c : Nat) (d : Nat) (k : Nat) : L_tks t M c d (k + 1) = S_tks t M c d (L_tks t M c d k) k := by rw [L_tks]
theorem tks_gI (t : mt) (M : mm) (c d f b : Nat) (hf : f < 600 ∨ 610 ≤ f) : ∀ k, gI (L_tks t M c d k) f b = gI M f b
  | 0 => by rw [L_tks_0]
  | k + 1 => by
    rw [L_tks_s, ← tks_gI t M c d f b hf k]
    simp only [S_tks, C7_take, gI, sI, sF, m2_nf _ _ (show f ≠ 600 by omega), m2_nf _ _ (show f ≠ 601 by omega), m2_nf _ _ (show f ≠ 602 by omega)]
theorem tks_602 {t : mt} (M : mm) {c d : Nat} (hL : lay t c) (hD : lay t d) (h : ¬ d = c) {j : Nat} (hj : j < 4) : ∀ k, k ≤ 4 → gI (L_tks t M c d k) 602 (d + 54 + j) = gI M 602 (d + 54 + j)
  | 0, _ => by rw [L_tks_0]
  | k + 1, hk => by
    have := lay_far hL hD h
    rw [L_tks_s, ← tks_602 M hL hD h hj k (by omega)]
    simp only [S_tks, C7_take, gI, sI, sF, m2_nf _ _ (show (602 : Nat) ≠ 600 by decide), m2_nf _ _ (show (602 : Nat) ≠ 601 by decide), m2_ne _ _ (show d + 54 + j ≠ c + 54 + k by omega)]
def S_tkp (t : mt) (M : mm) (c : Nat) (d : Nat) (z : mm) (k : Nat) : mm :=
  let u_8 := C8_take t z (((aR z (c + 11) k).getD 0)) (((aR z (d + 11) k).getD 0));
  u_8
def L_tkp (t : mt) (M : mm) (c : Nat) (d : Nat) : Nat → mm
  | 0 => M
  | k + 1 => S_tkp t M c d (L_tkp t M c d k) k
  termination_by k => k
theorem L_tkp_0 (t : mt) (M : mm) (c : Nat) (d : Nat) : L_tkp t M c d 0 = M := by rw [L_tkp]
theorem L_tkp_s (t : mt) (M : mm) (c : Nat) (d : Nat) (k : Nat) : L_tkp t M c d (k + 1) = S_tkp t M c d (L_tkp t M c d k) k := by rw [L_tkp]
theorem tkp_gI (t : mt) (M : mm) (c d f b : Nat) (hf : f < 700 ∨ 710 ≤ f) : ∀ k, gI (L_tkp t M c d k) f b = gI M f b
  | 0 => by rw [L_tkp_0]
  | k + 1 => by
    rw [L_tkp_s, ← tkp_gI t M c d f b hf k]
    simp only [S_tkp, C8_take, C8_is, gI, sI, sF, m2_nf _ _ (show f ≠ 700 by omega), m2_nf _ _ (show f ≠ 701 by omega), m2_nf _ _ (show f ≠ 703 by omega)]
theorem tkp_aR (t : mt) (M : mm) (c d b : Nat) : ∀ k, aR (L_tkp t M c d k) b = aR M b
  | 0 => by rw [L_tkp_0]
  | k + 1 => by rw [L_tkp_s]; exact tkp_aR t M c d b k
theorem tks_aR (t : mt) (M : mm) (c d b : Nat) : ∀ k, aR (L_tks t M c d k) b = aR M b
  | 0 => by rw [L_tks_0]
  | k + 1 => by rw [L_tks_s]; exact tks_aR t M c d b k
theorem tkm_aR (t : mt) (M : mm) (c d b : Nat) : ∀ k, aR (L_tkm t M c d k) b = aR M b
  | 0 => by rw [L_tkm_0]
  | k + 1 => by rw [L_tkm_s]; exact tkm_aR t M c d b k
theorem tp_aR (t : mt) (M : mm) (c d b : Nat) (h4 : ¬ b = c + 4) (h7 : ¬ b = c + 7) (h8 : ¬ b = c + 8) : aR (C2_takePlants t M c d) b = aR M b := by
  unfold C2_takePlants
  rw [tpc_aR t _ c d b h4, tpb_aR t _ c d b h8, tpm_aR t _ c d b h7, tpa_aR]
def C2_take (t : mt) (M : mm) (c : Nat) (d : Nat) : mm :=
  let u_1 := C2_takePlants t (wI (wI (wF M (c + 1) (va_cpy (aF M (d + 1)) (aF M (c + 1)) 0 0 12)) (c + 2) (va_cpy (aI M (d + 2)) (aI M (c + 2)) 0 0 12)) (c + 3) (va_cpy (aI (wI (wF M (c + 1) (va_cpy (aF M (d + 1)) (aF M (c + 1)) 0 0 12)) (c + 2) (va_cpy (aI M (d + 2)) (aI M (c + 2)) 0 0 12)) (d + 3)) (aI (wI (wF M (c + 1) (va_cpy (aF M (d + 1)) (aF M (c + 1)) 0 0 12)) (c + 2) (va_cpy (aI M (d + 2)) (aI M (c + 2)) 0 0 12)) (c + 3)) 0 0 12)) (c) (d);
  (sI (sI (sI (sI (sI (sI (sI (sI (sI (L_tkp t (L_tks t (L_tkm t u_1 c d (gI M 211 d).toNatClampNeg) c d (gI M 212 d).toNatClampNeg) c d ((gI M 213 d).toNatClampNeg)) 211 c (gI (L_tkp t (L_tks t (L_tkm t u_1 c d (gI M 211 d).toNatClampNeg) c d (gI M 212 d).toNatClampNeg) c d ((gI M 213 d).toNatClampNeg)) 211 d)) 212 c (gI (L_tkp t (L_tks t (L_tkm t u_1 c d (gI M 211 d).toNatClampNeg) c d (gI M 212 d).toNatClampNeg) c d ((gI M 213 d).toNatClampNeg)) 212 d)) 213 c (gI (L_tkp t (L_tks t (L_tkm t u_1 c d (gI M 211 d).toNatClampNeg) c d (gI M 212 d).toNatClampNeg) c d ((gI M 213 d).toNatClampNeg)) 213 d)) 214 c (gI (L_tkp t (L_tks t (L_tkm t u_1 c d (gI M 211 d).toNatClampNeg) c d (gI M 212 d).toNatClampNeg) c d ((gI M 213 d).toNatClampNeg)) 214 d)) 215 c (gI (L_tkp t (L_tks t (L_tkm t u_1 c d (gI M 211 d).toNatClampNeg) c d (gI M 212 d).toNatClampNeg) c d ((gI M 213 d).toNatClampNeg)) 215 d)) 216 c (gI (L_tkp t (L_tks t (L_tkm t u_1 c d (gI M 211 d).toNatClampNeg) c d (gI M 212 d).toNatClampNeg) c d ((gI M 213 d).toNatClampNeg)) 216 d)) 217 c (gI (L_tkp t (L_tks t (L_tkm t u_1 c d (gI M 211 d).toNatClampNeg) c d (gI M 212 d).toNatClampNeg) c d ((gI M 213 d).toNatClampNeg)) 217 d)) 218 c (gI (L_tkp t (L_tks t (L_tkm t u_1 c d (gI M 211 d).toNatClampNeg) c d (gI M 212 d).toNatClampNeg) c d ((gI M 213 d).toNatClampNeg)) 218 d)) 219 c (gI (L_tkp t (L_tks t (L_tkm t u_1 c d (gI M 211 d).toNatClampNeg) c d (gI M 212 d).toNatClampNeg) c d ((gI M 213 d).toNatClampNeg)) 219 d))
set_option maxHeartbeats 4000000 in
theorem cm2_take (l : Launch) (E : mE) (t : mt) (M : mm) (c : Nat) (d : Nat) (hL : lay t c) (hD : lay t d) (hdc : ¬ d = c) (hm7 : ∀ k, k < 5 → ∀ q, aR M (d + 7) k = some q → t q = (3, 0)) (hm8 : ∀ k, k < 5 → ∀ q, aR M (d + 8) k = some q → t q = (4, 0)) (hcr : ∀ k, k < 12 → plO t (aR M (d + 4) k)) (hn : ix 7 (gI M 211 d)) (hn4 : ix 5 (gI M 212 d)) (hn6 : ix 6 (gI M 213 d)) (hst : ∀ k, k < 4 → k < (gI M 212 d).toNatClampNeg → gI M 602 (d + 54 + k) = 0 ∨ gI M 602 (d + 54 + k) = 1) (hpc : ∀ k, k < 6 → przO t (aR M (c + 11) k)) (hpd : ∀ k, k < 6 → przO t (aR M (d + 11) k)) : Met l yX2_take (ws_ yX2_take cX2_take 3 none) ({ frames := 4, cells := 0, slots := 0, locals := 89 }) (va_Pc [.ref c, .ref d] (wP E t M)) (va_Qv (fun (u : mm) => u = C2_take t M c d) (fun u U => mw E t u U.heap) (eA E)) 0 0 (eA E) := by
  refine Met.ofW (cc := cX2_take) (maxL := 3) (ret := none) (by decide) rfl ?_
  intro p e s m args below meth c0 s₁ B hml hv
  obtain ⟨rfl, hs, hm⟩ := hv
  have hx := B.exec
  have hb := B.bytes
  have hr := B.returns
  have hts := atoms_spec (ws := ws_ yX2_take cX2_take 3 none) B.pre
  have hts : ∀ w ∈ lw_all, w.before _ s = true := fun w h => hts w (List.mem_cons_of_mem _ h)
  have hown : s.vm.findClass RX2 = some m.cls := findClass_of_methodNamed B.named
  have hlocks := B.notSynchronized
  have hS : va_S (eA E) s.heap s.heap [] := va_S.rf
  have hl := lv_entry ([.ref c, .ref d]) (n := 3) (Nat.le_of_ble_eq_true rfl)
  rw [lg_entry_eq]
  generalize (lg_sl ([.ref c, .ref d]) ++ List.replicate (3 - (lg_sl ([.ref c, .ref d])).length) Slot.unset).toArray = ls at hl ⊢
  have hl : lv_has ls 3 [(0, .ref (c)), (1, .ref (d))] := hl
  refine lv_aload_n hx hb dX2_take_0 rfl (lv_at hl 1 rfl) ?_
  refine gf_200 hx hb hts hown hs hm (lay.z hD) (hts _ q227) dX2_take_1 ?_
  refine lv_iconst (v := (0 : Int32)) hx hb dX2_take_4 (by decide) ?_
  refine lv_aload_n hx hb dX2_take_5 rfl (lv_at hl 0 rfl) ?_
  refine gf_200 hx hb hts hown hs hm (lay.z hL) (hts _ q227) dX2_take_6 ?_
  refine lv_iconst (v := (0 : Int32)) hx hb dX2_take_9 (by decide) ?_
  refine lv_bipush (v := (12 : Int32)) hx hb dX2_take_10 (by decide) ?_
  refine k_cpyF hx hb (hml.trans hl.1.symm) hown (hts _ q576) (hts _ q517) (hts _ q516) (hts _ q79) hs hm hS (lay.a1 hD) (lay.a1 hL) (n := 12) (by decide) (by decide) (by decide) (Nat.le_of_ble_eq_true rfl) (Nat.le_of_ble_eq_true rfl) dX2_take_12 (fun H locs hm hS => ?_)
  have hm : mw E t ((wF M (c + 1) (va_cpy (aF M (d + 1)) (aF M (c + 1)) 0 0 12))) H := hm
  refine lv_aload_n hx hb dX2_take_15 rfl (lv_at hl 1 rfl) ?_
  refine gf_201 hx hb hts hown hs hm (lay.z hD) (hts _ q229) dX2_take_16 ?_
  refine lv_iconst (v := (0 : Int32)) hx hb dX2_take_19 (by decide) ?_
  refine lv_aload_n hx hb dX2_take_20 rfl (lv_at hl 0 rfl) ?_
  refine gf_201 hx hb hts hown hs hm (lay.z hL) (hts _ q229) dX2_take_21 ?_
  refine lv_iconst (v := (0 : Int32)) hx hb dX2_take_24 (by decide) ?_
  refine lv_bipush (v := (12 : Int32)) hx hb dX2_take_25 (by decide) ?_
  refine k_cpyI hx hb (hml.trans hl.1.symm) hown (hts _ q576) (hts _ q517) (hts _ q516) (hts _ q79) hs hm hS (lay.a2 hD) (lay.a2 hL) (n := 12) (by decide) (by decide) (by decide) (Nat.le_of_ble_eq_true rfl) (Nat.le_of_ble_eq_true rfl) dX2_take_27 (fun H locs hm hS => ?_)
  have hm : mw E t ((wI (wF M (c + 1) (va_cpy (aF M (d + 1)) (aF M (c + 1)) 0 0 12)) (c + 2) (va_cpy (aI M (d + 2)) (aI M (c + 2)) 0 0 12))) H := hm
  refine lv_aload_n hx hb dX2_take_30 rfl (lv_at hl 1 rfl) ?_
  refine gf_202 hx hb hts hown hs hm (lay.z hD) (hts _ q231) dX2_take_31 ?_
  refine lv_iconst (v := (0 : Int32)) hx hb dX2_take_34 (by decide) ?_
  refine lv_aload_n hx hb dX2_take_35 rfl (lv_at hl 0 rfl) ?_
  refine gf_202 hx hb hts hown hs hm (lay.z hL) (hts _ q231) dX2_take_36 ?_
  refine lv_iconst (v := (0 : Int32)) hx hb dX2_take_39 (by decide) ?_
  refine lv_bipush (v := (12 : Int32)) hx hb dX2_take_40 (by decide) ?_
  refine k_cpyI hx hb (hml.trans hl.1.symm) hown (hts _ q576) (hts _ q517) (hts _ q516) (hts _ q79) hs hm hS (lay.a3 hD) (lay.a3 hL) (n := 12) (by decide) (by decide) (by decide) (Nat.le_of_ble_eq_true rfl) (Nat.le_of_ble_eq_true rfl) dX2_take_42 (fun H locs hm hS => ?_)
  have hm : mw E t ((wI (wI (wF M (c + 1) (va_cpy (aF M (d + 1)) (aF M (c + 1)) 0 0 12)) (c + 2) (va_cpy (aI M (d + 2)) (aI M (c + 2)) 0 0 12)) (c + 3) (va_cpy (aI (wI (wF M (c + 1) (va_cpy (aF M (d + 1)) (aF M (c + 1)) 0 0 12)) (c + 2) (va_cpy (aI M (d + 2)) (aI M (c + 2)) 0 0 12)) (d + 3)) (aI (wI (wF M (c + 1) (va_cpy (aF M (d + 1)) (aF M (c + 1)) 0 0 12)) (c + 2) (va_cpy (aI M (d + 2)) (aI M (c + 2)) 0 0 12)) (c + 3)) 0 0 12))) H := hm
  refine lv_aload_n hx hb dX2_take_45 rfl (lv_at hl 0 rfl) ?_
  refine lv_aload_n hx hb dX2_take_46 rfl (lv_at hl 1 rfl) ?_
  refine k_callv (va_runV (As := [.ref (d)]) (rest := []) ⟨hx, hb, hml, hown, hts⟩ (cm2_takePlants l E t (wI (wI (wF M (c + 1) (va_cpy (aF M (d + 1)) (aF M (c + 1)) 0 0 12)) (c + 2) (va_cpy (aI M (d + 2)) (aI M (c + 2)) 0 0 12)) (c + 3) (va_cpy (aI (wI (wF M (c + 1) (va_cpy (aF M (d + 1)) (aF M (c + 1)) 0 0 12)) (c + 2) (va_cpy (aI M (d + 2)) (aI M (c + 2)) 0 0 12)) (d + 3)) (aI (wI (wF M (c + 1) (va_cpy (aF M (d + 1)) (aF M (c + 1)) 0 0 12)) (c + 2) (va_cpy (aI M (d + 2)) (aI M (c + 2)) 0 0 12)) (c + 3)) 0 0 12))  (c) (d) hL hD hdc hm7 hm8 hcr) (cwV 1 hts (lw_V q577 q579 qs4 q59 q580) rfl rfl rfl (by decide +kernel) ⟨Nat.le_of_ble_eq_true rfl, Nat.le_of_ble_eq_true rfl⟩) (k_preV hs hm hS (mw.recv hs hm (mt_ne (lay.z hL) (by decide)) (ct2 (lay.z hL)) rfl)) rfl rfl hl.1 rfl (lv_room (Nat.le_of_ble_eq_true rfl)) dX2_take_47 ⟨Nat.le_of_ble_eq_true rfl, Nat.le_of_ble_eq_true rfl⟩) hS (fun u_1 H locs hw_1 hm_1 hS => ?_)
  have hu_1 := hw_1
  have hm := hm_1
  have hfar := lay_far hL hD hdc
  refine lv_iconst (v := (0 : Int32)) hx hb dX2_take_50 (by decide) ?_
  refine lv_istore_n (lv' := [(2, _), (0, _), (1, _)]) hx hb dX2_take_51 rfl hl (by decide) rfl (fun ls hl => ?_)
  refine k_loop (fun k => (gI M 211 d).toNatClampNeg - k) (fun (k : Nat) H locs ls => (k ≤ (gI M 211 d).toNatClampNeg) ∧ mw E t ((L_tkm t u_1 c d k)) H ∧ va_S (eA E) s.heap H locs ∧ lv_has ls 3 [(2, .int (nI k)), (0, .ref (c)), (1, .ref (d))]) (fun (k : Nat) ls => F0 m 52 ls []) (fun k => (0, 0)) (fun k ih_2 H locs ls hP => ?_) (0) ⟨(Nat.zero_le _), (by rw [L_tkm_0]; exact hm), hS, lv_sub hl [0, 1, 2] rfl⟩
  obtain ⟨hI_2, hm, hS, hl⟩ := hP
  refine lv_iload_n hx hb dX2_take_52 rfl (lv_at hl 0 rfl) ?_
  refine lv_aload_n hx hb dX2_take_53 rfl (lv_at hl 2 rfl) ?_
  refine gf_211 hx hb hts hown hs hm (lay.z hD) (hts _ q245) dX2_take_54 ?_
  refine lv_icmp_ge (tgt := 81) hx hb dX2_take_57 (by decide) (fun c_3 => ?_) (fun c_3 => ?_)
  · have hkN : k = (gI M 211 d).toNatClampNeg := lp_geI hn (by decide) hI_2 (by rw [tkm_gI t _ c d 211 d (by decide), hu_1, tp_gI t _ c d (Or.inl (by decide)) d] at c_3; exact c_3)
    replace hkN := hkN.symm
    subst hkN
    refine lv_iconst (v := (0 : Int32)) hx hb dX2_take_81 (by decide) ?_
    refine lv_istore_n (lv' := [(2, _), (0, _), (1, _)]) hx hb dX2_take_82 rfl hl (by decide) rfl (fun ls hl => ?_)
    refine k_loop (fun k => (gI M 212 d).toNatClampNeg - k) (fun (k : Nat) H locs ls => (k ≤ (gI M 212 d).toNatClampNeg) ∧ mw E t ((L_tks t (L_tkm t u_1 c d (gI M 211 d).toNatClampNeg) c d k)) H ∧ va_S (eA E) s.heap H locs ∧ lv_has ls 3 [(2, .int (nI k)), (0, .ref (c)), (1, .ref (d))]) (fun (k : Nat) ls => F0 m 83 ls []) (fun k => (0, 0)) (fun k ih_4 H locs ls hP => ?_) (0) ⟨(Nat.zero_le _), (by rw [L_tks_0]; exact hm), hS, lv_sub hl [0, 1, 2] rfl⟩
    obtain ⟨hI_4, hm, hS, hl⟩ := hP
    refine lv_iload_n hx hb dX2_take_83 rfl (lv_at hl 0 rfl) ?_
    refine lv_aload_n hx hb dX2_take_84 rfl (lv_at hl 2 rfl) ?_
    refine gf_212 hx hb hts hown hs hm (lay.z hD) (hts _ q247) dX2_take_85 ?_
    refine lv_icmp_ge (tgt := 112) hx hb dX2_take_88 (by decide) (fun c_5 => ?_) (fun c_5 => ?_)
    · have hkN : k = (gI M 212 d).toNatClampNeg := lp_geI hn4 (by decide) hI_4 (by rw [tks_gI t _ c d 212 d (by decide), tkm_gI t _ c d 212 d (by decide), hu_1, tp_gI t _ c d (Or.inl (by decide)) d] at c_5; exact c_5)
      replace hkN := hkN.symm
      subst hkN
      refine lv_iconst (v := (0 : Int32)) hx hb dX2_take_112 (by decide) ?_
      refine lv_istore_n (lv' := [(2, _), (0, _), (1, _)]) hx hb dX2_take_113 rfl hl (by decide) rfl (fun ls hl => ?_)
      refine k_loop (fun k => (gI M 213 d).toNatClampNeg - k) (fun (k : Nat) H locs ls => (k ≤ (gI M 213 d).toNatClampNeg) ∧ mw E t ((L_tkp t (L_tks t (L_tkm t u_1 c d (gI M 211 d).toNatClampNeg) c d (gI M 212 d).toNatClampNeg) c d k)) H ∧ va_S (eA E) s.heap H locs ∧ lv_has ls 3 [(2, .int (nI k)), (0, .ref (c)), (1, .ref (d))]) (fun (k : Nat) ls => F0 m 114 ls []) (fun k => (0, 0)) (fun k ih_6 H locs ls hP => ?_) (0) ⟨(Nat.zero_le _), (by rw [L_tkp_0]; exact hm), hS, lv_sub hl [0, 1, 2] rfl⟩
      obtain ⟨hI_6, hm, hS, hl⟩ := hP
      refine lv_iload_n hx hb dX2_take_114 rfl (lv_at hl 0 rfl) ?_
      refine lv_aload_n hx hb dX2_take_115 rfl (lv_at hl 2 rfl) ?_
      refine gf_213 hx hb hts hown hs hm (lay.z hD) (hts _ q249) dX2_take_116 ?_
      refine lv_icmp_ge (tgt := 143) hx hb dX2_take_119 (by decide) (fun c_7 => ?_) (fun c_7 => ?_)
      · have hkN : k = (gI M 213 d).toNatClampNeg := lp_geI hn6 (by decide) hI_6 (by rw [tkp_gI t _ c d 213 d (by decide), tks_gI t _ c d 213 d (by decide), tkm_gI t _ c d 213 d (by decide), hu_1, tp_gI t _ c d (Or.inl (by decide)) d] at c_7; exact c_7)
        replace hkN := hkN.symm
        subst hkN
        refine lv_aload_n hx hb dX2_take_143 rfl (lv_at hl 1 rfl) ?_
        refine lv_aload_n hx hb dX2_take_144 rfl (lv_at hl 2 rfl) ?_
        refine gf_211 hx hb hts hown hs hm (lay.z hD) (hts _ q245) dX2_take_145 ?_
        refine pf_211 hx hb hts hown hs hm hS (lay.z hL) (hts _ q245) dX2_take_148 (fun H locs hm hS => ?_)
        have hm : mw E t ((sI (L_tkp t (L_tks t (L_tkm t u_1 c d (gI M 211 d).toNatClampNeg) c d (gI M 212 d).toNatClampNeg) c d ((gI M 213 d).toNatClampNeg)) 211 c (gI (L_tkp t (L_tks t (L_tkm t u_1 c d (gI M 211 d).toNatClampNeg) c d (gI M 212 d).toNatClampNeg) c d ((gI M 213 d).toNatClampNeg)) 211 d))) H := hm
        refine lv_aload_n hx hb dX2_take_151 rfl (lv_at hl 1 rfl) ?_
        refine lv_aload_n hx hb dX2_take_152 rfl (lv_at hl 2 rfl) ?_
        refine gf_212 hx hb hts hown hs hm (lay.z hD) (hts _ q247) dX2_take_153 ?_
        refine pf_212 hx hb hts hown hs hm hS (lay.z hL) (hts _ q247) dX2_take_156 (fun H locs hm hS => ?_)
        have hm : mw E t ((sI (sI (L_tkp t (L_tks t (L_tkm t u_1 c d (gI M 211 d).toNatClampNeg) c d (gI M 212 d).toNatClampNeg) c d ((gI M 213 d).toNatClampNeg)) 211 c (gI (L_tkp t (L_tks t (L_tkm t u_1 c d (gI M 211 d).toNatClampNeg) c d (gI M 212 d).toNatClampNeg) c d ((gI M 213 d).toNatClampNeg)) 211 d)) 212 c (gI (L_tkp t (L_tks t (L_tkm t u_1 c d (gI M 211 d).toNatClampNeg) c d (gI M 212 d).toNatClampNeg) c d ((gI M 213 d).toNatClampNeg)) 212 d))) H := hm
        refine lv_aload_n hx hb dX2_take_159 rfl (lv_at hl 1 rfl) ?_
        refine lv_aload_n hx hb dX2_take_160 rfl (lv_at hl 2 rfl) ?_
        refine gf_213 hx hb hts hown hs hm (lay.z hD) (hts _ q249) dX2_take_161 ?_
        refine pf_213 hx hb hts hown hs hm hS (lay.z hL) (hts _ q249) dX2_take_164 (fun H locs hm hS => ?_)
        have hm : mw E t ((sI (sI (sI (L_tkp t (L_tks t (L_tkm t u_1 c d (gI M 211 d).toNatClampNeg) c d (gI M 212 d).toNatClampNeg) c d ((gI M 213 d).toNatClampNeg)) 211 c (gI (L_tkp t (L_tks t (L_tkm t u_1 c d (gI M 211 d).toNatClampNeg) c d (gI M 212 d).toNatClampNeg) c d ((gI M 213 d).toNatClampNeg)) 211 d)) 212 c (gI (L_tkp t (L_tks t (L_tkm t u_1 c d (gI M 211 d).toNatClampNeg) c d (gI M 212 d).toNatClampNeg) c d ((gI M 213 d).toNatClampNeg)) 212 d)) 213 c (gI (L_tkp t (L_tks t (L_tkm t u_1 c d (gI M 211 d).toNatClampNeg) c d (gI M 212 d).toNatClampNeg) c d ((gI M 213 d).toNatClampNeg)) 213 d))) H := hm
        refine lv_aload_n hx hb dX2_take_167 rfl (lv_at hl 1 rfl) ?_
        refine lv_aload_n hx hb dX2_take_168 rfl (lv_at hl 2 rfl) ?_
        refine gf_214 hx hb hts hown hs hm (lay.z hD) (hts _ q251) dX2_take_169 ?_
        refine pf_214 hx hb hts hown hs hm hS (lay.z hL) (hts _ q251) dX2_take_172 (fun H locs hm hS => ?_)
        have hm : mw E t ((sI (sI (sI (sI (L_tkp t (L_tks t (L_tkm t u_1 c d (gI M 211 d).toNatClampNeg) c d (gI M 212 d).toNatClampNeg) c d ((gI M 213 d).toNatClampNeg)) 211 c (gI (L_tkp t (L_tks t (L_tkm t u_1 c d (gI M 211 d).toNatClampNeg) c d (gI M 212 d).toNatClampNeg) c d ((gI M 213 d).toNatClampNeg)) 211 d)) 212 c (gI (L_tkp t (L_tks t (L_tkm t u_1 c d (gI M 211 d).toNatClampNeg) c d (gI M 212 d).toNatClampNeg) c d ((gI M 213 d).toNatClampNeg)) 212 d)) 213 c (gI (L_tkp t (L_tks t (L_tkm t u_1 c d (gI M 211 d).toNatClampNeg) c d (gI M 212 d).toNatClampNeg) c d ((gI M 213 d).toNatClampNeg)) 213 d)) 214 c (gI (L_tkp t (L_tks t (L_tkm t u_1 c d (gI M 211 d).toNatClampNeg) c d (gI M 212 d).toNatClampNeg) c d ((gI M 213 d).toNatClampNeg)) 214 d))) H := hm
        refine lv_aload_n hx hb dX2_take_175 rfl (lv_at hl 1 rfl) ?_
        refine lv_aload_n hx hb dX2_take_176 rfl (lv_at hl 2 rfl) ?_
        refine gf_215 hx hb hts hown hs hm (lay.z hD) (hts _ q254) dX2_take_177 ?_
        refine pf_215 hx hb hts hown hs hm hS (lay.z hL) (hts _ q254) dX2_take_180 (fun H locs hm hS => ?_)
        have hm : mw E t ((sI (sI (sI (sI (sI (L_tkp t (L_tks t (L_tkm t u_1 c d (gI M 211 d).toNatClampNeg) c d (gI M 212 d).toNatClampNeg) c d ((gI M 213 d).toNatClampNeg)) 211 c (gI (L_tkp t (L_tks t (L_tkm t u_1 c d (gI M 211 d).toNatClampNeg) c d (gI M 212 d).toNatClampNeg) c d ((gI M 213 d).toNatClampNeg)) 211 d)) 212 c (gI (L_tkp t (L_tks t (L_tkm t u_1 c d (gI M 211 d).toNatClampNeg) c d (gI M 212 d).toNatClampNeg) c d ((gI M 213 d).toNatClampNeg)) 212 d)) 213 c (gI (L_tkp t (L_tks t (L_tkm t u_1 c d (gI M 211 d).toNatClampNeg) c d (gI M 212 d).toNatClampNeg) c d ((gI M 213 d).toNatClampNeg)) 213 d)) 214 c (gI (L_tkp t (L_tks t (L_tkm t u_1 c d (gI M 211 d).toNatClampNeg) c d (gI M 212 d).toNatClampNeg) c d ((gI M 213 d).toNatClampNeg)) 214 d)) 215 c (gI (L_tkp t (L_tks t (L_tkm t u_1 c d (gI M 211 d).toNatClampNeg) c d (gI M 212 d).toNatClampNeg) c d ((gI M 213 d).toNatClampNeg)) 215 d))) H := hm
        refine lv_aload_n hx hb dX2_take_183 rfl (lv_at hl 1 rfl) ?_
        refine lv_aload_n hx hb dX2_take_184 rfl (lv_at hl 2 rfl) ?_
        refine gf_216 hx hb hts hown hs hm (lay.z hD) (hts _ q257) dX2_take_185 ?_
        refine pf_216 hx hb hts hown hs hm hS (lay.z hL) (hts _ q257) dX2_take_188 (fun H locs hm hS => ?_)
        have hm : mw E t ((sI (sI (sI (sI (sI (sI (L_tkp t (L_tks t (L_tkm t u_1 c d (gI M 211 d).toNatClampNeg) c d (gI M 212 d).toNatClampNeg) c d ((gI M 213 d).toNatClampNeg)) 211 c (gI (L_tkp t (L_tks t (L_tkm t u_1 c d (gI M 211 d).toNatClampNeg) c d (gI M 212 d).toNatClampNeg) c d ((gI M 213 d).toNatClampNeg)) 211 d)) 212 c (gI (L_tkp t (L_tks t (L_tkm t u_1 c d (gI M 211 d).toNatClampNeg) c d (gI M 212 d).toNatClampNeg) c d ((gI M 213 d).toNatClampNeg)) 212 d)) 213 c (gI (L_tkp t (L_tks t (L_tkm t u_1 c d (gI M 211 d).toNatClampNeg) c d (gI M 212 d).toNatClampNeg) c d ((gI M 213 d).toNatClampNeg)) 213 d)) 214 c (gI (L_tkp t (L_tks t (L_tkm t u_1 c d (gI M 211 d).toNatClampNeg) c d (gI M 212 d).toNatClampNeg) c d ((gI M 213 d).toNatClampNeg)) 214 d)) 215 c (gI (L_tkp t (L_tks t (L_tkm t u_1 c d (gI M 211 d).toNatClampNeg) c d (gI M 212 d).toNatClampNeg) c d ((gI M 213 d).toNatClampNeg)) 215 d)) 216 c (gI (L_tkp t (L_tks t (L_tkm t u_1 c d (gI M 211 d).toNatClampNeg) c d (gI M 212 d).toNatClampNeg) c d ((gI M 213 d).toNatClampNeg)) 216 d))) H := hm
        refine lv_aload_n hx hb dX2_take_191 rfl (lv_at hl 1 rfl) ?_
        refine lv_aload_n hx hb dX2_take_192 rfl (lv_at hl 2 rfl) ?_
        refine gf_217 hx hb hts hown hs hm (lay.z hD) (hts _ q259) dX2_take_193 ?_
        refine pf_217 hx hb hts hown hs hm hS (lay.z hL) (hts _ q259) dX2_take_196 (fun H locs hm hS => ?_)
        have hm : mw E t ((sI (sI (sI (sI (sI (sI (sI (L_tkp t (L_tks t (L_tkm t u_1 c d (gI M 211 d).toNatClampNeg) c d (gI M 212 d).toNatClampNeg) c d ((gI M 213 d).toNatClampNeg)) 211 c (gI (L_tkp t (L_tks t (L_tkm t u_1 c d (gI M 211 d).toNatClampNeg) c d (gI M 212 d).toNatClampNeg) c d ((gI M 213 d).toNatClampNeg)) 211 d)) 212 c (gI (L_tkp t (L_tks t (L_tkm t u_1 c d (gI M 211 d).toNatClampNeg) c d (gI M 212 d).toNatClampNeg) c d ((gI M 213 d).toNatClampNeg)) 212 d)) 213 c (gI (L_tkp t (L_tks t (L_tkm t u_1 c d (gI M 211 d).toNatClampNeg) c d (gI M 212 d).toNatClampNeg) c d ((gI M 213 d).toNatClampNeg)) 213 d)) 214 c (gI (L_tkp t (L_tks t (L_tkm t u_1 c d (gI M 211 d).toNatClampNeg) c d (gI M 212 d).toNatClampNeg) c d ((gI M 213 d).toNatClampNeg)) 214 d)) 215 c (gI (L_tkp t (L_tks t (L_tkm t u_1 c d (gI M 211 d).toNatClampNeg) c d (gI M 212 d).toNatClampNeg) c d ((gI M 213 d).toNatClampNeg)) 215 d)) 216 c (gI (L_tkp t (L_tks t (L_tkm t u_1 c d (gI M 211 d).toNatClampNeg) c d (gI M 212 d).toNatClampNeg) c d ((gI M 213 d).toNatClampNeg)) 216 d)) 217 c (gI (L_tkp t (L_tks t (L_tkm t u_1 c d (gI M 211 d).toNatClampNeg) c d (gI M 212 d).toNatClampNeg) c d ((gI M 213 d).toNatClampNeg)) 217 d))) H := hm
        refine lv_aload_n hx hb dX2_take_199 rfl (lv_at hl 1 rfl) ?_
        refine lv_aload_n hx hb dX2_take_200 rfl (lv_at hl 2 rfl) ?_
        refine gf_218 hx hb hts hown hs hm (lay.z hD) (hts _ q261) dX2_take_201 ?_
        refine pf_218 hx hb hts hown hs hm hS (lay.z hL) (hts _ q261) dX2_take_204 (fun H locs hm hS => ?_)
        have hm : mw E t ((sI (sI (sI (sI (sI (sI (sI (sI (L_tkp t (L_tks t (L_tkm t u_1 c d (gI M 211 d).toNatClampNeg) c d (gI M 212 d).toNatClampNeg) c d ((gI M 213 d).toNatClampNeg)) 211 c (gI (L_tkp t (L_tks t (L_tkm t u_1 c d (gI M 211 d).toNatClampNeg) c d (gI M 212 d).toNatClampNeg) c d ((gI M 213 d).toNatClampNeg)) 211 d)) 212 c (gI (L_tkp t (L_tks t (L_tkm t u_1 c d (gI M 211 d).toNatClampNeg) c d (gI M 212 d).toNatClampNeg) c d ((gI M 213 d).toNatClampNeg)) 212 d)) 213 c (gI (L_tkp t (L_tks t (L_tkm t u_1 c d (gI M 211 d).toNatClampNeg) c d (gI M 212 d).toNatClampNeg) c d ((gI M 213 d).toNatClampNeg)) 213 d)) 214 c (gI (L_tkp t (L_tks t (L_tkm t u_1 c d (gI M 211 d).toNatClampNeg) c d (gI M 212 d).toNatClampNeg) c d ((gI M 213 d).toNatClampNeg)) 214 d)) 215 c (gI (L_tkp t (L_tks t (L_tkm t u_1 c d (gI M 211 d).toNatClampNeg) c d (gI M 212 d).toNatClampNeg) c d ((gI M 213 d).toNatClampNeg)) 215 d)) 216 c (gI (L_tkp t (L_tks t (L_tkm t u_1 c d (gI M 211 d).toNatClampNeg) c d (gI M 212 d).toNatClampNeg) c d ((gI M 213 d).toNatClampNeg)) 216 d)) 217 c (gI (L_tkp t (L_tks t (L_tkm t u_1 c d (gI M 211 d).toNatClampNeg) c d (gI M 212 d).toNatClampNeg) c d ((gI M 213 d).toNatClampNeg)) 217 d)) 218 c (gI (L_tkp t (L_tks t (L_tkm t u_1 c d (gI M 211 d).toNatClampNeg) c d (gI M 212 d).toNatClampNeg) c d ((gI M 213 d).toNatClampNeg)) 218 d))) H := hm
        refine lv_aload_n hx hb dX2_take_207 rfl (lv_at hl 1 rfl) ?_
        refine lv_aload_n hx hb dX2_take_208 rfl (lv_at hl 2 rfl) ?_
        refine gf_219 hx hb hts hown hs hm (lay.z hD) (hts _ q263) dX2_take_209 ?_
        refine pf_219 hx hb hts hown hs hm hS (lay.z hL) (hts _ q263) dX2_take_212 (fun H locs hm hS => ?_)
        have hm : mw E t ((sI (sI (sI (sI (sI (sI (sI (sI (sI (L_tkp t (L_tks t (L_tkm t u_1 c d (gI M 211 d).toNatClampNeg) c d (gI M 212 d).toNatClampNeg) c d ((gI M 213 d).toNatClampNeg)) 211 c (gI (L_tkp t (L_tks t (L_tkm t u_1 c d (gI M 211 d).toNatClampNeg) c d (gI M 212 d).toNatClampNeg) c d ((gI M 213 d).toNatClampNeg)) 211 d)) 212 c (gI (L_tkp t (L_tks t (L_tkm t u_1 c d (gI M 211 d).toNatClampNeg) c d (gI M 212 d).toNatClampNeg) c d ((gI M 213 d).toNatClampNeg)) 212 d)) 213 c (gI (L_tkp t (L_tks t (L_tkm t u_1 c d (gI M 211 d).toNatClampNeg) c d (gI M 212 d).toNatClampNeg) c d ((gI M 213 d).toNatClampNeg)) 213 d)) 214 c (gI (L_tkp t (L_tks t (L_tkm t u_1 c d (gI M 211 d).toNatClampNeg) c d (gI M 212 d).toNatClampNeg) c d ((gI M 213 d).toNatClampNeg)) 214 d)) 215 c (gI (L_tkp t (L_tks t (L_tkm t u_1 c d (gI M 211 d).toNatClampNeg) c d (gI M 212 d).toNatClampNeg) c d ((gI M 213 d).toNatClampNeg)) 215 d)) 216 c (gI (L_tkp t (L_tks t (L_tkm t u_1 c d (gI M 211 d).toNatClampNeg) c d (gI M 212 d).toNatClampNeg) c d ((gI M 213 d).toNatClampNeg)) 216 d)) 217 c (gI (L_tkp t (L_tks t (L_tkm t u_1 c d (gI M 211 d).toNatClampNeg) c d (gI M 212 d).toNatClampNeg) c d ((gI M 213 d).toNatClampNeg)) 217 d)) 218 c (gI (L_tkp t (L_tks t (L_tkm t u_1 c d (gI M 211 d).toNatClampNeg) c d (gI M 212 d).toNatClampNeg) c d ((gI M 213 d).toNatClampNeg)) 218 d)) 219 c (gI (L_tkp t (L_tks t (L_tkm t u_1 c d (gI M 211 d).toNatClampNeg) c d (gI M 212 d).toNatClampNeg) c d ((gI M 213 d).toNatClampNeg)) 219 d))) H := hm
        subst hu_1
        exact W.vret hx hb hr (fun t9 ht9 _ => ⟨⟨_, rfl, (rfl).symm, hb9 ht9 hm⟩, hS.F ht9⟩) hS.2.2 dX2_take_215
      · have hk : k < (gI M 213 d).toNatClampNeg := lp_ltI hn6 (by decide) hI_6 (by rw [tkp_gI t _ c d 213 d (by decide), tks_gI t _ c d 213 d (by decide), tkm_gI t _ c d 213 d (by decide), hu_1, tp_gI t _ c d (Or.inl (by decide)) d] at c_7; exact c_7)
        have hk6 : k < 6 := by have := (hn6.nat (by decide)).1; omega
        have hzc : przO t (aR (L_tkp t (L_tks t (L_tkm t u_1 c d (gI M 211 d).toNatClampNeg) c d (gI M 212 d).toNatClampNeg) c d k) (c + 11) k) := by rw [tkp_aR, tks_aR, tkm_aR, hu_1, tp_aR t _ c d (c + 11) (by omega) (by omega) (by omega)]; exact hpc k (by omega)
        have hzd : przO t (aR (L_tkp t (L_tks t (L_tkm t u_1 c d (gI M 211 d).toNatClampNeg) c d (gI M 212 d).toNatClampNeg) c d k) (d + 11) k) := by rw [tkp_aR, tks_aR, tkm_aR, hu_1, tp_aR t _ c d (d + 11) (by omega) (by omega) (by omega)]; exact hpd k (by omega)
        refine lv_aload_n hx hb dX2_take_122 rfl (lv_at hl 1 rfl) ?_
        refine gf_210 hx hb hts hown hs hm (lay.z hL) (hts _ q243) dX2_take_123 ?_
        refine lv_iload_n hx hb dX2_take_126 rfl (lv_at hl 0 rfl) ?_
        refine k_aald29 hx hb hs hm (lay.a11 hL) (ix.at (B := 6) (⟨k, hk6, rfl⟩) (by decide)) dX2_take_127 ?_
        rw [show (nI k).toNatClampNeg = k from cl_nI (by omega)]
        refine k_nn (przO.nn hzc) ?_
        refine lv_aload_n hx hb dX2_take_128 rfl (lv_at hl 2 rfl) ?_
        refine gf_210 hx hb hts hown hs hm (lay.z hD) (hts _ q243) dX2_take_129 ?_
        refine lv_iload_n hx hb dX2_take_132 rfl (lv_at hl 0 rfl) ?_
        refine k_aald29 hx hb hs hm (lay.a11 hD) (ix.at (B := 6) (⟨k, hk6, rfl⟩) (by decide)) dX2_take_133 ?_
        rw [show (nI k).toNatClampNeg = k from cl_nI (by omega)]
        refine k_nn (przO.nn hzd) ?_
        refine k_callv (va_runV (As := [.ref (((aR (L_tkp t (L_tks t (L_tkm t u_1 c d (gI M 211 d).toNatClampNeg) c d (gI M 212 d).toNatClampNeg) c d k) (d + 11) k).getD 0))]) (rest := []) ⟨hx, hb, hml, hown, hts⟩ (cm8_take l E t (L_tkp t (L_tks t (L_tkm t u_1 c d (gI M 211 d).toNatClampNeg) c d (gI M 212 d).toNatClampNeg) c d k)  (((aR (L_tkp t (L_tks t (L_tkm t u_1 c d (gI M 211 d).toNatClampNeg) c d (gI M 212 d).toNatClampNeg) c d k) (c + 11) k).getD 0)) (((aR (L_tkp t (L_tks t (L_tkm t u_1 c d (gI M 211 d).toNatClampNeg) c d (gI M 212 d).toNatClampNeg) c d k) (d + 11) k).getD 0)) (przO.k hzc) (przO.k hzd)) (cwV 1 hts (lw_V q622 q623 q624 q65 q625) rfl rfl rfl (by decide +kernel) ⟨Nat.le_of_ble_eq_true rfl, Nat.le_of_ble_eq_true rfl⟩) (k_preV hs hm hS (mw.recv hs hm (mt_ne (przO.k hzc) (by decide)) (ct7 (przO.k hzc)) rfl)) rfl rfl hl.1 rfl (lv_room (Nat.le_of_ble_eq_true rfl)) dX2_take_134 ⟨Nat.le_of_ble_eq_true rfl, Nat.le_of_ble_eq_true rfl⟩) hS (fun u_8 H locs hw_8 hm_8 hS => ?_)
        have hu_8 := hw_8
        have hm := hm_8
        refine lv_iinc (v := nI (k + 1)) (lv' := [(2, _), (0, _), (1, _)]) hx hb dX2_take_137 hl (k := 0) rfl (nI_succ k).symm (by decide) rfl (fun ls hl => ?_)
        refine lv_goto (tgt := 114) hx hb dX2_take_140 (by decide) ?_
        subst hu_8
        have hE : L_tkp t (L_tks t (L_tkm t u_1 c d (gI M 211 d).toNatClampNeg) c d (gI M 212 d).toNatClampNeg) c d (k + 1) = _ := (L_tkp_s t _ c d k).trans (rfl)
        exact ih_6 (k + 1) (by omega) _ _ _ ⟨(by omega), (by rw [hE]; exact hm), hS, lv_sub hl [0, 1, 2] rfl⟩
    · have hk : k < (gI M 212 d).toNatClampNeg := lp_ltI hn4 (by decide) hI_4 (by rw [tks_gI t _ c d 212 d (by decide), tkm_gI t _ c d 212 d (by decide), hu_1, tp_gI t _ c d (Or.inl (by decide)) d] at c_5; exact c_5)
      have hk4 : k < 4 := Nat.lt_of_lt_of_le hk (Nat.le_of_lt_succ (hn4.nat (by decide)).1)
      have hst9 : gI (L_tks t (L_tkm t u_1 c d (gI M 211 d).toNatClampNeg) c d k) 602 (d + 54 + k) = 0 ∨ gI (L_tks t (L_tkm t u_1 c d (gI M 211 d).toNatClampNeg) c d k) 602 (d + 54 + k) = 1 := by rw [tks_602 _ hL hD hdc hk4 k (by omega), tkm_gI t _ c d 602 _ (by decide), hu_1, tp_gI t _ c d (Or.inr (by decide)) _]; exact hst k hk4 hk
      refine lv_aload_n hx hb dX2_take_91 rfl (lv_at hl 1 rfl) ?_
      refine gf_209 hx hb hts hown hs hm (lay.z hL) (hts _ q241) dX2_take_92 ?_
      refine lv_iload_n hx hb dX2_take_95 rfl (lv_at hl 0 rfl) ?_
      refine k_shd hx hb hs hm (lay.a10 hL) (k := k) (cl_nI (by omega)).symm (ix.at (B := 4) (⟨k, hk4, rfl⟩) (by decide)) dX2_take_96 ?_
      refine lv_aload_n hx hb dX2_take_97 rfl (lv_at hl 2 rfl) ?_
      refine gf_209 hx hb hts hown hs hm (lay.z hD) (hts _ q241) dX2_take_98 ?_
      refine lv_iload_n hx hb dX2_take_101 rfl (lv_at hl 0 rfl) ?_
      refine k_shd hx hb hs hm (lay.a10 hD) (k := k) (cl_nI (by omega)).symm (ix.at (B := 4) (⟨k, hk4, rfl⟩) (by decide)) dX2_take_102 ?_
      refine k_callv (va_runV (As := [.ref ((d + 54 + k))]) (rest := []) ⟨hx, hb, hml, hown, hts⟩ (cm7_take l E t (L_tks t (L_tkm t u_1 c d (gI M 211 d).toNatClampNeg) c d k)  ((c + 54 + k)) ((d + 54 + k)) (lay.shd hL (by omega)) (hD.shd (by omega)) hst9) (cwV 1 hts (lw_V q618 q619 q620 q64 q621) rfl rfl rfl (by decide +kernel) ⟨Nat.le_of_ble_eq_true rfl, Nat.le_of_ble_eq_true rfl⟩) (k_preV hs hm hS (mw.recv hs hm (mt_ne (lay.shd hL (by omega)) (by decide)) (ct6 (lay.shd hL (by omega))) rfl)) rfl rfl hl.1 rfl (lv_room (Nat.le_of_ble_eq_true rfl)) dX2_take_103 ⟨Nat.le_of_ble_eq_true rfl, Nat.le_of_ble_eq_true rfl⟩) hS (fun u_9 H locs hw_9 hm_9 hS => ?_)
      have hu_9 := hw_9
      have hm := hm_9
      refine lv_iinc (v := nI (k + 1)) (lv' := [(2, _), (0, _), (1, _)]) hx hb dX2_take_106 hl (k := 0) rfl (nI_succ k).symm (by decide) rfl (fun ls hl => ?_)
      refine lv_goto (tgt := 83) hx hb dX2_take_109 (by decide) ?_
      subst hu_9
      have hE : L_tks t (L_tkm t u_1 c d (gI M 211 d).toNatClampNeg) c d (k + 1) = _ := (L_tks_s t _ c d k).trans (rfl)
      exact ih_4 (k + 1) (by omega) _ _ _ ⟨(by omega), (by rw [hE]; exact hm), hS, lv_sub hl [0, 1, 2] rfl⟩
  · have hk : k < (gI M 211 d).toNatClampNeg := lp_ltI hn (by decide) hI_2 (by rw [tkm_gI t _ c d 211 d (by decide), hu_1, tp_gI t _ c d (Or.inl (by decide)) d] at c_3; exact c_3)
    have hk6 : k < 6 := Nat.lt_of_lt_of_le hk (Nat.le_of_lt_succ (hn.nat (by decide)).1)
    refine lv_aload_n hx hb dX2_take_60 rfl (lv_at hl 1 rfl) ?_
    refine gf_208 hx hb hts hown hs hm (lay.z hL) (hts _ q239) dX2_take_61 ?_
    refine lv_iload_n hx hb dX2_take_64 rfl (lv_at hl 0 rfl) ?_
    refine k_mem hx hb hs hm (lay.a9 hL) (k := k) (cl_nI (by omega)).symm (ix.at (B := 6) (⟨k, hk6, rfl⟩) (by decide)) dX2_take_65 ?_
    refine lv_aload_n hx hb dX2_take_66 rfl (lv_at hl 2 rfl) ?_
    refine gf_208 hx hb hts hown hs hm (lay.z hD) (hts _ q239) dX2_take_67 ?_
    refine lv_iload_n hx hb dX2_take_70 rfl (lv_at hl 0 rfl) ?_
    refine k_mem hx hb hs hm (lay.a9 hD) (k := k) (cl_nI (by omega)).symm (ix.at (B := 6) (⟨k, hk6, rfl⟩) (by decide)) dX2_take_71 ?_
    refine k_callv (va_runV (As := [.ref ((d + 48 + k))]) (rest := []) ⟨hx, hb, hml, hown, hts⟩ (cm6_take l E t (L_tkm t u_1 c d k)  ((c + 48 + k)) ((d + 48 + k)) (lay.mem hL (by omega)) (hD.mem (by omega))) (cwV 1 hts (lw_V q614 q615 q616 q63 q617) rfl rfl rfl (by decide +kernel) ⟨Nat.le_of_ble_eq_true rfl, Nat.le_of_ble_eq_true rfl⟩) (k_preV hs hm hS (mw.recv hs hm (mt_ne (lay.mem hL (by omega)) (by decide)) (ct5 (lay.mem hL (by omega))) rfl)) rfl rfl hl.1 rfl (lv_room (Nat.le_of_ble_eq_true rfl)) dX2_take_72 ⟨Nat.le_of_ble_eq_true rfl, Nat.le_of_ble_eq_true rfl⟩) hS (fun u_10 H locs hw_10 hm_10 hS => ?_)
    have hu_10 := hw_10
    have hm := hm_10
    refine lv_iinc (v := nI (k + 1)) (lv' := [(2, _), (0, _), (1, _)]) hx hb dX2_take_75 hl (k := 0) rfl (nI_succ k).symm (by decide) rfl (fun ls hl => ?_)
    refine lv_goto (tgt := 52) hx hb dX2_take_78 (by decide) ?_
    subst hu_10
    have hE : L_tkm t u_1 c d (k + 1) = _ := (L_tkm_s t _ c d k).trans (rfl)
    exact ih_2 (k + 1) (by omega) _ _ _ ⟨(by omega), (by rw [hE]; exact hm), hS, lv_sub hl [0, 1, 2] rfl⟩
