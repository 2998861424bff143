set_option maxRecDepth 100000
/-! new arrays; StringBuilder: append of a char -/
section KNG
variable {p : Program} {l : Launch} {e : Env} {R : Room} {s : State} {m : MethodId} {args : Array Value} {below : List Frame} {meth : Method} {c : Code} {H : Heap} {locs : List Loc} {cells slots : Nat} {Q : State → Prop}
variable {cc : ByteArray} {pc : Nat} {ls : Array Slot} {rest : List Value} {a b : Nat} {E : mE} {t : mt} {M : mm}
/-- a new array of numbers -/
theorem k_newG {kd0 j N : Nat} {a0 : vp_A} {atype : ArrayType} {ty : FieldType} {i : Int32} {M1 : Nat → mm} (hexec : p.tables.exec = Jvm.exec) (hb : c.code = cc) (harr : (Cond.arrayClass (newarray.typeOf atype)).before args s = true) (hty : newarray.typeOf atype = ty) (hs : sP E s) (hm : mw E t M H) (hS : va_S (eA E) s.heap H locs) (hj : (tyA E.2.1)[j]? = some (E.2.1 j, ty)) (hRA : va_RA s (E.2.1 j) ty → s.vm.findClass ("[" ++ ty.toString) = some (E.2.1 j)) (ha : ∀ cA : ClassId, vp_cell cA a0 = arrV cA N (fun _ => defaultValue ty)) (hM : ∀ q b, b ≠ q → ct E (m1 t q (kd0, N)) (M1 q) b = ct E t M b) (hE : ∀ q, ct E (m1 t q (kd0, N)) (M1 q) q = .inl (E.2.1 j, a0)) (hn : ¬ i < 0) (hN : i.toNatClampNeg = N) (hbytes : N * componentBytes ty ≤ 536870912) (hcells : cells + 1 ≤ R.cells) (hslots : slots + N ≤ R.slots) (hdg : decode cc pc = .ok (.newarray atype, 2))
    (kk : ∀ (q : Nat) (H1 : Heap), q = H.size → H1.size = q + 1 → (t q).1 = 0 → mw E (m1 t q (kd0, N)) (M1 q) H1 → va_S (eA E) s.heap H1 locs → W p l e R s m args below meth c H1 locs (cells + 1) (slots + N) Q (F0 m (pc + 2) ls (.ref q :: rest))) : W p l e R s m args below meth c H locs cells slots Q (F0 m pc ls (.int i :: rest)) := by
  subst hty
  refine va_newaK hexec hb harr rfl hdg rfl hn hN hbytes hcells hslots rfl (fun H1 cA e1 z1 o1 _ hNm => ?_)
  have hcA : cA = E.2.1 j := Option.some.inj (hNm.symm.trans (hRA (hs.2.1.2 j _ hj).2))
  have hq0 : (t H.size).1 = 0 := by
    by_cases h9 : (t H.size).1 = 0
    · exact h9
    · exact absurd (hm.lt h9) (Nat.lt_irrefl _)
  have hA : ∀ q, H.size ≤ q → eA E q := fun q hq => eA.all hs q (Nat.le_trans hS.1 hq)
  have hS1 : va_S (eA E) s.heap H1 locs := ⟨Nat.le_trans hS.1 (by omega), fun x h1 h2 => (o1 x (Nat.lt_of_lt_of_le h1 hS.1)).trans (hS.2.1 x h1 h2), hS.2.2⟩
  refine kk H.size H1 rfl z1 hq0 ?_ hS1
  obtain ⟨L, hL, hP, hD⟩ := hm
  have hk : ∀ (k : Nat) (x : Nat × va_E), (va_pl L (ct E t M))[k]? = some x → H1[x.1]? = H[x.1]? := fun k x hx => o1 x.1 ((hP k x hx).lt)
  have hqL : H.size ∉ L := fun h9 => absurd (P_at hP h9).lt (Nat.lt_irrefl _)
  refine mw.push (H := H) hqL hL (fun b hb9 h9 => by rw [m1_ne t _ hb9] at h9; exact h9) (fun b hb9 => hM _ b hb9) (hE _) ((hP.kept hk).app (fun k x hx => ?_)) (hD.push hP rfl (hA _ (Nat.le_refl _)))
  have hz : k < 1 := (List.getElem?_eq_some_iff.mp hx).1
  rw [show k = 0 by omega] at hx
  cases hx
  show H1[H.size]? = some (vp_cell _ _)
  rw [ha, ← hcA]
  exact e1
theorem k_newB {N : Nat} {i : Int32} (hexec : p.tables.exec = Jvm.exec) (hb : c.code = cc) (hts : ∀ w ∈ lw_all, w.before args s = true) (hs : sP E s) (hm : mw E t M H) (hS : va_S (eA E) s.heap H locs) (hn : ¬ i < 0) (hN : i.toNatClampNeg = N) (hbytes : N ≤ 60000) (hcells : cells + 1 ≤ R.cells) (hslots : slots + N ≤ R.slots) (hdg : decode cc pc = .ok (.newarray .byte, 2))
    (kk : ∀ (q : Nat) (H1 : Heap), q = H.size → H1.size = q + 1 → (t q).1 = 0 → mw E (m1 t q (23, N)) (wI M q (fun _ => 0)) H1 → va_S (eA E) s.heap H1 locs → W p l e R s m args below meth c H1 locs (cells + 1) (slots + N) Q (F0 m (pc + 2) ls (.ref q :: rest))) : W p l e R s m args below meth c H locs cells slots Q (F0 m pc ls (.int i :: rest)) :=
  k_newG (kd0 := 23) (j := 3) (atype := .byte) (ty := .byte) (M1 := fun q => wI M q (fun _ => 0)) (a0 := (N, .inl fun _ => 0)) hexec hb (hts _ q359) rfl hs hm hS rfl (fun h => h) (fun _ => rfl) (fun q b hb9 => by rw [ct_wI hb9]; unfold ct; rw [m1_ne t _ hb9]) (fun q => by unfold ct; rw [m1_at]; simp only [aI, wI, m1_at]) hn hN (by show N * 1 ≤ _; omega) hcells hslots hdg kk
theorem k_cpyB {n0 n1 : Nat} {own : String} {index : Nat} (hexec : p.tables.exec = Jvm.exec) (hb : c.code = cc) (hml : c.maxLocals = ls.size) (hown : s.vm.findClass own = some m.cls) (hlink : (Cond.methodLink own index arraycopyName).before args s = true) (hnat : (Cond.native arraycopyName).before args s = true) (hstat : (Cond.static arraycopyName).before args s = true) (hini : (Cond.initialized "java/lang/System").before args s = true) (hs : sP E s) (hm : mw E t M H) (hS : va_S (eA E) s.heap H locs) (hta : t a = (23, n0)) (htb : t b = (23, n1)) {n : Nat} (hn : n < 2 ^ 31) (h4 : n ≤ n0) (h5 : n ≤ n1) (hf : ∀ i, i < n → fits .byte (.int (aI M a i)) = true) (hframes : 1 ≤ R.frames) (hlocals : (rest.map fun v => v.category).sum + (nativeFrameWords "java/lang/System" "arraycopy" 5 + 11) ≤ R.locals) (hdg : decode cc pc = .ok (.invokestatic index, 3))
    (kk : ∀ (H1 : Heap) (locs1 : List Loc), mw E t (wI M b (va_cpy (aI M a) (aI M b) 0 0 n)) H1 → va_S (eA E) s.heap H1 locs1 → W p l e R s m args below meth c H1 locs1 cells slots Q (F0 m (pc + 3) ls rest)) : W p l e R s m args below meth c H locs cells slots Q (F0 m pc ls (.int (nI n) :: .int (0 : Int32) :: .ref b :: .int (0 : Int32) :: .ref a :: rest)) := by
  obtain ⟨L, hL, hP, hD⟩ := hm
  obtain ⟨q0, hq⟩ := mw.at (E := E) (t := t) (M := M) (hL a (mt_ne hta (by decide)))
  obtain ⟨q1, hq1⟩ := mw.at (E := E) (t := t) (M := M) (hL b (mt_ne htb (by decide)))
  have hset := pl_set (e := .inl (E.2.1 3, n1, .inl (va_cpy (aI M a) (aI M b) 0 0 n))) hD (hL b (mt_ne htb (by decide))) hq1
  rw [show ct E t M a = .inl (E.2.1 3, n0, .inl (aI M a)) from ct_k hta] at hq
  rw [show ct E t M b = .inl (E.2.1 3, n1, .inl (aI M b)) from ct_k htb] at hq1
  have e0 : (0 : Int32).toNatClampNeg = 0 := by decide
  refine va_copyi hexec hb hml hown hlink hnat hstat hini hs.2.1 hP hD hS q0 q1 3 3 hq hq1 rfl rfl rfl (by decide) (by decide) (nI_pos hn) (by rw [nI_clamp hn, e0]; omega) (by rw [nI_clamp hn, e0]; omega) (fun i hi => by rw [nI_clamp hn] at hi; rw [e0, Nat.zero_add]; exact hf i hi) hframes hlocals hdg (fun H1 locs1 hP1 hD1 hS1 => ?_)
  rw [nI_clamp hn, e0, hset] at hP1 hD1
  refine kk H1 locs1 (mw.to hL (fun x => ?_) hP1 hD1) hS1
  by_cases hba : x = b
  · subst hba
    rw [va_up_self, ct_k htb]
    simp only [ct, aI, wI, m1_at]
  · rw [va_up_ne _ _ hba, ct_wI hba]
end KNG
theorem m1_m1 {α : Type} (f : Nat → α) (x : Nat) (v w : α) : m1 (m1 f x v) x w = m1 f x w := by
  funext g
  unfold m1
  cases Nat.beq g x <;> rfl
theorem aI_wI (M : mm) (a : Nat) (f : Nat → Int32) : aI (wI M a f) a = f := m1_at _ _ _
theorem aI_wIn (M : mm) {a b : Nat} (f : Nat → Int32) (h : b ≠ a) : aI (wI M a f) b = aI M b := m1_ne _ _ h
/-! letters as bytes -/
theorem lb8 (x : Int32) : x.toInt8.toInt32 &&& 255 = nI (x.toBitVec.toNat % 256) := by
  rw [pk_and _ 8 (by decide)]
  congr 1
  rw [Int8.toBitVec_toInt32, Int32.toBitVec_toInt8, BitVec.toNat_signExtend, BitVec.toNat_setWidth, BitVec.toNat_signExtend, BitVec.toNat_setWidth]
  (repeat' split) <;> omega
theorem nar8 (x : Int32) : vp_nar .byte (x.toInt8.toInt32) = x.toInt8.toInt32 := by
  unfold vp_nar
  rw [pk_nb]
def l8 (f : Nat → Int32) (i : Nat) : Int32 := (((f i) &&& (255 : Int32)).toUInt32 % 65536).toInt32
def l16 (f : Nat → Int32) (i : Nat) : Int32 := ((((((f (2 * i)) &&& (255 : Int32)) <<< ((0 : Int32) &&& 31)) ||| (((f (2 * i + 1)) &&& (255 : Int32)) <<< ((8 : Int32) &&& 31)))).toUInt32 % 65536).toInt32
def put16 (f : Nat → Int32) (i : Nat) (x : Int32) : Nat → Int32 := upd (upd f (2 * i) (vp_nar .byte ((x >>> ((0 : Int32) &&& 31)).toInt8.toInt32))) (2 * i + 1) (vp_nar .byte ((x >>> ((8 : Int32) &&& 31)).toInt8.toInt32))
theorem l8_at {j : Nat} (hj : j < 256) (f : Nat → Int32) (i : Nat) : l8 (upd f i (vp_nar .byte ((nI j).toInt8.toInt32))) i = nI j := by
  unfold l8
  rw [pk_us, nar8, lb8, pk_tn (by omega), pk_char, pk_tn (by omega)]
  congr 1
  omega
theorem or_cat {a b : Nat} (ha : a < 256) (hb : b < 256) : nI a ||| nI (b * 256) = nI (b * 256 + a) := by
  apply Int32.toBitVec_inj.mp
  apply BitVec.eq_of_toNat_eq
  rw [Int32.toBitVec_or, BitVec.toNat_or, pk_tn (by omega), pk_tn (by omega), pk_tn (by omega), Nat.or_comm, Nat.mul_comm b 256]
  exact (Nat.two_pow_add_eq_or_of_lt (i := 8) ha b).symm
theorem l16_at {j : Nat} (hj : j < 65536) (f : Nat → Int32) (i : Nat) : l16 (put16 f i (nI j)) i = nI j := by
  unfold l16 put16
  rw [pk_un (show 2 * i ≠ 2 * i + 1 by omega), pk_us, pk_us, nar8, nar8, lb8, lb8, pk_shrN (by omega) ((0 : Int32) &&& 31) 0 (by decide), pk_shrN (by omega) ((8 : Int32) &&& 31) 8 (by decide), pk_tn (by omega), pk_tn (by omega), pk_shlN ((0 : Int32) &&& 31) 0 (by decide) (by omega), pk_shlN ((8 : Int32) &&& 31) 8 (by decide) (by omega)]
  rw [show j / 2 ^ 0 % 256 * 2 ^ 0 = j % 256 by omega, show j / 2 ^ 8 % 256 * 2 ^ 8 = (j / 256) * 256 by omega, or_cat (by omega) (by omega), pk_char, pk_tn (by omega)]
  congr 1
  omega
theorem l16_ne {i k : Nat} (h : k ≠ i) (f : Nat → Int32) (x : Int32) : l16 (put16 f i x) k = l16 f k := by
  unfold l16 put16
  rw [pk_un (show 2 * k ≠ 2 * i + 1 by omega), pk_un (show 2 * k ≠ 2 * i by omega), pk_un (show 2 * k + 1 ≠ 2 * i + 1 by omega), pk_un (show 2 * k + 1 ≠ 2 * i by omega)]
theorem l8_cg {f g : Nat → Int32} {i : Nat} (h : f i = g i) : l8 f i = l8 g i := by unfold l8; rw [h]
theorem l16_cg {f g : Nat → Int32} {i : Nat} (h : f (2 * i) = g (2 * i)) (h1 : f (2 * i + 1) = g (2 * i + 1)) : l16 f i = l16 g i := by unfold l16; rw [h, h1]
theorem l8_nI (f : Nat → Int32) (i : Nat) : ∃ j, j < 256 ∧ (f i) &&& 255 = nI j ∧ l8 f i = nI j := by
  obtain ⟨j, h1, h2⟩ := pk_andE (f i) (m := 255) 8 (by decide)
  refine ⟨j, h1, h2, ?_⟩
  unfold l8
  rw [h2, pk_char, pk_tn (by omega)]
  congr 1
  omega
/-! the builder: its letters, its bytes -/
def bytesF (M : mm) (a n : Nat) : Prop := ∀ i, i < n → fits .byte (.int (aI M a i)) = true
def sbB (t : mt) (M : mm) (c n k : Nat) : Prop := sbP t M c n k ∧ bytesF M (gN M 1100 c) n ∧ n ≤ 500 ∧ (gI M 1101 c = 0 → n ≤ 250)
/-- letter i of the builder at c -/
def ltr (M : mm) (c i : Nat) : Int32 := if gI M 1101 c = 0 then l8 (aI M (gN M 1100 c)) i else l16 (aI M (gN M 1100 c)) i
theorem charAt_ltr (t : mt) (M : mm) (c : Nat) {i : Nat} (hi : i < 2 ^ 31) : CJ3_charAt t M c (nI i) = ltr M c i := by
  unfold CJ3_charAt CJ2_charAt CJ5_getChar ltr l8 l16
  dsimp only
  rw [cl_nI hi]
/-- all that a memory says of an address -/
def smC (M N : mm) (b : Nat) : Prop := (∀ f, gI N f b = gI M f b) ∧ (∀ f, gF N f b = gF M f b) ∧ (∀ f, gN N f b = gN M f b) ∧ aI N b = aI M b ∧ aF N b = aF M b ∧ aR N b = aR M b ∧ aL N b = aL M b ∧ aD N b = aD M b
theorem smC.rf (M : mm) (b : Nat) : smC M M b := ⟨fun _ => rfl, fun _ => rfl, fun _ => rfl, rfl, rfl, rfl, rfl, rfl⟩
theorem smC.tr {M N P : mm} {b : Nat} (h : smC M N b) (k : smC N P b) : smC M P b := ⟨fun f => (k.1 f).trans (h.1 f), fun f => (k.2.1 f).trans (h.2.1 f), fun f => (k.2.2.1 f).trans (h.2.2.1 f), k.2.2.2.1.trans h.2.2.2.1, k.2.2.2.2.1.trans h.2.2.2.2.1, k.2.2.2.2.2.1.trans h.2.2.2.2.2.1, k.2.2.2.2.2.2.1.trans h.2.2.2.2.2.2.1, k.2.2.2.2.2.2.2.trans h.2.2.2.2.2.2.2⟩
theorem smC.wI {M : mm} {a b : Nat} (f : Nat → Int32) (h : b ≠ a) : smC M (wI M a f) b := ⟨fun _ => rfl, fun _ => rfl, fun _ => rfl, m1_ne _ _ h, rfl, rfl, rfl, rfl⟩
theorem smC.sI {M : mm} {a b g : Nat} (v : Int32) (h : b ≠ a) : smC M (sI M g a v) b := ⟨fun _ => m2_ne _ _ h, fun _ => rfl, fun _ => rfl, rfl, rfl, rfl, rfl, rfl⟩
theorem smC.sN {M : mm} {a b g : Nat} (v : Nat) (h : b ≠ a) : smC M (sN M g a v) b := ⟨fun _ => rfl, fun _ => rfl, fun _ => m2_ne _ _ h, rfl, rfl, rfl, rfl, rfl⟩
def czw (M : mm) (c : Nat) : Nat := if gI M 1101 c = 0 then 1 else 2
section CZ
variable {t : mt} {M : mm} {c n k m : Nat}
theorem cz_or (h : sbP t M c n k) : (gI M 1101 c = 0 ∧ czw M c = 1) ∨ (gI M 1101 c = 1 ∧ czw M c = 2) := by
  rcases h.2.2.2.2 with ⟨h1, -⟩ | ⟨h1, -⟩
  · exact .inl ⟨h1, if_pos h1⟩
  · exact .inr ⟨h1, if_neg (by rw [h1]; decide)⟩
theorem cz_shl (h : sbP t M c n k) (hm : m ≤ 60000) : nI m <<< ((gI M 1101 c) &&& 31) = nI (m * czw M c) := by
  rcases cz_or h with ⟨h1, h2⟩ | ⟨h1, h2⟩
  · rw [h1, h2, pk_shlN ((0 : Int32) &&& 31) 0 (by decide) (by omega)]
  · rw [h1, h2, pk_shlN ((1 : Int32) &&& 31) 1 (by decide) (by omega)]
theorem cz_shr (h : sbP t M c n k) (hm : m ≤ 200000) : nI m >>> ((gI M 1101 c) &&& 31) = nI (m / czw M c) := by
  rcases cz_or h with ⟨h1, h2⟩ | ⟨h1, h2⟩
  · rw [h1, h2, pk_shrN (by omega) ((0 : Int32) &&& 31) 0 (by decide)]
  · rw [h1, h2, pk_shrN (by omega) ((1 : Int32) &&& 31) 1 (by decide)]
theorem cz_pos (h : sbP t M c n k) : k * czw M c ≤ n ∧ 1 ≤ czw M c ∧ czw M c ≤ 2 := by
  rcases h.2.2.2.2 with ⟨h1, h3⟩ | ⟨h1, h3⟩
  · rw [show czw M c = 1 from if_pos h1]; omega
  · rw [show czw M c = 2 from if_neg (by rw [h1]; decide)]; omega
/-- does it grow? -/
theorem cz_gr (h : sbP t M c n k) (hk : k ≤ 60) (hn : n ≤ 500) (hc : ¬ (nI (k + 1) - (nI n >>> ((gI M 1101 c) &&& 31))) ≤ 0) : n < (k + 1) * czw M c := by
  rw [cz_shr h (by omega)] at hc
  rcases Nat.lt_or_ge n ((k + 1) * czw M c) with h9 | h9
  · exact h9
  · exfalso
    refine hc ?_
    have hd : k + 1 ≤ n / czw M c := (Nat.le_div_iff_mul_le (cz_pos h).2.1).mpr h9
    have hd2 : n / czw M c ≤ n := Nat.div_le_self _ _
    have e : (nI (k + 1) - nI (n / czw M c)).toInt = ((k + 1 : Nat) : Int) - ((n / czw M c : Nat) : Int) := pk_sub_toInt (by omega) (by omega)
    rw [Int32.le_iff_toInt_le, e]
    show _ ≤ (0 : Int)
    omega
theorem cz_ngr (h : sbP t M c n k) (hk : k ≤ 60) (hn : n ≤ 500) (hc : (nI (k + 1) - (nI n >>> ((gI M 1101 c) &&& 31))) ≤ 0) : (k + 1) * czw M c ≤ n := by
  rw [cz_shr h (by omega)] at hc
  have hd2 : n / czw M c ≤ n := Nat.div_le_self _ _
  have e : (nI (k + 1) - nI (n / czw M c)).toInt = ((k + 1 : Nat) : Int) - ((n / czw M c : Nat) : Int) := pk_sub_toInt (by omega) (by omega)
  rw [Int32.le_iff_toInt_le, e] at hc
  have hc : ((k + 1 : Nat) : Int) - ((n / czw M c : Nat) : Int) ≤ 0 := hc
  exact (Nat.le_div_iff_mul_le (cz_pos h).2.1).mp (by omega)
/-- how great it gets -/
def capN (n w : Nat) : Nat := n + (n + 2 * w)
theorem cap_lt (h : sbP t M c n k) (hg : n < (k + 1) * czw M c) : nI ((k + 1) * czw M c - n) < nI (n + 2 * czw M c) ↔ True := by
  have := cz_pos h
  have h2 := h.2.2.1
  have h3 : (k + 1) * czw M c = k * czw M c + czw M c := by rw [Nat.add_mul, Nat.one_mul]
  rw [h3] at *
  rw [nI_ltI (by omega) (by omega)]
  constructor
  · exact fun _ => trivial
  · intro _
    omega
end CZ

def CJ19_newLength (t : mt) (M : mm) (x : Int32) (y : Int32) (z : Int32) : Int32 :=
  (x + (if y < z then z else y))
set_option maxHeartbeats 4000000 in
theorem cmJ19_newLength (l : Launch) (E : mE) (t : mt) (M : mm) (x : Int32) (y : Int32) (z : Int32) (h1 : ¬ (x + (if y < z then z else y)) ≤ 0) (h2 : ¬ (2147483639 : Int32) < (x + (if y < z then z else y))) : Met l yJ19_newLength (ws_ yJ19_newLength cJ19_newLength 4 (some .int)) ({ frames := 1, cells := 0, slots := 0, locals := 20 }) (va_Pc [.int x, .int y, .int z] (wP E t M)) (va_Qi (fun (r : Int32) (u : mm) => r = (CJ19_newLength t M x y z) ∧ u = M) (fun u U => mw E t u U.heap) (eA E)) 0 0 (eA E) := by
  refine Met.ofW (cc := cJ19_newLength) (maxL := 4) (ret := (some .int)) (by decide) rfl ?_
  intro p e s m args below meth c0 s₁ B hml hv
  obtain ⟨rfl, hs, hm⟩ := hv
  have hx := B.exec
  have hb := B.bytes
  have hr := B.returns
  have hts := atoms_spec (ws := ws_ yJ19_newLength cJ19_newLength 4 (some .int)) B.pre
  have hts : ∀ w ∈ lw_all, w.before _ s = true := fun w h => hts w (List.mem_cons_of_mem _ h)
  have hown : s.vm.findClass RJ19 = some m.cls := findClass_of_methodNamed B.named
  have hlocks := B.notSynchronized
  have hS : va_S (eA E) s.heap s.heap [] := va_S.rf
  have hl := lv_entry ([.int x, .int y, .int z]) (n := 4) (Nat.le_of_ble_eq_true rfl)
  rw [lg_entry_eq]
  generalize (lg_sl ([.int x, .int y, .int z]) ++ List.replicate (4 - (lg_sl ([.int x, .int y, .int z])).length) Slot.unset).toArray = ls at hl ⊢
  have hl : lv_has ls 4 [(0, .int (x)), (1, .int (y)), (2, .int (z))] := hl
  refine lv_iload_n hx hb dJ19_newLength_0 rfl (lv_at hl 0 rfl) ?_
  refine lv_iload_n hx hb dJ19_newLength_1 rfl (lv_at hl 1 rfl) ?_
  refine lv_iload_n hx hb dJ19_newLength_2 rfl (lv_at hl 2 rfl) ?_
  refine va_mmax hx hb (hml.trans hl.1.symm) hown (hts _ q1282) (hts _ q660) (hts _ q78) (hts _ q661) (Nat.le_of_ble_eq_true rfl) (Nat.le_of_ble_eq_true rfl) (Nat.le_of_ble_eq_true rfl) (Nat.le_of_ble_eq_true rfl) dJ19_newLength_3 ?_
  refine lv_iadd hx hb dJ19_newLength_6 ?_
  refine lv_istore_n (lv' := [(3, _), (0, _), (1, _), (2, _)]) hx hb dJ19_newLength_7 rfl hl (by decide) rfl (fun ls hl => ?_)
  refine lv_iconst (v := (0 : Int32)) hx hb dJ19_newLength_8 (by decide) ?_
  refine lv_iload_n hx hb dJ19_newLength_9 rfl (lv_at hl 0 rfl) ?_
  refine lv_icmp_ge (tgt := 21) hx hb dJ19_newLength_10 (by decide) (fun c_1 => (h1 c_1).elim) (fun c_1 => ?_)
  refine lv_iload_n hx hb dJ19_newLength_13 rfl (lv_at hl 0 rfl) ?_
  refine lv_ldc (v := 2147483639) hx hb hown (hts _ q1283) dJ19_newLength_14 ?_
  refine lv_icmp_gt (tgt := 21) hx hb dJ19_newLength_16 (by decide) (fun c_2 => (h2 c_2).elim) (fun c_2 => ?_)
  refine lv_iload_n hx hb dJ19_newLength_19 rfl (lv_at hl 0 rfl) ?_
  exact W.iret (v := _) hx hb hr (fun t9 ht9 _ => ⟨⟨_, _, rfl, ⟨(rfl).symm, rfl⟩, hb9 ht9 hm⟩, hS.F ht9⟩) hS.2.2 dJ19_newLength_20
theorem nlen_eq {t : mt} {M M0 : mm} {c n k : Nat} (h : sbP t M c n k) (hg : n < (k + 1) * czw M c) : CJ19_newLength t M0 (nI n) (nI ((k + 1) * czw M c - n)) (nI (n + 2 * czw M c)) = nI (capN n (czw M c)) := by
  unfold CJ19_newLength
  (try dsimp only)
  rw [if_pos ((cap_lt h hg).mpr trivial), nI_add]
  rfl
def CJ21_checkFromIndexSize (t : mt) (M : mm) (x : Int32) (y : Int32) (z : Int32) (f : Option Nat) : Int32 :=
  x
set_option maxHeartbeats 4000000 in
theorem cmJ21_checkFromIndexSize (l : Launch) (E : mE) (t : mt) (M : mm) (x : Int32) (y : Int32) (z : Int32) (f : Option Nat) (h0 : ¬ ((z ||| x) ||| y) < 0) (h1 : y ≤ z - x) : Met l yJ21_checkFromIndexSize (ws_ yJ21_checkFromIndexSize cJ21_checkFromIndexSize 4 (some .int)) ({ frames := 0, cells := 0, slots := 0, locals := 0 }) (va_Pc [.int x, .int y, .int z, va_rf f] (wP E t M)) (va_Qi (fun (r : Int32) (u : mm) => r = (CJ21_checkFromIndexSize t M x y z f) ∧ u = M) (fun u U => mw E t u U.heap) (eA E)) 0 0 (eA E) := by
  refine Met.ofW (cc := cJ21_checkFromIndexSize) (maxL := 4) (ret := (some .int)) (by decide) rfl ?_
  intro p e s m args below meth c0 s₁ B hml hv
  obtain ⟨rfl, hs, hm⟩ := hv
  have hx := B.exec
  have hb := B.bytes
  have hr := B.returns
  have hts := atoms_spec (ws := ws_ yJ21_checkFromIndexSize cJ21_checkFromIndexSize 4 (some .int)) B.pre
  have hts : ∀ w ∈ lw_all, w.before _ s = true := fun w h => hts w (List.mem_cons_of_mem _ h)
  have hown : s.vm.findClass RJ21 = some m.cls := findClass_of_methodNamed B.named
  have hlocks := B.notSynchronized
  have hS : va_S (eA E) s.heap s.heap [] := va_S.rf
  have hl := lv_entry ([.int x, .int y, .int z, va_rf f]) (n := 4) (by cases f <;> exact Nat.le_of_ble_eq_true rfl)
  rw [lg_entry_eq]
  generalize (lg_sl ([.int x, .int y, .int z, va_rf f]) ++ List.replicate (4 - (lg_sl ([.int x, .int y, .int z, va_rf f])).length) Slot.unset).toArray = ls at hl ⊢
  have hl : lv_has ls 4 [(0, .int (x)), (1, .int (y)), (2, .int (z)), (3, va_rf (f))] := hl
  refine lv_iload_n hx hb dJ21_checkFromIndexSize_0 rfl (lv_at hl 2 rfl) ?_
  refine lv_iload_n hx hb dJ21_checkFromIndexSize_1 rfl (lv_at hl 0 rfl) ?_
  refine lv_ior hx hb dJ21_checkFromIndexSize_2 ?_
  refine lv_iload_n hx hb dJ21_checkFromIndexSize_3 rfl (lv_at hl 1 rfl) ?_
  refine lv_ior hx hb dJ21_checkFromIndexSize_4 ?_
  refine lv_if_lt (tgt := 15) hx hb dJ21_checkFromIndexSize_5 (by decide) (fun c_1 => (h0 c_1).elim) (fun c_1 => ?_)
  refine lv_iload_n hx hb dJ21_checkFromIndexSize_8 rfl (lv_at hl 1 rfl) ?_
  refine lv_iload_n hx hb dJ21_checkFromIndexSize_9 rfl (lv_at hl 2 rfl) ?_
  refine lv_iload_n hx hb dJ21_checkFromIndexSize_10 rfl (lv_at hl 0 rfl) ?_
  refine lv_isub hx hb dJ21_checkFromIndexSize_11 ?_
  refine lv_icmp_le (tgt := 23) hx hb dJ21_checkFromIndexSize_12 (by decide) (fun c_2 => ?_) (fun c_2 => (c_2 h1).elim)
  refine lv_iload_n hx hb dJ21_checkFromIndexSize_23 rfl (lv_at hl 0 rfl) ?_
  exact W.iret (v := _) hx hb hr (fun t9 ht9 _ => ⟨⟨_, _, rfl, ⟨(rfl).symm, rfl⟩, hb9 ht9 hm⟩, hS.F ht9⟩) hS.2.2 dJ21_checkFromIndexSize_24
abbrev CJ4_checkBoundsOffCount (t : mt) (M : mm) (x : Int32) (y : Int32) (z : Int32) : Int32 := x
set_option maxHeartbeats 4000000 in
theorem cmJ4_checkBoundsOffCount (l : Launch) (E : mE) (t : mt) (M : mm) (x : Int32) (y : Int32) (z : Int32) (h0 : ¬ ((z ||| x) ||| y) < 0) (h1 : y ≤ z - x) : Met l yJ4_checkBoundsOffCount (ws_ yJ4_checkBoundsOffCount cJ4_checkBoundsOffCount 3 (some .int)) ({ frames := 1, cells := 0, slots := 0, locals := 23 }) (va_Pc [.int x, .int y, .int z] (wP E t M)) (va_Qi (fun (r : Int32) (u : mm) => r = (CJ4_checkBoundsOffCount t M x y z) ∧ u = M) (fun u U => mw E t u U.heap) (eA E)) 0 0 (eA E) := by
  refine Met.ofW (cc := cJ4_checkBoundsOffCount) (maxL := 3) (ret := (some .int)) (by decide) rfl ?_
  intro p e s m args below meth c0 s₁ B hml hv
  obtain ⟨rfl, hs, hm⟩ := hv
  have hx := B.exec
  have hb := B.bytes
  have hr := B.returns
  have hts := atoms_spec (ws := ws_ yJ4_checkBoundsOffCount cJ4_checkBoundsOffCount 3 (some .int)) B.pre
  have hts : ∀ w ∈ lw_all, w.before _ s = true := fun w h => hts w (List.mem_cons_of_mem _ h)
  have hown : s.vm.findClass RJ4 = some m.cls := findClass_of_methodNamed B.named
  have hlocks := B.notSynchronized
  have hS : va_S (eA E) s.heap s.heap [] := va_S.rf
  have hl := lv_entry ([.int x, .int y, .int z]) (n := 3) (Nat.le_of_ble_eq_true rfl)
  rw [lg_entry_eq]
  generalize (lg_sl ([.int x, .int y, .int z]) ++ List.replicate (3 - (lg_sl ([.int x, .int y, .int z])).length) Slot.unset).toArray = ls at hl ⊢
  have hl : lv_has ls 3 [(0, .int (x)), (1, .int (y)), (2, .int (z))] := hl
  refine lv_iload_n hx hb dJ4_checkBoundsOffCount_0 rfl (lv_at hl 0 rfl) ?_
  refine lv_iload_n hx hb dJ4_checkBoundsOffCount_1 rfl (lv_at hl 1 rfl) ?_
  refine lv_iload_n hx hb dJ4_checkBoundsOffCount_2 rfl (lv_at hl 2 rfl) ?_
  refine k_gsio hx hb hs hS hown (hts _ q1323) dJ4_checkBoundsOffCount_3 (fun fm_1 => ?_)
  refine k_calli (va_runS (As := [.int (x), .int (y), .int (z), va_rf (fm_1)]) (rest := []) ⟨hx, hb, hml, hown, hts⟩ (cmJ21_checkFromIndexSize l E t M  (x) (y) (z) (fm_1) h0 h1) (va_cwS 4 hts (lw_S q1325 q1326 q92 q1327) rfl rfl rfl (by decide +kernel) ⟨Nat.le_of_ble_eq_true rfl, Nat.le_of_ble_eq_true rfl⟩) (k_preS hs hm hS) rfl rfl hl.1 rfl (lv_room (Nat.le_of_ble_eq_true rfl)) dJ4_checkBoundsOffCount_6 ⟨Nat.le_of_ble_eq_true rfl, Nat.le_of_ble_eq_true rfl⟩) hS (fun r_2 u_2 H locs hw_2 hm_2 hS => ?_)
  obtain ⟨hr_2, hu_2⟩ := hw_2
  replace hu_2 := hu_2.symm
  subst hu_2
  have hm := hm_2
  subst hr_2
  exact W.iret (v := _) hx hb hr (fun t9 ht9 _ => ⟨⟨_, _, rfl, ⟨(rfl).symm, rfl⟩, hb9 ht9 hm⟩, hS.F ht9⟩) hS.2.2 dJ4_checkBoundsOffCount_9
def CJ5_length (t : mt) (M : mm) (a : Nat) : Int32 :=
  ((Int32.ofNat (t a).2) >>> ((1 : Int32) &&& 31))
set_option maxHeartbeats 4000000 in
theorem cmJ5_length (l : Launch) (E : mE) (t : mt) (M : mm) (a : Nat) (n : Nat) (ha : t a = (23, n)) : Met l yJ5_length (ws_ yJ5_length cJ5_length 1 (some .int)) ({ frames := 0, cells := 0, slots := 0, locals := 0 }) (va_Pc [.ref a] (wP E t M)) (va_Qi (fun (r : Int32) (u : mm) => r = (CJ5_length t M a) ∧ u = M) (fun u U => mw E t u U.heap) (eA E)) 0 0 (eA E) := by
  refine Met.ofW (cc := cJ5_length) (maxL := 1) (ret := (some .int)) (by decide) rfl ?_
  intro p e s m args below meth c0 s₁ B hml hv
  obtain ⟨rfl, hs, hm⟩ := hv
  have hx := B.exec
  have hb := B.bytes
  have hr := B.returns
  have hts := atoms_spec (ws := ws_ yJ5_length cJ5_length 1 (some .int)) B.pre
  have hts : ∀ w ∈ lw_all, w.before _ s = true := fun w h => hts w (List.mem_cons_of_mem _ h)
  have hown : s.vm.findClass RJ5 = some m.cls := findClass_of_methodNamed B.named
  have hlocks := B.notSynchronized
  have hS : va_S (eA E) s.heap s.heap [] := va_S.rf
  have hl := lv_entry ([.ref a]) (n := 1) (Nat.le_of_ble_eq_true rfl)
  rw [lg_entry_eq]
  generalize (lg_sl ([.ref a]) ++ List.replicate (1 - (lg_sl ([.ref a])).length) Slot.unset).toArray = ls at hl ⊢
  have hl : lv_has ls 1 [(0, .ref (a))] := hl
  refine lv_aload_n hx hb dJ5_length_0 rfl (lv_at hl 0 rfl) ?_
  refine k_alen (j := 3) (v := (Int32.ofNat (t a).2)) hx hb hs hm ha (by decide) rfl rfl (by rw [ha]) dJ5_length_1 ?_
  refine lv_iconst (v := (1 : Int32)) hx hb dJ5_length_2 (by decide) ?_
  refine lv_ishr hx hb dJ5_length_3 ?_
  exact W.iret (v := _) hx hb hr (fun t9 ht9 _ => ⟨⟨_, _, rfl, ⟨(rfl).symm, rfl⟩, hb9 ht9 hm⟩, hS.F ht9⟩) hS.2.2 dJ5_length_4
theorem len16 {t : mt} {M : mm} {a n : Nat} (ha : t a = (23, n)) (hn : n ≤ 60000) : CJ5_length t M a = nI (n / 2) := by
  unfold CJ5_length
  rw [ha]
  exact pk_shrN (by omega) ((1 : Int32) &&& 31) 1 (by decide)
theorem bo_0 {n m : Nat} (hn : n ≤ 60000) (hm : m ≤ n) : (¬ ((nI n ||| (0 : Int32)) ||| nI m) < 0) ∧ nI m ≤ nI n - (0 : Int32) := by
  refine ⟨?_, by rw [Int32.sub_zero]; exact nI_le hm (by omega)⟩
  have h1 : (nI n ||| nI m).toBitVec.toNat < 2 ^ 16 := by
    rw [Int32.toBitVec_or, BitVec.toNat_or, pk_tn (by omega), pk_tn (by omega)]
    exact Nat.or_lt_two_pow (by omega) (by omega)
  rw [show nI n ||| (0 : Int32) = nI n from Int32.or_zero]
  intro h
  rw [Int32.lt_iff_toInt_lt] at h
  have h2 : (nI n ||| nI m).toInt = ((nI n ||| nI m).toBitVec.toNat : Int) := by
    show (nI n ||| nI m).toBitVec.toInt = _
    exact BitVec.toInt_eq_toNat_of_lt (by omega)
  rw [h2] at h
  have h3 : ((nI n ||| nI m).toBitVec.toNat : Int) < 0 := h
  omega
abbrev CJ5_checkBoundsOffCount (t : mt) (M : mm) (x : Int32) (y : Int32) (a : Nat) : mm := M
set_option maxHeartbeats 4000000 in
theorem cmJ5_checkBoundsOffCount (l : Launch) (E : mE) (t : mt) (M : mm) (x : Int32) (y : Int32) (a : Nat) (n : Nat) (ha : t a = (23, n)) (h0 : ¬ ((CJ5_length t M a ||| x) ||| y) < 0) (h1 : y ≤ CJ5_length t M a - x) : Met l yJ5_checkBoundsOffCount (ws_ yJ5_checkBoundsOffCount cJ5_checkBoundsOffCount 3 none) ({ frames := 2, cells := 0, slots := 0, locals := 45 }) (va_Pc [.int x, .int y, .ref a] (wP E t M)) (va_Qv (fun (u : mm) => u = CJ5_checkBoundsOffCount t M x y a) (fun u U => mw E t u U.heap) (eA E)) 0 0 (eA E) := by
  refine Met.ofW (cc := cJ5_checkBoundsOffCount) (maxL := 3) (ret := none) (by decide) rfl ?_
  intro p e s m args below meth c0 s₁ B hml hv
  obtain ⟨rfl, hs, hm⟩ := hv
  have hx := B.exec
  have hb := B.bytes
  have hr := B.returns
  have hts := atoms_spec (ws := ws_ yJ5_checkBoundsOffCount cJ5_checkBoundsOffCount 3 none) B.pre
  have hts : ∀ w ∈ lw_all, w.before _ s = true := fun w h => hts w (List.mem_cons_of_mem _ h)
  have hown : s.vm.findClass RJ5 = some m.cls := findClass_of_methodNamed B.named
  have hlocks := B.notSynchronized
  have hS : va_S (eA E) s.heap s.heap [] := va_S.rf
  have hl := lv_entry ([.int x, .int y, .ref a]) (n := 3) (Nat.le_of_ble_eq_true rfl)
  rw [lg_entry_eq]
  generalize (lg_sl ([.int x, .int y, .ref a]) ++ List.replicate (3 - (lg_sl ([.int x, .int y, .ref a])).length) Slot.unset).toArray = ls at hl ⊢
  have hl : lv_has ls 3 [(0, .int (x)), (1, .int (y)), (2, .ref (a))] := hl
  refine lv_iload_n hx hb dJ5_checkBoundsOffCount_0 rfl (lv_at hl 0 rfl) ?_
  refine lv_iload_n hx hb dJ5_checkBoundsOffCount_1 rfl (lv_at hl 1 rfl) ?_
  refine lv_aload_n hx hb dJ5_checkBoundsOffCount_2 rfl (lv_at hl 2 rfl) ?_
  refine k_calli (va_runS (As := [.ref (a)]) (rest := [.int (y), .int (x)]) ⟨hx, hb, hml, hown, hts⟩ (cmJ5_length l E t M  (a) n ha) (va_cwS 1 hts (lw_S q1317 q1318 q71 q1319) rfl rfl rfl (by decide +kernel) ⟨Nat.le_of_ble_eq_true rfl, Nat.le_of_ble_eq_true rfl⟩) (k_preS hs hm hS) rfl rfl hl.1 rfl (lv_room (Nat.le_of_ble_eq_true rfl)) dJ5_checkBoundsOffCount_3 ⟨Nat.le_of_ble_eq_true rfl, Nat.le_of_ble_eq_true rfl⟩) hS (fun r_1 u_1 H locs hw_1 hm_1 hS => ?_)
  obtain ⟨hr_1, hu_1⟩ := hw_1
  replace hu_1 := hu_1.symm
  subst hu_1
  have hm := hm_1
  refine k_calli (va_runS (As := [.int (x), .int (y), .int (r_1)]) (rest := []) ⟨hx, hb, hml, hown, hts⟩ (cmJ4_checkBoundsOffCount l E t M  (x) (y) (r_1) (by rw [hr_1]; exact h0) (by rw [hr_1]; exact h1)) (va_cwS 3 hts (lw_S q1320 q1321 q70 q1322) rfl rfl rfl (by decide +kernel) ⟨Nat.le_of_ble_eq_true rfl, Nat.le_of_ble_eq_true rfl⟩) (k_preS hs hm hS) rfl rfl hl.1 rfl (lv_room (Nat.le_of_ble_eq_true rfl)) dJ5_checkBoundsOffCount_6 ⟨Nat.le_of_ble_eq_true rfl, Nat.le_of_ble_eq_true rfl⟩) hS (fun r_2 u_2 H locs hw_2 hm_2 hS => ?_)
  obtain ⟨hr_2, hu_2⟩ := hw_2
  replace hu_2 := hu_2.symm
  subst hu_2
  have hm := hm_2
  refine lv_pop hx hb dJ5_checkBoundsOffCount_9 rfl ?_
  subst hr_2
  subst hr_1
  exact W.vret hx hb hr (fun t9 ht9 _ => ⟨⟨_, rfl, (rfl).symm, hb9 ht9 hm⟩, hS.F ht9⟩) hS.2.2 dJ5_checkBoundsOffCount_10
abbrev CJ5_checkIndex (t : mt) (M : mm) (x : Int32) (a : Nat) : mm := M
set_option maxHeartbeats 4000000 in
theorem cmJ5_checkIndex (l : Launch) (E : mE) (t : mt) (M : mm) (x : Int32) (a : Nat) (n : Nat) (ha : t a = (23, n)) (h0 : ¬ x < 0) (h1 : x < CJ5_length t M a) : Met l yJ5_checkIndex (ws_ yJ5_checkIndex cJ5_checkIndex 2 none) ({ frames := 2, cells := 0, slots := 0, locals := 43 }) (va_Pc [.int x, .ref a] (wP E t M)) (va_Qv (fun (u : mm) => u = CJ5_checkIndex t M x a) (fun u U => mw E t u U.heap) (eA E)) 0 0 (eA E) := by
  refine Met.ofW (cc := cJ5_checkIndex) (maxL := 2) (ret := none) (by decide) rfl ?_
  intro p e s m args below meth c0 s₁ B hml hv
  obtain ⟨rfl, hs, hm⟩ := hv
  have hx := B.exec
  have hb := B.bytes
  have hr := B.returns
  have hts := atoms_spec (ws := ws_ yJ5_checkIndex cJ5_checkIndex 2 none) B.pre
  have hts : ∀ w ∈ lw_all, w.before _ s = true := fun w h => hts w (List.mem_cons_of_mem _ h)
  have hown : s.vm.findClass RJ5 = some m.cls := findClass_of_methodNamed B.named
  have hlocks := B.notSynchronized
  have hS : va_S (eA E) s.heap s.heap [] := va_S.rf
  have hl := lv_entry ([.int x, .ref a]) (n := 2) (Nat.le_of_ble_eq_true rfl)
  rw [lg_entry_eq]
  generalize (lg_sl ([.int x, .ref a]) ++ List.replicate (2 - (lg_sl ([.int x, .ref a])).length) Slot.unset).toArray = ls at hl ⊢
  have hl : lv_has ls 2 [(0, .int (x)), (1, .ref (a))] := hl
  refine lv_iload_n hx hb dJ5_checkIndex_0 rfl (lv_at hl 0 rfl) ?_
  refine lv_aload_n hx hb dJ5_checkIndex_1 rfl (lv_at hl 1 rfl) ?_
  refine k_calli (va_runS (As := [.ref (a)]) (rest := [.int (x)]) ⟨hx, hb, hml, hown, hts⟩ (cmJ5_length l E t M  (a) n ha) (va_cwS 1 hts (lw_S q1317 q1318 q71 q1319) rfl rfl rfl (by decide +kernel) ⟨Nat.le_of_ble_eq_true rfl, Nat.le_of_ble_eq_true rfl⟩) (k_preS hs hm hS) rfl rfl hl.1 rfl (lv_room (Nat.le_of_ble_eq_true rfl)) dJ5_checkIndex_2 ⟨Nat.le_of_ble_eq_true rfl, Nat.le_of_ble_eq_true rfl⟩) hS (fun r_1 u_1 H locs hw_1 hm_1 hS => ?_)
  obtain ⟨hr_1, hu_1⟩ := hw_1
  replace hu_1 := hu_1.symm
  subst hu_1
  have hm := hm_1
  refine k_callv (va_runS (As := [.int (x), .int (r_1)]) (rest := []) ⟨hx, hb, hml, hown, hts⟩ (cmJ4_checkIndex l E t M  (x) (r_1) h0 (by rw [hr_1]; exact h1)) (va_cwS 2 hts (lw_S q1343 q1344 q70 q1345) rfl rfl rfl (by decide +kernel) ⟨Nat.le_of_ble_eq_true rfl, Nat.le_of_ble_eq_true rfl⟩) (k_preS hs hm hS) rfl rfl hl.1 rfl (lv_room (Nat.le_of_ble_eq_true rfl)) dJ5_checkIndex_5 ⟨Nat.le_of_ble_eq_true rfl, Nat.le_of_ble_eq_true rfl⟩) hS (fun u_2 H locs hw_2 hm_2 hS => ?_)
  replace hw_2 : M = u_2 := Eq.symm hw_2
  subst hw_2
  have hm : mw E t (M) H := hm_2
  subst hr_1
  exact W.vret hx hb hr (fun t9 ht9 _ => ⟨⟨_, rfl, (rfl).symm, hb9 ht9 hm⟩, hS.F ht9⟩) hS.2.2 dJ5_checkIndex_8
def CJ5_putChar (t : mt) (M : mm) (a : Nat) (x : Int32) (y : Int32) : mm :=
  (wI (wI M a (upd (aI M a) (2 * (x).toNatClampNeg) (vp_nar .byte ((y >>> ((0 : Int32) &&& 31))).toInt8.toInt32))) a (upd (upd (aI M a) (2 * (x).toNatClampNeg) (vp_nar .byte ((y >>> ((0 : Int32) &&& 31))).toInt8.toInt32)) (2 * (x).toNatClampNeg + 1) (vp_nar .byte ((y >>> ((8 : Int32) &&& 31))).toInt8.toInt32)))
set_option maxHeartbeats 4000000 in
theorem cmJ5_putChar (l : Launch) (E : mE) (t : mt) (M : mm) (a : Nat) (x : Int32) (y : Int32) (n : Nat) (ha : t a = (23, n)) (hn : n ≤ 60000) (hx1 : ix 40000 x) (hx2 : 2 * x.toNatClampNeg + 1 < n) : Met l yJ5_putChar (ws_ yJ5_putChar cJ5_putChar 3 none) ({ frames := 0, cells := 0, slots := 0, locals := 0 }) (va_Pc [.ref a, .int x, .int y] (wP E t M)) (va_Qv (fun (u : mm) => u = CJ5_putChar t M a x y) (fun u U => mw E t u U.heap) (eA E)) 0 0 (eA E) := by
  refine Met.ofW (cc := cJ5_putChar) (maxL := 3) (ret := none) (by decide) rfl ?_
  intro p e s m args below meth c0 s₁ B hml hv
  obtain ⟨rfl, hs, hm⟩ := hv
  have hx := B.exec
  have hb := B.bytes
  have hr := B.returns
  have hts := atoms_spec (ws := ws_ yJ5_putChar cJ5_putChar 3 none) B.pre
  have hts : ∀ w ∈ lw_all, w.before _ s = true := fun w h => hts w (List.mem_cons_of_mem _ h)
  have hown : s.vm.findClass RJ5 = some m.cls := findClass_of_methodNamed B.named
  have hlocks := B.notSynchronized
  have hS : va_S (eA E) s.heap s.heap [] := va_S.rf
  have hl := lv_entry ([.ref a, .int x, .int y]) (n := 3) (Nat.le_of_ble_eq_true rfl)
  rw [lg_entry_eq]
  generalize (lg_sl ([.ref a, .int x, .int y]) ++ List.replicate (3 - (lg_sl ([.ref a, .int x, .int y])).length) Slot.unset).toArray = ls at hl ⊢
  have hl : lv_has ls 3 [(0, .ref (a)), (1, .int (x)), (2, .int (y))] := hl
  refine va_gets hx hb (hs.2.2.2.2.2.1 _ (List.mem_of_getElem? (i := 2) rfl)) hS hown (hts _ q1331) (fun _ h9 => h9) dJ5_putChar_0 ?_
  refine lv_if_ne (tgt := 28) hx hb dJ5_putChar_3 (by decide) (fun c_1 => ?_) (fun c_1 => absurd c_1 (by decide))
  refine lv_iload_n hx hb dJ5_putChar_28 rfl (lv_at hl 1 rfl) ?_
  refine lv_iconst (v := (1 : Int32)) hx hb dJ5_putChar_29 (by decide) ?_
  refine lv_ishl hx hb dJ5_putChar_30 ?_
  rw [show (x <<< ((1 : Int32) &&& 31)) = (nI (2 * (x).toNatClampNeg)) from ((shl1 hx1).symm).symm]
  refine lv_istore_n (lv' := [(1, _), (0, _), (2, _)]) hx hb dJ5_putChar_31 rfl hl (by decide) rfl (fun ls hl => ?_)
  refine lv_aload_n hx hb dJ5_putChar_32 rfl (lv_at hl 1 rfl) ?_
  refine lv_iload_n hx hb dJ5_putChar_33 rfl (lv_at hl 0 rfl) ?_
  refine lv_iinc (v := (nI (2 * (x).toNatClampNeg + 1))) (lv' := [(1, _), (0, _), (2, _)]) hx hb dJ5_putChar_34 hl (k := 0) rfl (nI_1 _) (by decide) rfl (fun ls hl => ?_)
  refine lv_iload_n hx hb dJ5_putChar_37 rfl (lv_at hl 2 rfl) ?_
  refine va_gets hx hb (hs.2.2.2.2.2.1 _ (List.mem_of_getElem? (i := 3) rfl)) hS hown (hts _ q1333) (fun _ h9 => h9) dJ5_putChar_38 ?_
  refine lv_ishr hx hb dJ5_putChar_41 ?_
  refine lv_i2b hx hb dJ5_putChar_42 rfl ?_
  refine k_bast hx hb hs hm hS ha (vi (2 * (x).toNatClampNeg) (by omega) (by omega)) dJ5_putChar_43 (fun H locs hm hS => ?_)
  rw [show ((nI (2 * (x).toNatClampNeg))).toNatClampNeg = (2 * (x).toNatClampNeg) from cl_nI (by omega)] at hm
  have hm : mw E t ((wI M a (upd (aI M a) (2 * (x).toNatClampNeg) (vp_nar .byte ((y >>> ((0 : Int32) &&& 31))).toInt8.toInt32)))) H := hm
  refine lv_aload_n hx hb dJ5_putChar_44 rfl (lv_at hl 1 rfl) ?_
  refine lv_iload_n hx hb dJ5_putChar_45 rfl (lv_at hl 0 rfl) ?_
  refine lv_iload_n hx hb dJ5_putChar_46 rfl (lv_at hl 2 rfl) ?_
  refine va_gets hx hb (hs.2.2.2.2.2.1 _ (List.mem_of_getElem? (i := 4) rfl)) hS hown (hts _ q1335) (fun _ h9 => h9) dJ5_putChar_47 ?_
  refine lv_ishr hx hb dJ5_putChar_50 ?_
  refine lv_i2b hx hb dJ5_putChar_51 rfl ?_
  refine k_bast hx hb hs hm hS ha (vi (2 * (x).toNatClampNeg + 1) (by omega) (by omega)) dJ5_putChar_52 (fun H locs hm hS => ?_)
  rw [show aI (wI M a (upd (aI M a) (2 * (x).toNatClampNeg) (vp_nar .byte ((y >>> ((0 : Int32) &&& 31))).toInt8.toInt32))) a = (upd (aI M a) (2 * (x).toNatClampNeg) (vp_nar .byte ((y >>> ((0 : Int32) &&& 31))).toInt8.toInt32)) from (show aI (wI M a (upd (aI M a) (2 * (x).toNatClampNeg) (vp_nar .byte ((y >>> ((0 : Int32) &&& 31))).toInt8.toInt32))) a = (upd (aI M a) (2 * (x).toNatClampNeg) (vp_nar .byte ((y >>> ((0 : Int32) &&& 31))).toInt8.toInt32)) from m1_at _ _ _)] at hm
  rw [show ((nI (2 * (x).toNatClampNeg + 1))).toNatClampNeg = (2 * (x).toNatClampNeg + 1) from cl_nI (by omega)] at hm
  have hm : mw E t ((wI (wI M a (upd (aI M a) (2 * (x).toNatClampNeg) (vp_nar .byte ((y >>> ((0 : Int32) &&& 31))).toInt8.toInt32))) a (upd (upd (aI M a) (2 * (x).toNatClampNeg) (vp_nar .byte ((y >>> ((0 : Int32) &&& 31))).toInt8.toInt32)) (2 * (x).toNatClampNeg + 1) (vp_nar .byte ((y >>> ((8 : Int32) &&& 31))).toInt8.toInt32)))) H := hm
  exact W.vret hx hb hr (fun t9 ht9 _ => ⟨⟨_, rfl, (rfl).symm, hb9 ht9 hm⟩, hS.F ht9⟩) hS.2.2 dJ5_putChar_53
def CJ5_putCharSB (t : mt) (M : mm) (a : Nat) (x : Int32) (y : Int32) : mm :=
  let u_2 := CJ5_putChar t M (a) (x) (y);
  u_2
set_option maxHeartbeats 4000000 in
theorem cmJ5_putCharSB (l : Launch) (E : mE) (t : mt) (M : mm) (a : Nat) (x : Int32) (y : Int32) (n : Nat) (ha : t a = (23, n)) (hn : n ≤ 60000) (hx1 : ix 40000 x) (hx2 : 2 * x.toNatClampNeg + 1 < n) : Met l yJ5_putCharSB (ws_ yJ5_putCharSB cJ5_putCharSB 3 none) ({ frames := 3, cells := 0, slots := 0, locals := 64 }) (va_Pc [.ref a, .int x, .int y] (wP E t M)) (va_Qv (fun (u : mm) => u = CJ5_putCharSB t M a x y) (fun u U => mw E t u U.heap) (eA E)) 0 0 (eA E) := by
  refine Met.ofW (cc := cJ5_putCharSB) (maxL := 3) (ret := none) (by decide) rfl ?_
  intro p e s m args below meth c0 s₁ B hml hv
  obtain ⟨rfl, hs, hm⟩ := hv
  have hx := B.exec
  have hb := B.bytes
  have hr := B.returns
  have hts := atoms_spec (ws := ws_ yJ5_putCharSB cJ5_putCharSB 3 none) B.pre
  have hts : ∀ w ∈ lw_all, w.before _ s = true := fun w h => hts w (List.mem_cons_of_mem _ h)
  have hown : s.vm.findClass RJ5 = some m.cls := findClass_of_methodNamed B.named
  have hlocks := B.notSynchronized
  have hS : va_S (eA E) s.heap s.heap [] := va_S.rf
  have hl := lv_entry ([.ref a, .int x, .int y]) (n := 3) (Nat.le_of_ble_eq_true rfl)
  rw [lg_entry_eq]
  generalize (lg_sl ([.ref a, .int x, .int y]) ++ List.replicate (3 - (lg_sl ([.ref a, .int x, .int y])).length) Slot.unset).toArray = ls at hl ⊢
  have hl : lv_has ls 3 [(0, .ref (a)), (1, .int (x)), (2, .int (y))] := hl
  refine lv_iload_n hx hb dJ5_putCharSB_0 rfl (lv_at hl 1 rfl) ?_
  refine lv_aload_n hx hb dJ5_putCharSB_1 rfl (lv_at hl 0 rfl) ?_
  refine k_callv (va_runS (As := [.int (x), .ref (a)]) (rest := []) ⟨hx, hb, hml, hown, hts⟩ (cmJ5_checkIndex l E t M  (x) (a) n ha (hx1.nneg (by decide)) (by rw [len16 ha hn]; obtain ⟨k9, h9, e9⟩ := hx1; rw [e9] at hx2 ⊢; rw [cl_nI (by omega)] at hx2; exact nI_lt (by omega) (by omega))) (va_cwS 2 hts (lw_S q1340 q1341 q71 q1342) rfl rfl rfl (by decide +kernel) ⟨Nat.le_of_ble_eq_true rfl, Nat.le_of_ble_eq_true rfl⟩) (k_preS hs hm hS) rfl rfl hl.1 rfl (lv_room (Nat.le_of_ble_eq_true rfl)) dJ5_putCharSB_2 ⟨Nat.le_of_ble_eq_true rfl, Nat.le_of_ble_eq_true rfl⟩) hS (fun u_1 H locs hw_1 hm_1 hS => ?_)
  replace hw_1 : M = u_1 := Eq.symm hw_1
  subst hw_1
  have hm : mw E t (M) H := hm_1
  refine lv_aload_n hx hb dJ5_putCharSB_5 rfl (lv_at hl 0 rfl) ?_
  refine lv_iload_n hx hb dJ5_putCharSB_6 rfl (lv_at hl 1 rfl) ?_
  refine lv_iload_n hx hb dJ5_putCharSB_7 rfl (lv_at hl 2 rfl) ?_
  refine k_callv (va_runS (As := [.ref (a), .int (x), .int (y)]) (rest := []) ⟨hx, hb, hml, hown, hts⟩ (cmJ5_putChar l E t M  (a) (x) (y) n ha hn hx1 hx2) (va_cwS 3 hts (lw_S q1328 q1329 q71 q1330) rfl rfl rfl (by decide +kernel) ⟨Nat.le_of_ble_eq_true rfl, Nat.le_of_ble_eq_true rfl⟩) (k_preS hs hm hS) rfl rfl hl.1 rfl (lv_room (Nat.le_of_ble_eq_true rfl)) dJ5_putCharSB_8 ⟨Nat.le_of_ble_eq_true rfl, Nat.le_of_ble_eq_true rfl⟩) hS (fun u_2 H locs hw_2 hm_2 hS => ?_)
  have hu_2 := hw_2
  have hm := hm_2
  subst hu_2
  exact W.vret hx hb hr (fun t9 ht9 _ => ⟨⟨_, rfl, (rfl).symm, hb9 ht9 hm⟩, hS.F ht9⟩) hS.2.2 dJ5_putCharSB_11
def CJ20_canEncode (t : mt) (M : mm) (x : Int32) : Int32 :=
  if (255 : Int32) < x then
    (0 : Int32)
  else
    (1 : Int32)
set_option maxHeartbeats 4000000 in
theorem cmJ20_canEncode (l : Launch) (E : mE) (t : mt) (M : mm) (x : Int32)  : Met l yJ20_canEncode (ws_ yJ20_canEncode cJ20_canEncode 1 (some .boolean)) ({ frames := 0, cells := 0, slots := 0, locals := 0 }) (va_Pc [.int x] (wP E t M)) (va_Qi (fun (r : Int32) (u : mm) => r = (CJ20_canEncode t M x) ∧ u = M) (fun u U => mw E t u U.heap) (eA E)) 0 0 (eA E) := by
  refine Met.ofW (cc := cJ20_canEncode) (maxL := 1) (ret := (some .boolean)) (by decide) rfl ?_
  intro p e s m args below meth c0 s₁ B hml hv
  obtain ⟨rfl, hs, hm⟩ := hv
  have hx := B.exec
  have hb := B.bytes
  have hr := B.returns
  have hts := atoms_spec (ws := ws_ yJ20_canEncode cJ20_canEncode 1 (some .boolean)) B.pre
  have hts : ∀ w ∈ lw_all, w.before _ s = true := fun w h => hts w (List.mem_cons_of_mem _ h)
  have hown : s.vm.findClass RJ20 = some m.cls := findClass_of_methodNamed B.named
  have hlocks := B.notSynchronized
  have hS : va_S (eA E) s.heap s.heap [] := va_S.rf
  have hl := lv_entry ([.int x]) (n := 1) (Nat.le_of_ble_eq_true rfl)
  rw [lg_entry_eq]
  generalize (lg_sl ([.int x]) ++ List.replicate (1 - (lg_sl ([.int x])).length) Slot.unset).toArray = ls at hl ⊢
  have hl : lv_has ls 1 [(0, .int (x))] := hl
  refine lv_iload_n hx hb dJ20_canEncode_0 rfl (lv_at hl 0 rfl) ?_
  refine lv_sipush (v := (255 : Int32)) hx hb dJ20_canEncode_1 (by decide) ?_
  refine lv_icmp_gt (tgt := 11) hx hb dJ20_canEncode_4 (by decide) (fun c_1 => ?_) (fun c_1 => ?_)
  · refine lv_iconst (v := (0 : Int32)) hx hb dJ20_canEncode_11 (by decide) ?_
    exact W.zret (v := _) hx hb hr rfl (fun t9 ht9 _ => ⟨⟨_, _, rfl, ⟨((if_pos c_1).trans (rfl)).symm, rfl⟩, hb9 ht9 hm⟩, hS.F ht9⟩) hS.2.2 dJ20_canEncode_12
  · refine lv_iconst (v := (1 : Int32)) hx hb dJ20_canEncode_7 (by decide) ?_
    refine lv_goto (tgt := 12) hx hb dJ20_canEncode_8 (by decide) ?_
    exact W.zret (v := _) hx hb hr rfl (fun t9 ht9 _ => ⟨⟨_, _, rfl, ⟨((if_neg c_1).trans (rfl)).symm, rfl⟩, hb9 ht9 hm⟩, hS.F ht9⟩) hS.2.2 dJ20_canEncode_12
theorem Tz_CJ20_canEncode (t : mt) (M : mm) (x : Int32) : narrow .boolean (.int (CJ20_canEncode t M x)) = .int (CJ20_canEncode t M x) := by
  unfold CJ20_canEncode
  try dsimp only
  (repeat' split) <;> rfl
def CJ2_isLatin1 (t : mt) (M : mm) (c : Nat)  : Int32 :=
  if (gI M 1101 c) = 0 then
    (1 : Int32)
  else
    (0 : Int32)
set_option maxHeartbeats 4000000 in
theorem cmJ2_isLatin1 (l : Launch) (E : mE) (t : mt) (M : mm) (c : Nat)  (hc : t c = (11, 0))  : Met l yJ2_isLatin1 (ws_ yJ2_isLatin1 cJ2_isLatin1 1 (some .boolean)) ({ frames := 0, cells := 0, slots := 0, locals := 0 }) (va_Pc [.ref c] (wP E t M)) (va_Qi (fun (r : Int32) (u : mm) => r = (CJ2_isLatin1 t M c ) ∧ u = M) (fun u U => mw E t u U.heap) (eA E)) 0 0 (eA E) := by
  refine Met.ofW (cc := cJ2_isLatin1) (maxL := 1) (ret := (some .boolean)) (by decide) rfl ?_
  intro p e s m args below meth c0 s₁ B hml hv
  obtain ⟨rfl, hs, hm⟩ := hv
  have hx := B.exec
  have hb := B.bytes
  have hr := B.returns
  have hts := atoms_spec (ws := ws_ yJ2_isLatin1 cJ2_isLatin1 1 (some .boolean)) B.pre
  have hts : ∀ w ∈ lw_all, w.before _ s = true := fun w h => hts w (List.mem_cons_of_mem _ h)
  have hown : s.vm.findClass RJ2 = some m.cls := findClass_of_methodNamed B.named
  have hlocks := B.notSynchronized
  have hS : va_S (eA E) s.heap s.heap [] := va_S.rf
  have hl := lv_entry ([.ref c]) (n := 1) (Nat.le_of_ble_eq_true rfl)
  rw [lg_entry_eq]
  generalize (lg_sl ([.ref c]) ++ List.replicate (1 - (lg_sl ([.ref c])).length) Slot.unset).toArray = ls at hl ⊢
  have hl : lv_has ls 1 [(0, .ref (c))] := hl
  refine va_gets hx hb (hs.2.2.2.2.2.1 _ (List.mem_of_getElem? (i := 1) rfl)) hS hown (hts _ q336) (fun _ h9 => h9) dJ2_isLatin1_0 ?_
  refine lv_if_eq (tgt := 17) hx hb dJ2_isLatin1_3 (by decide) (fun c_1 => absurd c_1 (by decide)) (fun c_1 => ?_)
  refine lv_aload_n hx hb dJ2_isLatin1_6 rfl (lv_at hl 0 rfl) ?_
  refine gf_1101 hx hb hts hown hs hm hc (hts _ q346) dJ2_isLatin1_7 ?_
  refine lv_if_ne (tgt := 17) hx hb dJ2_isLatin1_10 (by decide) (fun c_2 => ?_) (fun c_2 => ?_)
  · refine lv_iconst (v := (0 : Int32)) hx hb dJ2_isLatin1_17 (by decide) ?_
    exact W.zret (v := _) hx hb hr rfl (fun t9 ht9 _ => ⟨⟨_, _, rfl, ⟨((if_neg c_2).trans (rfl)).symm, rfl⟩, hb9 ht9 hm⟩, hS.F ht9⟩) hS.2.2 dJ2_isLatin1_18
  · refine lv_iconst (v := (1 : Int32)) hx hb dJ2_isLatin1_13 (by decide) ?_
    refine lv_goto (tgt := 18) hx hb dJ2_isLatin1_14 (by decide) ?_
    exact W.zret (v := _) hx hb hr rfl (fun t9 ht9 _ => ⟨⟨_, _, rfl, ⟨((if_pos c_2).trans (rfl)).symm, rfl⟩, hb9 ht9 hm⟩, hS.F ht9⟩) hS.2.2 dJ2_isLatin1_18
theorem Tz_CJ2_isLatin1 (t : mt) (M : mm) (c : Nat)  : narrow .boolean (.int (CJ2_isLatin1 t M c )) = .int (CJ2_isLatin1 t M c ) := by
  unfold CJ2_isLatin1
  try dsimp only
  (repeat' split) <;> rfl
theorem put_eq (t : mt) (M : mm) (a : Nat) (x y : Int32) : CJ5_putChar t M a x y = wI M a (put16 (aI M a) x.toNatClampNeg y) := by
  unfold CJ5_putChar
  rw [wI_wI]
  rfl
theorem put_bytes {f : Nat → Int32} {i n : Nat} {x : Int32} (h : ∀ j, j < n → fits .byte (.int (f j)) = true) : ∀ j, j < n → fits .byte (.int (put16 f i x j)) = true := fun j hj => by
  unfold put16 upd
  (try dsimp only)
  split
  · rw [nar8]; exact pk_fb _
  · split
    · rw [nar8]; exact pk_fb _
    · exact h j hj
/-- the first k letters, two bytes each -/
def infM (t : mt) (M : mm) (a b : Nat) : Nat → mm
  | 0 => M
  | k + 1 => CJ5_putChar t (infM t M a b k) b (nI k) ((aI (infM t M a b k) a k) &&& (255 : Int32))
  termination_by k => k
theorem infM_0 (t : mt) (M : mm) (a b : Nat) : infM t M a b 0 = M := by rw [infM]
theorem infM_s (t : mt) (M : mm) (a b k : Nat) : infM t M a b (k + 1) = CJ5_putChar t (infM t M a b k) b (nI k) ((aI (infM t M a b k) a k) &&& (255 : Int32)) := by rw [infM]
theorem infM_sp (t : mt) (M : mm) {a b : Nat} (hab : a ≠ b) : ∀ k, k ≤ 40000 → ∃ f, infM t M a b k = wI M b f ∧ (∀ i, i < k → l16 f i = l8 (aI M a) i) ∧ (∀ n, (∀ j, j < n → fits .byte (.int (aI M b j)) = true) → ∀ j, j < n → fits .byte (.int (f j)) = true)
  | 0, _ => ⟨aI M b, by rw [infM_0]; unfold wI; exact (show M = (M.1, M.2.1, M.2.2.1, M.2.2.2.1, m1 M.2.2.2.2.1 b (M.2.2.2.2.1 b), M.2.2.2.2.2) from by
      have : m1 M.2.2.2.2.1 b (M.2.2.2.2.1 b) = M.2.2.2.2.1 := by
        funext g
        by_cases e : g = b
        · subst e; exact m1_at _ _ _
        · exact m1_ne _ _ e
      rw [this]), fun i hi => absurd hi (Nat.not_lt_zero i), fun n h => h⟩
  | k + 1, hk => by
    obtain ⟨f, h1, h2, h3⟩ := infM_sp t M hab k (by omega)
    rw [infM_s, put_eq, h1, wI_wI, aI_wI, aI_wIn M f hab, cl_nI (by omega)]
    refine ⟨_, rfl, fun i hi => ?_, fun n hn => put_bytes (h3 n hn)⟩
    obtain ⟨j, e1, e2, e3⟩ := l8_nI (aI M a) k
    rw [e2]
    by_cases e : i = k
    · subst e
      rw [l16_at (by omega), e3]
    · rw [l16_ne e]
      exact h2 i (by omega)
theorem lp_geX {k n : Nat} (h : k ≤ n) (hn : n < 2 ^ 31) (c : nI n ≤ nI k) : k = n := by
  have := (nI_leI hn (by omega)).mp c
  omega
theorem lp_ltX {k n : Nat} (h : k ≤ n) (hn : n < 2 ^ 31) (c : ¬ nI n ≤ nI k) : k < n := by
  rcases Nat.lt_or_ge k n with h9 | h9
  · exact h9
  · exact absurd ((nI_leI hn (by omega)).mpr h9) c
set_option maxHeartbeats 4000000 in
theorem cmJ5_inflate (l : Launch) (E : mE) (t : mt) (M : mm) (a b n n1 k9 : Nat) (ha : t a = (23, n)) (hb1 : t b = (23, n1)) (hn : n ≤ 60000) (hn1 : n1 ≤ 60000) (hk9 : k9 ≤ n) (hk1 : 2 * k9 ≤ n1) : Met l yJ5_inflate (ws_ yJ5_inflate cJ5_inflate 6 none) ({ frames := 3, cells := 0, slots := 0, locals := 67 }) (va_Pc [.ref a, .int (0 : Int32), .ref b, .int (0 : Int32), .int (nI k9)] (wP E t M)) (va_Qv (fun (u : mm) => u = infM t M a b k9) (fun u U => mw E t u U.heap) (eA E)) 0 0 (eA E) := by
  refine Met.ofW (cc := cJ5_inflate) (maxL := 6) (ret := none) (by decide) rfl ?_
  intro p e s m args below meth c0 s₁ B hml hv
  obtain ⟨rfl, hs, hm⟩ := hv
  have hx := B.exec
  have hb := B.bytes
  have hr := B.returns
  have hts := atoms_spec (ws := ws_ yJ5_inflate cJ5_inflate 6 none) B.pre
  have hts : ∀ w ∈ lw_all, w.before _ s = true := fun w h => hts w (List.mem_cons_of_mem _ h)
  have hown : s.vm.findClass RJ5 = some m.cls := findClass_of_methodNamed B.named
  have hlocks := B.notSynchronized
  have hS : va_S (eA E) s.heap s.heap [] := va_S.rf
  have hl := lv_entry ([.ref a, .int (0 : Int32), .ref b, .int (0 : Int32), .int (nI k9)]) (n := 6) (Nat.le_of_ble_eq_true rfl)
  rw [lg_entry_eq]
  generalize (lg_sl ([.ref a, .int (0 : Int32), .ref b, .int (0 : Int32), .int (nI k9)]) ++ List.replicate (6 - (lg_sl ([.ref a, .int (0 : Int32), .ref b, .int (0 : Int32), .int (nI k9)])).length) Slot.unset).toArray = ls at hl ⊢
  have hl : lv_has ls 6 [(0, .ref (a)), (1, .int ((0 : Int32))), (2, .ref (b)), (3, .int ((0 : Int32))), (4, .int ((nI k9)))] := hl
  have hk40 : k9 ≤ 30000 := by omega
  refine lv_iload_n hx hb dJ5_inflate_0 rfl (lv_at hl 3 rfl) ?_
  refine lv_iload hx hb dJ5_inflate_1 (lv_at hl 4 rfl) ?_
  refine lv_aload_n hx hb dJ5_inflate_3 rfl (lv_at hl 2 rfl) ?_
  refine k_callv (va_runS (As := [.int ((0 : Int32)), .int ((nI k9)), .ref (b)]) (rest := []) ⟨hx, hb, hml, hown, hts⟩ (cmJ5_checkBoundsOffCount l E t M  ((0 : Int32)) ((nI k9)) (b) n1 hb1 (by rw [len16 hb1 hn1]; exact (bo_0 (by omega) (by omega)).1) (by rw [len16 hb1 hn1]; exact (bo_0 (by omega) (by omega)).2)) (va_cwS 3 hts (lw_S q1314 q1315 q71 q1316) rfl rfl rfl (by decide +kernel) ⟨Nat.le_of_ble_eq_true rfl, Nat.le_of_ble_eq_true rfl⟩) (k_preS hs hm hS) rfl rfl hl.1 rfl (lv_room (Nat.le_of_ble_eq_true rfl)) dJ5_inflate_4 ⟨Nat.le_of_ble_eq_true rfl, Nat.le_of_ble_eq_true rfl⟩) hS (fun u_1 H locs hw_1 hm_1 hS => ?_)
  replace hw_1 : M = u_1 := Eq.symm hw_1
  subst hw_1
  have hm : mw E t (M) H := hm_1
  refine lv_iconst (v := (0 : Int32)) hx hb dJ5_inflate_7 (by decide) ?_
  refine lv_istore (lv' := [(5, _), (0, _), (1, _), (2, _), (3, _), (4, _)]) hx hb dJ5_inflate_8 hl (by decide) rfl (fun ls hl => ?_)
  refine k_loop (fun k => k9 - k) (fun (k : Nat) H locs ls => (k ≤ k9) ∧ mw E t ((infM t M a b k)) H ∧ va_S (eA E) s.heap H locs ∧ lv_has ls 6 [(5, .int (nI k)), (0, .ref (a)), (1, .int (nI k)), (2, .ref (b)), (3, .int (nI k)), (4, .int ((nI k9)))]) (fun (k : Nat) ls => F0 m 10 ls []) (fun k => (0, 0)) (fun k ih_2 H locs ls hP => ?_) (0) ⟨(Nat.zero_le _), (by rw [infM_0]; exact hm), hS, lv_sub hl [0, 1, 2, 3, 4, 5] rfl⟩
  obtain ⟨hI_2, hm, hS, hl⟩ := hP
  refine lv_iload hx hb dJ5_inflate_10 (lv_at hl 0 rfl) ?_
  refine lv_iload hx hb dJ5_inflate_12 (lv_at hl 5 rfl) ?_
  refine lv_icmp_ge (tgt := 41) hx hb dJ5_inflate_14 (by decide) (fun c_3 => ?_) (fun c_3 => ?_)
  · have hkN : k = k9 := lp_geX hI_2 (by omega) c_3
    replace hkN := hkN.symm
    subst hkN
    exact W.vret hx hb hr (fun t9 ht9 _ => ⟨⟨_, rfl, rfl, hb9 ht9 hm⟩, hS.F ht9⟩) hS.2.2 dJ5_inflate_41
  · have hk : k < k9 := lp_ltX hI_2 (by omega) c_3
    refine lv_aload_n hx hb dJ5_inflate_17 rfl (lv_at hl 3 rfl) ?_
    refine lv_iload_n hx hb dJ5_inflate_18 rfl (lv_at hl 4 rfl) ?_
    refine lv_iinc (v := nI (k + 1)) (lv' := [(3, _), (5, _), (0, _), (1, _), (2, _), (4, _)]) hx hb dJ5_inflate_19 hl (k := 4) rfl (nI_succ k).symm (by decide) rfl (fun ls hl => ?_)
    refine lv_aload_n hx hb dJ5_inflate_22 rfl (lv_at hl 2 rfl) ?_
    refine lv_iload_n hx hb dJ5_inflate_23 rfl (lv_at hl 3 rfl) ?_
    refine lv_iinc (v := nI (k + 1)) (lv' := [(1, _), (3, _), (5, _), (0, _), (2, _), (4, _)]) hx hb dJ5_inflate_24 hl (k := 3) rfl (nI_succ k).symm (by decide) rfl (fun ls hl => ?_)
    refine k_bald hx hb hs hm ha (vi k (by omega) (by omega)) dJ5_inflate_27 ?_
    rw [show (nI k).toNatClampNeg = k from (cl_nI (by omega))]
    refine lv_sipush (v := (255 : Int32)) hx hb dJ5_inflate_28 (by decide) ?_
    refine lv_iand hx hb dJ5_inflate_31 ?_
    refine k_callv (va_runS (As := [.ref (b), .int (nI k), .int (((aI (infM t M a b k) a k) &&& (255 : Int32)))]) (rest := []) ⟨hx, hb, hml, hown, hts⟩ (cmJ5_putChar l E t (infM t M a b k) b (nI k) ((aI (infM t M a b k) a k) &&& (255 : Int32)) n1 hb1 hn1 ⟨k, by omega, rfl⟩ (by rw [cl_nI (by omega)]; omega)) (va_cwS 3 hts (lw_S q1328 q1329 q71 q1330) rfl rfl rfl (by decide +kernel) ⟨Nat.le_of_ble_eq_true rfl, Nat.le_of_ble_eq_true rfl⟩) (k_preS hs hm hS) rfl rfl hl.1 rfl (lv_room (Nat.le_of_ble_eq_true rfl)) dJ5_inflate_32 ⟨Nat.le_of_ble_eq_true rfl, Nat.le_of_ble_eq_true rfl⟩) hS (fun u_4 H locs hu_4 hm hS => ?_)
    rw [hu_4, ← infM_s] at hm
    refine lv_iinc (v := nI (k + 1)) (lv' := [(5, _), (1, _), (3, _), (0, _), (2, _), (4, _)]) hx hb dJ5_inflate_35 hl (k := 2) rfl (nI_succ k).symm (by decide) rfl (fun ls hl => ?_)
    refine lv_goto (tgt := 10) hx hb dJ5_inflate_38 (by decide) ?_
    exact ih_2 (k + 1) (by omega) _ _ _ ⟨(by omega), hm, hS, lv_sub hl [0, 3, 1, 4, 2, 5] rfl⟩
set_option maxHeartbeats 4000000 in
theorem cmJ20_inflate (l : Launch) (E : mE) (t : mt) (M : mm) (a b n n1 k9 : Nat) (ha : t a = (23, n)) (hb1 : t b = (23, n1)) (hn : n ≤ 60000) (hn1 : n1 ≤ 60000) (hk9 : k9 ≤ n) (hk1 : 2 * k9 ≤ n1) : Met l yJ20_inflate (ws_ yJ20_inflate cJ20_inflate 5 none) ({ frames := 4, cells := 0, slots := 0, locals := 92 }) (va_Pc [.ref a, .int (0 : Int32), .ref b, .int (0 : Int32), .int (nI k9)] (wP E t M)) (va_Qv (fun (u : mm) => u = infM t M a b k9) (fun u U => mw E t u U.heap) (eA E)) 0 0 (eA E) := by
  refine Met.ofW (cc := cJ20_inflate) (maxL := 5) (ret := none) (by decide) rfl ?_
  intro p e s m args below meth c0 s₁ B hml hv
  obtain ⟨rfl, hs, hm⟩ := hv
  have hx := B.exec
  have hb := B.bytes
  have hr := B.returns
  have hts := atoms_spec (ws := ws_ yJ20_inflate cJ20_inflate 5 none) B.pre
  have hts : ∀ w ∈ lw_all, w.before _ s = true := fun w h => hts w (List.mem_cons_of_mem _ h)
  have hown : s.vm.findClass RJ20 = some m.cls := findClass_of_methodNamed B.named
  have hlocks := B.notSynchronized
  have hS : va_S (eA E) s.heap s.heap [] := va_S.rf
  have hl := lv_entry ([.ref a, .int (0 : Int32), .ref b, .int (0 : Int32), .int (nI k9)]) (n := 5) (Nat.le_of_ble_eq_true rfl)
  rw [lg_entry_eq]
  generalize (lg_sl ([.ref a, .int (0 : Int32), .ref b, .int (0 : Int32), .int (nI k9)]) ++ List.replicate (5 - (lg_sl ([.ref a, .int (0 : Int32), .ref b, .int (0 : Int32), .int (nI k9)])).length) Slot.unset).toArray = ls at hl ⊢
  have hl : lv_has ls 5 [(0, .ref (a)), (1, .int ((0 : Int32))), (2, .ref (b)), (3, .int ((0 : Int32))), (4, .int ((nI k9)))] := hl
  refine lv_aload_n hx hb dJ20_inflate_0 rfl (lv_at hl 0 rfl) ?_
  refine lv_iload_n hx hb dJ20_inflate_1 rfl (lv_at hl 1 rfl) ?_
  refine lv_aload_n hx hb dJ20_inflate_2 rfl (lv_at hl 2 rfl) ?_
  refine lv_iload_n hx hb dJ20_inflate_3 rfl (lv_at hl 3 rfl) ?_
  refine lv_iload hx hb dJ20_inflate_4 (lv_at hl 4 rfl) ?_
  refine k_callv (va_runS (As := [.ref (a), .int ((0 : Int32)), .ref (b), .int ((0 : Int32)), .int ((nI k9))]) (rest := []) ⟨hx, hb, hml, hown, hts⟩ (cmJ5_inflate l E t M a b n n1 k9 ha hb1 hn hn1 hk9 hk1) (va_cwS 5 hts (lw_S q1311 q1312 q71 q1313) rfl rfl rfl (by decide +kernel) ⟨Nat.le_of_ble_eq_true rfl, Nat.le_of_ble_eq_true rfl⟩) (k_preS hs hm hS) rfl rfl hl.1 rfl (lv_room (Nat.le_of_ble_eq_true rfl)) dJ20_inflate_6 ⟨Nat.le_of_ble_eq_true rfl, Nat.le_of_ble_eq_true rfl⟩) hS (fun u_1 H locs hu_1 hm hS => ?_)
  rw [hu_1] at hm
  exact W.vret hx hb hr (fun t9 ht9 _ => ⟨⟨_, rfl, rfl, hb9 ht9 hm⟩, hS.F ht9⟩) hS.2.2 dJ20_inflate_9
def CJ5_newBytesLength (t : mt) (M : mm) (x : Int32) : Int32 :=
  (nI (2 * (x).toNatClampNeg))
set_option maxHeartbeats 4000000 in
theorem cmJ5_newBytesLength (l : Launch) (E : mE) (t : mt) (M : mm) (x : Int32) (hx1 : ix 30000 x) : Met l yJ5_newBytesLength (ws_ yJ5_newBytesLength cJ5_newBytesLength 1 (some .int)) ({ frames := 0, cells := 0, slots := 0, locals := 0 }) (va_Pc [.int x] (wP E t M)) (va_Qi (fun (r : Int32) (u : mm) => r = (CJ5_newBytesLength t M x) ∧ u = M) (fun u U => mw E t u U.heap) (eA E)) 0 0 (eA E) := by
  refine Met.ofW (cc := cJ5_newBytesLength) (maxL := 1) (ret := (some .int)) (by decide) rfl ?_
  intro p e s m args below meth c0 s₁ B hml hv
  obtain ⟨rfl, hs, hm⟩ := hv
  have hx := B.exec
  have hb := B.bytes
  have hr := B.returns
  have hts := atoms_spec (ws := ws_ yJ5_newBytesLength cJ5_newBytesLength 1 (some .int)) B.pre
  have hts : ∀ w ∈ lw_all, w.before _ s = true := fun w h => hts w (List.mem_cons_of_mem _ h)
  have hown : s.vm.findClass RJ5 = some m.cls := findClass_of_methodNamed B.named
  have hlocks := B.notSynchronized
  have hS : va_S (eA E) s.heap s.heap [] := va_S.rf
  have hl := lv_entry ([.int x]) (n := 1) (Nat.le_of_ble_eq_true rfl)
  rw [lg_entry_eq]
  generalize (lg_sl ([.int x]) ++ List.replicate (1 - (lg_sl ([.int x])).length) Slot.unset).toArray = ls at hl ⊢
  have hl : lv_has ls 1 [(0, .int (x))] := hl
  refine lv_iload_n hx hb dJ5_newBytesLength_0 rfl (lv_at hl 0 rfl) ?_
  refine lv_if_ge (tgt := 12) hx hb dJ5_newBytesLength_1 (by decide) (fun c_1 => ?_) (fun c_1 => (c_1 (by obtain ⟨k, hk, e9⟩ := hx1; rw [e9]; exact nI_pos' (by omega))).elim)
  refine lv_iload_n hx hb dJ5_newBytesLength_12 rfl (lv_at hl 0 rfl) ?_
  refine lv_ldc (v := 1073741823) hx hb hown (hts _ q344) dJ5_newBytesLength_13 ?_
  refine lv_icmp_lt (tgt := 55) hx hb dJ5_newBytesLength_15 (by decide) (fun c_2 => ?_) (fun c_2 => (c_2 (by obtain ⟨k, hk, e9⟩ := hx1; rw [e9]; exact nI_lt (b := 1073741823) (by omega) (by decide))).elim)
  refine lv_iload_n hx hb dJ5_newBytesLength_55 rfl (lv_at hl 0 rfl) ?_
  refine lv_iconst (v := (1 : Int32)) hx hb dJ5_newBytesLength_56 (by decide) ?_
  refine lv_ishl hx hb dJ5_newBytesLength_57 ?_
  rw [show (x <<< ((1 : Int32) &&& 31)) = (nI (2 * (x).toNatClampNeg)) from ((shl1 (hx1.mono (by decide))).symm).symm]
  exact W.iret (v := _) hx hb hr (fun t9 ht9 _ => ⟨⟨_, _, rfl, ⟨(rfl).symm, rfl⟩, hb9 ht9 hm⟩, hS.F ht9⟩) hS.2.2 dJ5_newBytesLength_58
theorem nbl_e {t : mt} {M : mm} {x : Int32} {k9 : Nat} (hx0 : x = nI k9) (hk9 : k9 ≤ 250) : CJ5_newBytesLength t M x = nI (2 * k9) := by
  subst hx0
  unfold CJ5_newBytesLength
  rw [cl_nI (by omega)]
theorem nbl_pos {t : mt} {M : mm} {x : Int32} {k9 : Nat} (hx0 : x = nI k9) (hk9 : k9 ≤ 250) : ¬ CJ5_newBytesLength t M x < 0 := by
  rw [nbl_e hx0 hk9]
  exact nI_pos (by omega)
theorem nbl_eq {t : mt} {M : mm} {x : Int32} {k9 : Nat} (hx0 : x = nI k9) (hk9 : k9 ≤ 250) : (CJ5_newBytesLength t M x).toNatClampNeg = 2 * k9 := by
  rw [nbl_e hx0 hk9, cl_nI (by omega)]
theorem ne_new {t : mt} {a q k n : Nat} (hq : (t q).1 = 0) (ha : t a = (k, n)) (hk : k ≠ 0 := by decide) : a ≠ q := fun e => by
  subst e
  rw [ha] at hq
  exact hk hq
set_option maxHeartbeats 4000000 in
theorem cmJ5_newBytesFor (l : Launch) (E : mE) (t : mt) (M : mm) (x : Int32) (k9 : Nat) (hx0 : x = nI k9) (hk9 : k9 ≤ 250) : Met l yJ5_newBytesFor (ws_ yJ5_newBytesFor cJ5_newBytesFor 1 (some (.array .byte))) ({ frames := 1, cells := 1, slots := 500, locals := 20 }) (va_Pc [.int x] (wP E t M)) (va_Qr (fun (_ : Unit) => True) (fun _ r U => (t r).1 = 0 ∧ mw E (m1 t r (23, 2 * k9)) (wI M r (fun _ => 0)) U.heap) (eA E)) 1 500 (eA E) := by
  refine Met.ofW (cc := cJ5_newBytesFor) (maxL := 1) (ret := (some (.array .byte))) (by decide) rfl ?_
  intro p e s m args below meth c0 s₁ B hml hv
  obtain ⟨rfl, hs, hm⟩ := hv
  have hx := B.exec
  have hb := B.bytes
  have hr := B.returns
  have hts := atoms_spec (ws := ws_ yJ5_newBytesFor cJ5_newBytesFor 1 (some (.array .byte))) B.pre
  have hts : ∀ w ∈ lw_all, w.before _ s = true := fun w h => hts w (List.mem_cons_of_mem _ h)
  have hown : s.vm.findClass RJ5 = some m.cls := findClass_of_methodNamed B.named
  have hlocks := B.notSynchronized
  have hS : va_S (eA E) s.heap s.heap [] := va_S.rf
  have hl := lv_entry ([.int x]) (n := 1) (Nat.le_of_ble_eq_true rfl)
  rw [lg_entry_eq]
  generalize (lg_sl ([.int x]) ++ List.replicate (1 - (lg_sl ([.int x])).length) Slot.unset).toArray = ls at hl ⊢
  have hl : lv_has ls 1 [(0, .int (x))] := hl
  refine lv_iload_n hx hb dJ5_newBytesFor_0 rfl (lv_at hl 0 rfl) ?_
  refine k_calli (va_runS (As := [.int (x)]) (rest := []) ⟨hx, hb, hml, hown, hts⟩ (cmJ5_newBytesLength l E t M  (x) ⟨k9, by omega, hx0⟩) (va_cwS 1 hts (lw_S q341 q342 q71 q343) rfl rfl rfl (by decide +kernel) ⟨Nat.le_of_ble_eq_true rfl, Nat.le_of_ble_eq_true rfl⟩) (k_preS hs hm hS) rfl rfl hl.1 rfl (lv_room (Nat.le_of_ble_eq_true rfl)) dJ5_newBytesFor_1 ⟨Nat.le_of_ble_eq_true rfl, Nat.le_of_ble_eq_true rfl⟩) hS (fun r_1 u_1 H locs hw_1 hm_1 hS => ?_)
  obtain ⟨hr_1, hu_1⟩ := hw_1
  replace hu_1 := hu_1.symm
  subst hu_1
  have hm := hm_1
  refine k_newB (N := 2 * k9) hx hb hts hs hm hS (by rw [hr_1]; exact nbl_pos hx0 hk9) (by rw [hr_1]; exact nbl_eq hx0 hk9) (by omega) (Nat.le_of_ble_eq_true rfl) (show 0 + 2 * k9 ≤ 500 from by omega) dJ5_newBytesFor_4 (fun q_2 H hqe_2 _ hq0_2 hm hS => ?_)
  refine W.widen (k := 1) (n := 500) (Nat.le_of_ble_eq_true rfl) (show 0 + 2 * k9 ≤ 500 from by omega) ?_
  exact W.aret (v := _) hx hb hr (Or.inr ⟨_, rfl⟩) (Or.inr ⟨_, rfl⟩) (fun t9 ht9 _ => ⟨⟨(), q_2, rfl, trivial, ⟨hq0_2, hb9 (B := fun H9 => mw E _ _ H9) ht9 hm⟩⟩, hS.F ht9⟩) hS.2.2 dJ5_newBytesFor_6
set_option maxHeartbeats 4000000 in
theorem cmJ10_copyOf_3 (l : Launch) (E : mE) (t : mt) (M : mm) (a n n1 : Nat) (ha : t a = (23, n)) (hn : n < n1) (hn1 : n1 ≤ 500) (hf : bytesF M a n) : Met l yJ10_copyOf_3 (ws_ yJ10_copyOf_3 cJ10_copyOf_3 3 (some (.array .byte))) ({ frames := 1, cells := 1, slots := 500, locals := 40 }) (va_Pc [.ref a, .int (nI n1)] (wP E t M)) (va_Qr (fun (_ : Unit) => True) (fun _ r U => (t r).1 = 0 ∧ mw E (m1 t r (23, n1)) (wI M r (va_cpy (aI M a) (fun _ => 0) 0 0 n)) U.heap) (eA E)) 1 500 (eA E) := by
  refine Met.ofW (cc := cJ10_copyOf_3) (maxL := 3) (ret := (some (.array .byte))) (by decide) rfl ?_
  intro p e s m args below meth c0 s₁ B hml hv
  obtain ⟨rfl, hs, hm⟩ := hv
  have hx := B.exec
  have hb := B.bytes
  have hr := B.returns
  have hts := atoms_spec (ws := ws_ yJ10_copyOf_3 cJ10_copyOf_3 3 (some (.array .byte))) B.pre
  have hts : ∀ w ∈ lw_all, w.before _ s = true := fun w h => hts w (List.mem_cons_of_mem _ h)
  have hown : s.vm.findClass RJ10 = some m.cls := findClass_of_methodNamed B.named
  have hlocks := B.notSynchronized
  have hS : va_S (eA E) s.heap s.heap [] := va_S.rf
  have hl := lv_entry ([.ref a, .int (nI n1)]) (n := 3) (Nat.le_of_ble_eq_true rfl)
  rw [lg_entry_eq]
  generalize (lg_sl ([.ref a, .int (nI n1)]) ++ List.replicate (3 - (lg_sl ([.ref a, .int (nI n1)])).length) Slot.unset).toArray = ls at hl ⊢
  have hl : lv_has ls 3 [(0, .ref (a)), (1, .int ((nI n1)))] := hl
  refine lv_iload_n hx hb dJ10_copyOf_3_0 rfl (lv_at hl 1 rfl) ?_
  refine lv_aload_n hx hb dJ10_copyOf_3_1 rfl (lv_at hl 0 rfl) ?_
  refine k_alen (j := 3) (v := (nI n)) hx hb hs hm ha (by decide) rfl rfl rfl dJ10_copyOf_3_2 ?_
  refine lv_icmp_ne (tgt := 14) hx hb dJ10_copyOf_3_3 (by decide) (fun c_1 => ?_) (fun c_1 => (Nat.ne_of_gt hn ((nI_eq (by omega) (by omega)).mp c_1)).elim)
  refine lv_iload_n hx hb dJ10_copyOf_3_14 rfl (lv_at hl 1 rfl) ?_
  refine k_newB (N := n1) hx hb hts hs hm hS (nI_pos (by omega)) (cl_nI (by omega)) (by omega) (Nat.le_of_ble_eq_true rfl) (show 0 + n1 ≤ 500 from by omega) dJ10_copyOf_3_15 (fun q_2 H hqe_2 _ hq0_2 hm hS => ?_)
  refine lv_astore_n (lv' := [(2, _), (0, _), (1, _)]) hx hb dJ10_copyOf_3_17 rfl hl (by decide) rfl (fun ls hl => ?_)
  refine lv_aload_n hx hb dJ10_copyOf_3_18 rfl (lv_at hl 1 rfl) ?_
  refine lv_iconst (v := (0 : Int32)) hx hb dJ10_copyOf_3_19 (by decide) ?_
  refine lv_aload_n hx hb dJ10_copyOf_3_20 rfl (lv_at hl 0 rfl) ?_
  refine lv_iconst (v := (0 : Int32)) hx hb dJ10_copyOf_3_21 (by decide) ?_
  refine lv_aload_n hx hb dJ10_copyOf_3_22 rfl (lv_at hl 1 rfl) ?_
  refine k_alen (j := 3) (v := (nI n)) hx hb hs hm (push_at hq0_2 ha) (by decide) rfl rfl rfl dJ10_copyOf_3_23 ?_
  refine lv_iload_n hx hb dJ10_copyOf_3_24 rfl (lv_at hl 2 rfl) ?_
  refine va_mmin hx hb (hml.trans hl.1.symm) hown (hts _ q512) (hts _ q513) (hts _ q78) (hts _ q514) (Nat.le_of_ble_eq_true rfl) (Nat.le_of_ble_eq_true rfl) (Nat.le_of_ble_eq_true rfl) (show 0 + n1 ≤ 500 from by omega) dJ10_copyOf_3_25 ?_
  rw [show (if (nI n1) < (nI n) then (nI n1) else (nI n)) = nI n from if_neg (nI_nlt (by omega) (by omega))]
  refine k_cpyB (n0 := n) (n1 := n1) (n := n) hx hb (hml.trans hl.1.symm) hown (hts _ q515) (hts _ q517) (hts _ q516) (hts _ q79) hs hm hS (push_at hq0_2 ha) (m1_at _ _ _) (by omega) (Nat.le_refl _) (by omega) (fun i hi => by rw [aI_wIn _ _ (ne_new hq0_2 ha)]; exact hf i hi) (Nat.le_of_ble_eq_true rfl) (Nat.le_of_ble_eq_true rfl) dJ10_copyOf_3_28 (fun H locs hm hS => ?_)
  rw [wI_wI, aI_wI, aI_wIn _ _ (ne_new hq0_2 ha)] at hm
  refine lv_aload_n hx hb dJ10_copyOf_3_31 rfl (lv_at hl 0 rfl) ?_
  refine W.widen (k := 1) (n := 500) (Nat.le_of_ble_eq_true rfl) (show 0 + n1 ≤ 500 from by omega) ?_
  exact W.aret (v := _) hx hb hr (Or.inr ⟨_, rfl⟩) (Or.inr ⟨_, rfl⟩) (fun t9 ht9 _ => ⟨⟨(), q_2, rfl, trivial, ⟨hq0_2, hb9 (B := fun H9 => mw E _ _ H9) ht9 hm⟩⟩, hS.F ht9⟩) hS.2.2 dJ10_copyOf_3_32
section NC
variable {t : mt} {M M0 : mm} {c n k : Nat}
theorem nl_v (h : sbP t M c n k) (hg : n < (k + 1) * czw M c) : nI n + (if nI ((k + 1) * czw M c - n) < nI (n + 2 * czw M c) then nI (n + 2 * czw M c) else nI ((k + 1) * czw M c - n)) = nI (capN n (czw M c)) := by
  rw [if_pos ((cap_lt h hg).mpr trivial), nI_add]
  rfl
theorem nl_1 (h : sbP t M c n k) (hn : n ≤ 500) (hg : n < (k + 1) * czw M c) : ¬ (nI n + (if nI ((k + 1) * czw M c - n) < nI (n + 2 * czw M c) then nI (n + 2 * czw M c) else nI ((k + 1) * czw M c - n))) ≤ 0 := by
  rw [nl_v h hg]
  have := cz_pos h
  exact nI_nle (by unfold capN; omega) (by unfold capN; omega)
theorem nl_2 (h : sbP t M c n k) (hn : n ≤ 500) (hg : n < (k + 1) * czw M c) : ¬ (2147483639 : Int32) < (nI n + (if nI ((k + 1) * czw M c - n) < nI (n + 2 * czw M c) then nI (n + 2 * czw M c) else nI ((k + 1) * czw M c - n))) := by
  rw [nl_v h hg]
  have := cz_pos h
  exact nI_nlt (a := 2147483639) (by unfold capN; omega) (by decide)
theorem nl_3 {r : Int32} (h : sbP t M c n k) (hn : n ≤ 500) (hg : n < (k + 1) * czw M c) (hr : r = CJ19_newLength t M0 (nI n) (nI ((k + 1) * czw M c - n)) (nI (n + 2 * czw M c))) (hc : r = 2147483647) : False := by
  rw [hr, nlen_eq h hg] at hc
  have := cz_pos h
  have h2 := (nI_eq (a := capN n (czw M c)) (b := 2147483647) (by unfold capN; omega) (by decide)).mp hc
  unfold capN at h2
  omega
theorem cap_dv (h : sbP t M c n k) : capN n (czw M c) / czw M c * czw M c = capN n (czw M c) := by
  unfold capN
  rcases cz_or h with ⟨-, e⟩ | ⟨-, e⟩ <;> rw [e] <;> omega
theorem nc_leaf {x : Int32} (h : sbP t M c n k) (hn : n ≤ 500) (hg : n < (k + 1) * czw M c) : nI (capN (t (gN M 1100 c)).2 (czw M c) / czw M c) = (CJ19_newLength t M0 (nI n) (nI ((k + 1) * czw M c - n)) (nI (n + 2 * czw M c))) >>> ((gI M 1101 c) &&& 31) := by
  have := cz_pos h
  rw [nlen_eq h hg, cz_shr h (by unfold capN; omega), h.2.1]
end NC
def CJ2_newCapacity (t : mt) (M : mm) (c : Nat) (x : Int32) : Int32 := nI (capN (t (gN M 1100 c)).2 (czw M c) / czw M c)
set_option maxHeartbeats 4000000 in
theorem cmJ2_newCapacity (l : Launch) (E : mE) (t : mt) (M : mm) (c : Nat) (x : Int32) (hc : t c = (11, 0)) (n k : Nat) (hB : sbP t M c n k) (hx0 : x = nI (k + 1)) (hk : k ≤ 60) (hn5 : n ≤ 500) (hg : n < (k + 1) * czw M c) : Met l yJ2_newCapacity (ws_ yJ2_newCapacity cJ2_newCapacity 6 (some .int)) ({ frames := 2, cells := 0, slots := 0, locals := 43 }) (va_Pc [.ref c, .int x] (wP E t M)) (va_Qi (fun (r : Int32) (u : mm) => r = (CJ2_newCapacity t M c x) ∧ u = M) (fun u U => mw E t u U.heap) (eA E)) 0 0 (eA E) := by
  refine Met.ofW (cc := cJ2_newCapacity) (maxL := 6) (ret := (some .int)) (by decide) rfl ?_
  intro p e s m args below meth c0 s₁ B hml hv
  obtain ⟨rfl, hs, hm⟩ := hv
  have hx := B.exec
  have hb := B.bytes
  have hr := B.returns
  have hts := atoms_spec (ws := ws_ yJ2_newCapacity cJ2_newCapacity 6 (some .int)) B.pre
  have hts : ∀ w ∈ lw_all, w.before _ s = true := fun w h => hts w (List.mem_cons_of_mem _ h)
  have hown : s.vm.findClass RJ2 = some m.cls := findClass_of_methodNamed B.named
  have hlocks := B.notSynchronized
  have hS : va_S (eA E) s.heap s.heap [] := va_S.rf
  have hl := lv_entry ([.ref c, .int x]) (n := 6) (Nat.le_of_ble_eq_true rfl)
  rw [lg_entry_eq]
  generalize (lg_sl ([.ref c, .int x]) ++ List.replicate (6 - (lg_sl ([.ref c, .int x])).length) Slot.unset).toArray = ls at hl ⊢
  have hl : lv_has ls 6 [(0, .ref (c)), (1, .int (x))] := hl
  refine lv_aload_n hx hb dJ2_newCapacity_0 rfl (lv_at hl 0 rfl) ?_
  refine gf_1100 hx hb hts hown hs hm hc (hts _ q345) dJ2_newCapacity_1 ?_
  refine k_alen (j := 3) (v := (nI n)) hx hb hs hm hB.2.1 (by decide) rfl rfl rfl dJ2_newCapacity_4 ?_
  refine lv_istore_n (lv' := [(2, _), (0, _), (1, _)]) hx hb dJ2_newCapacity_5 rfl hl (by decide) rfl (fun ls hl => ?_)
  refine lv_iload_n hx hb dJ2_newCapacity_6 rfl (lv_at hl 2 rfl) ?_
  refine lv_aload_n hx hb dJ2_newCapacity_7 rfl (lv_at hl 1 rfl) ?_
  refine gf_1101 hx hb hts hown hs hm hc (hts _ q346) dJ2_newCapacity_8 ?_
  refine lv_ishl hx hb dJ2_newCapacity_11 ?_
  rw [show (x <<< ((gI M 1101 c) &&& 31)) = (nI ((k + 1) * czw M c)) from ((show nI ((k + 1) * czw M c) = x <<< ((gI M 1101 c) &&& 31) from by rw [hx0]; exact (cz_shl hB (by omega)).symm)).symm]
  refine lv_istore_n (lv' := [(3, _), (2, _), (0, _), (1, _)]) hx hb dJ2_newCapacity_12 rfl hl (by decide) rfl (fun ls hl => ?_)
  refine lv_iload_n hx hb dJ2_newCapacity_13 rfl (lv_at hl 0 rfl) ?_
  refine lv_iload_n hx hb dJ2_newCapacity_14 rfl (lv_at hl 1 rfl) ?_
  refine lv_isub hx hb dJ2_newCapacity_15 ?_
  rw [show ((nI ((k + 1) * czw M c)) - (nI n)) = (nI ((k + 1) * czw M c - n)) from ((pk_sub (Nat.le_of_lt hg)).symm).symm]
  refine lv_istore (lv' := [(4, _), (3, _), (2, _), (0, _), (1, _)]) hx hb dJ2_newCapacity_16 hl (by decide) rfl (fun ls hl => ?_)
  refine lv_iload_n hx hb dJ2_newCapacity_18 rfl (lv_at hl 2 rfl) ?_
  refine lv_iload hx hb dJ2_newCapacity_19 (lv_at hl 0 rfl) ?_
  refine lv_iload_n hx hb dJ2_newCapacity_21 rfl (lv_at hl 2 rfl) ?_
  refine lv_iconst (v := (2 : Int32)) hx hb dJ2_newCapacity_22 (by decide) ?_
  refine lv_aload_n hx hb dJ2_newCapacity_23 rfl (lv_at hl 3 rfl) ?_
  refine gf_1101 hx hb hts hown hs hm hc (hts _ q346) dJ2_newCapacity_24 ?_
  refine lv_ishl hx hb dJ2_newCapacity_27 ?_
  rw [show ((2 : Int32) <<< ((gI M 1101 c) &&& 31)) = (nI (2 * czw M c)) from ((cz_shl (m := 2) hB (by decide)).symm).symm]
  refine lv_iadd hx hb dJ2_newCapacity_28 ?_
  rw [show ((nI n) + (nI (2 * czw M c))) = (nI (n + 2 * czw M c)) from ((nI_add _ _).symm).symm]
  refine k_calli (va_runS (As := [.int ((nI n)), .int ((nI ((k + 1) * czw M c - n))), .int ((nI (n + 2 * czw M c)))]) (rest := []) ⟨hx, hb, hml, hown, hts⟩ (cmJ19_newLength l E t M  ((nI n)) ((nI ((k + 1) * czw M c - n))) ((nI (n + 2 * czw M c))) (nl_1 hB hn5 hg) (nl_2 hB hn5 hg)) (va_cwS 3 hts (lw_S q1279 q1280 q90 q1281) rfl rfl rfl (by decide +kernel) ⟨Nat.le_of_ble_eq_true rfl, Nat.le_of_ble_eq_true rfl⟩) (k_preS hs hm hS) rfl rfl hl.1 rfl (lv_room (Nat.le_of_ble_eq_true rfl)) dJ2_newCapacity_29 ⟨Nat.le_of_ble_eq_true rfl, Nat.le_of_ble_eq_true rfl⟩) hS (fun r_1 u_1 H locs hw_1 hm_1 hS => ?_)
  obtain ⟨hr_1, hu_1⟩ := hw_1
  replace hu_1 := hu_1.symm
  subst hu_1
  have hm := hm_1
  refine lv_istore (lv' := [(5, _), (4, _), (3, _), (2, _), (0, _), (1, _)]) hx hb dJ2_newCapacity_32 hl (by decide) rfl (fun ls hl => ?_)
  refine lv_iload hx hb dJ2_newCapacity_34 (lv_at hl 0 rfl) ?_
  refine lv_ldc (v := 2147483647) hx hb hown (hts _ q1287) dJ2_newCapacity_36 ?_
  refine lv_icmp_ne (tgt := 51) hx hb dJ2_newCapacity_38 (by decide) (fun c_2 => ?_) (fun c_2 => (nl_3 hB hn5 hg hr_1 c_2).elim)
  refine lv_iload hx hb dJ2_newCapacity_51 (lv_at hl 0 rfl) ?_
  refine lv_aload_n hx hb dJ2_newCapacity_53 rfl (lv_at hl 4 rfl) ?_
  refine gf_1101 hx hb hts hown hs hm hc (hts _ q346) dJ2_newCapacity_54 ?_
  refine lv_ishr hx hb dJ2_newCapacity_57 ?_
  subst hr_1
  exact W.iret (v := _) hx hb hr (fun t9 ht9 _ => ⟨⟨_, _, rfl, ⟨((nc_leaf (x := x) hB hn5 hg)).symm, rfl⟩, hb9 ht9 hm⟩, hS.F ht9⟩) hS.2.2 dJ2_newCapacity_58
def grR (t : mt) (M : mm) (c k : Nat) (S : mt × mm) : Prop := (∀ a, (t a).1 ≠ 0 → S.1 a = t a) ∧ (∀ b, (t b).1 ≠ 0 → b ≠ c → smC M S.2 b) ∧ (gN S.2 1100 c = gN M 1100 c ∨ (t (gN S.2 1100 c)).1 = 0) ∧ (∀ f, gI S.2 f c = gI M f c) ∧ ∃ n', sbB S.1 S.2 c n' k ∧ (k + 1) * czw M c ≤ n' ∧ (∀ i, i < k → ltr S.2 c i = ltr M c i)
theorem kp {t u : mt} (h : ∀ a, (t a).1 ≠ 0 → u a = t a) {a k n : Nat} (ha : t a = (k, n)) (hk : k ≠ 0 := by decide) : u a = (k, n) := (h a (by rw [ha]; exact hk)).trans ha
theorem gr_sm {t : mt} {M : mm} {c n k : Nat} (hB : sbB t M c n k) (hk : k ≤ 60) (hc : (nI (k + 1) - (nI n >>> ((gI M 1101 c) &&& 31))) ≤ 0) : grR t M c k (t, M) :=
  ⟨fun _ _ => rfl, fun b _ _ => smC.rf M b, .inl rfl, fun _ => rfl, n, hB, cz_ngr hB.1 hk hB.2.2.1 hc, fun _ _ => rfl⟩
theorem nc_shl {t : mt} {M : mm} {c n k : Nat} {x : Int32} (hB : sbB t M c n k) : CJ2_newCapacity t M c x <<< ((gI M 1101 c) &&& 31) = nI (capN n (czw M c)) := by
  have h5 := hB.2.2.1
  have hc := cz_pos hB.1
  unfold CJ2_newCapacity
  rw [hB.1.2.1]
  show nI (capN n (czw M c) / czw M c) <<< _ = _
  have h6 : capN n (czw M c) / czw M c ≤ capN n (czw M c) := Nat.div_le_self _ _
  have h7 : capN n (czw M c) ≤ 60000 := by unfold capN; omega
  rw [cz_shl hB.1 (by omega), cap_dv hB.1]
theorem cap_gr {t : mt} {M : mm} {c n k : Nat} (hB : sbB t M c n k) (hk : k ≤ 60) (hg : n < (k + 1) * czw M c) : n < capN n (czw M c) ∧ capN n (czw M c) ≤ 250 := by
  have hc := cz_pos hB.1
  have h1 : (k + 1) * czw M c ≤ 61 * 2 := Nat.mul_le_mul (by omega) (by omega)
  unfold capN
  omega
theorem bytes_cpy {f : Nat → Int32} {n : Nat} (h : ∀ i, i < n → fits .byte (.int (f i)) = true) (N : Nat) : ∀ i, i < N → fits .byte (.int (va_cpy f (fun _ => 0) 0 0 n i)) = true := fun i _ => by
  unfold va_cpy
  dsimp only
  split
  · rename_i h9
    exact h _ (by omega)
  · rfl
theorem gr_nw {t : mt} {M : mm} {c n k q : Nat} (hB : sbB t M c n k) (hk : k ≤ 60) (hg : n < (k + 1) * czw M c) (hq0 : (t q).1 = 0) : grR t M c k (m1 t q (23, capN n (czw M c)), sN (wI M q (va_cpy (aI M (gN M 1100 c)) (fun _ => 0) 0 0 n)) 1100 c q) := by
  obtain ⟨h1, h2⟩ := cap_gr hB hk hg
  have hc := cz_pos hB.1
  have hne : ∀ a, (t a).1 ≠ 0 → a ≠ q := fun a ha e => ha (by rw [e]; exact hq0)
  have eN : gN (sN (wI M q (va_cpy (aI M (gN M 1100 c)) (fun _ => 0) 0 0 n)) 1100 c q) 1100 c = q := m2_at _ _ _ _
  have eA : aI (sN (wI M q (va_cpy (aI M (gN M 1100 c)) (fun _ => 0) 0 0 n)) 1100 c q) q = va_cpy (aI M (gN M 1100 c)) (fun _ => 0) 0 0 n := m1_at _ _ _
  have eI : ∀ f, gI (sN (wI M q (va_cpy (aI M (gN M 1100 c)) (fun _ => 0) 0 0 n)) 1100 c q) f c = gI M f c := fun _ => rfl
  refine ⟨fun a ha => m1_ne t _ (hne a ha), fun b hb hbc => (smC.wI _ (hne b hb)).tr (smC.sN _ hbc), .inr (by rw [eN]; exact hq0), eI, capN n (czw M c), ⟨⟨push_at hq0 hB.1.1, by rw [eN]; exact m1_at _ _ _, by omega, by rw [eI]; exact hB.1.2.2.2.1, ?_⟩, ?_, by omega, fun _ => h2⟩, ?_, fun i hi => ?_⟩
  · rw [eI]
    rcases hB.1.2.2.2.2 with ⟨g1, g2⟩ | ⟨g1, g2⟩
    · exact .inl ⟨g1, by omega⟩
    · exact .inr ⟨g1, by omega⟩
  · rw [eN]
    intro i hi
    rw [eA]
    exact bytes_cpy hB.2.1 _ i hi
  · rcases cz_or hB.1 with ⟨g1, g2⟩ | ⟨g1, g2⟩
    · have := hB.1.2.2.2.2
      rw [g2] at hg ⊢
      unfold capN
      have hkn : k * czw M c ≤ n := hc.1
      rw [g2] at hkn
      omega
    · rw [g2] at hg ⊢
      unfold capN
      have hkn : k * czw M c ≤ n := hc.1
      rw [g2] at hkn
      omega
  · unfold ltr
    rw [eI, eN, eA]
    have hkn : k * czw M c ≤ n := hc.1
    rcases cz_or hB.1 with ⟨g1, g2⟩ | ⟨g1, g2⟩
    · rw [g2] at hkn
      rw [if_pos g1, if_pos g1]
      refine l8_cg ?_
      rw [pk_cpy_in (by omega) (by omega)]
      congr 1
      omega
    · rw [g2] at hkn
      rw [if_neg (by rw [g1]; decide), if_neg (by rw [g1]; decide)]
      refine l16_cg ?_ ?_
      · rw [pk_cpy_in (by omega) (by omega)]
        congr 1
        omega
      · rw [pk_cpy_in (by omega) (by omega)]
        congr 1
        omega
set_option maxHeartbeats 4000000 in
theorem cmJ2_ensureG (l : Launch) (E : mE) (t : mt) (M : mm) (c n k : Nat) (hB : sbB t M c n k) (hk : k ≤ 60) : Met l yJ2_ensureCapacityInternal (ws_ yJ2_ensureCapacityInternal cJ2_ensureCapacityInternal 3 none) ({ frames := 3, cells := 1, slots := 500, locals := 68 }) (va_Pc [.ref c, .int (nI (k + 1))] (wP E t M)) (va_Qv (fun (S : mt × mm) => grR t M c k S) (fun S U => mw E S.1 S.2 U.heap) (eA E)) 1 500 (eA E) := by
  refine Met.ofW (cc := cJ2_ensureCapacityInternal) (maxL := 3) (ret := none) (by decide) rfl ?_
  intro p e s m args below meth c0 s₁ B hml hv
  obtain ⟨rfl, hs, hm⟩ := hv
  have hx := B.exec
  have hb := B.bytes
  have hr := B.returns
  have hts := atoms_spec (ws := ws_ yJ2_ensureCapacityInternal cJ2_ensureCapacityInternal 3 none) B.pre
  have hts : ∀ w ∈ lw_all, w.before _ s = true := fun w h => hts w (List.mem_cons_of_mem _ h)
  have hown : s.vm.findClass RJ2 = some m.cls := findClass_of_methodNamed B.named
  have hlocks := B.notSynchronized
  have hS : va_S (eA E) s.heap s.heap [] := va_S.rf
  have hl := lv_entry ([.ref c, .int (nI (k + 1))]) (n := 3) (Nat.le_of_ble_eq_true rfl)
  rw [lg_entry_eq]
  generalize (lg_sl ([.ref c, .int (nI (k + 1))]) ++ List.replicate (3 - (lg_sl ([.ref c, .int (nI (k + 1))])).length) Slot.unset).toArray = ls at hl ⊢
  have hl : lv_has ls 3 [(0, .ref (c)), (1, .int ((nI (k + 1))))] := hl
  refine lv_aload_n hx hb dJ2_ensureCapacityInternal_0 rfl (lv_at hl 0 rfl) ?_
  refine gf_1100 hx hb hts hown hs hm hB.1.1 (hts _ q345) dJ2_ensureCapacityInternal_1 ?_
  refine k_alen (j := 3) (v := (nI n)) hx hb hs hm hB.1.2.1 (by decide) rfl rfl rfl dJ2_ensureCapacityInternal_4 ?_
  refine lv_aload_n hx hb dJ2_ensureCapacityInternal_5 rfl (lv_at hl 0 rfl) ?_
  refine gf_1101 hx hb hts hown hs hm hB.1.1 (hts _ q346) dJ2_ensureCapacityInternal_6 ?_
  refine lv_ishr hx hb dJ2_ensureCapacityInternal_9 ?_
  refine lv_istore_n (lv' := [(2, _), (0, _), (1, _)]) hx hb dJ2_ensureCapacityInternal_10 rfl hl (by decide) rfl (fun ls hl => ?_)
  refine lv_iload_n hx hb dJ2_ensureCapacityInternal_11 rfl (lv_at hl 2 rfl) ?_
  refine lv_iload_n hx hb dJ2_ensureCapacityInternal_12 rfl (lv_at hl 0 rfl) ?_
  refine lv_isub hx hb dJ2_ensureCapacityInternal_13 ?_
  refine lv_if_le (tgt := 38) hx hb dJ2_ensureCapacityInternal_14 (by decide) (fun c_1 => ?_) (fun c_1 => ?_)
  · refine W.widen (k := 1) (n := 500) (Nat.le_of_ble_eq_true rfl) (Nat.le_of_ble_eq_true rfl) ?_
    exact W.vret hx hb hr (fun t9 ht9 _ => ⟨⟨(t, M), rfl, (gr_sm hB hk c_1), hb9 (B := fun H9 => mw E _ _ H9) ht9 hm⟩, hS.F ht9⟩) hS.2.2 dJ2_ensureCapacityInternal_38
  · have hg9 := cz_gr hB.1 hk hB.2.2.1 c_1
    refine lv_aload_n hx hb dJ2_ensureCapacityInternal_17 rfl (lv_at hl 1 rfl) ?_
    refine lv_aload_n hx hb dJ2_ensureCapacityInternal_18 rfl (lv_at hl 1 rfl) ?_
    refine gf_1100 hx hb hts hown hs hm hB.1.1 (hts _ q345) dJ2_ensureCapacityInternal_19 ?_
    refine lv_aload_n hx hb dJ2_ensureCapacityInternal_22 rfl (lv_at hl 1 rfl) ?_
    refine lv_iload_n hx hb dJ2_ensureCapacityInternal_23 rfl (lv_at hl 2 rfl) ?_
    refine k_calli (va_runU (As := [.int ((nI (k + 1)))]) (rest := [.ref ((gN M 1100 c)), .ref (c)]) ⟨hx, hb, hml, hown, hts⟩ (cmJ2_newCapacity l E t M  (c) ((nI (k + 1))) hB.1.1 n k hB.1 rfl hk hB.2.2.1 hg9) (cwP 1 hts (lw_meth q1278) rfl rfl rfl (hts _ q1275) (hts _ q2094) (selP (z := yJ2_isLatin1) (by decide +kernel) rfl (hts _ q1299) (hs.2.2.1.at q1276 rfl rfl) (hts _ q1277)) (hts _ q1277) (hts _ q68) (by decide +kernel) ⟨Nat.le_of_ble_eq_true rfl, Nat.le_of_ble_eq_true rfl⟩) (k_preV hs hm hS (mw.recv hs hm (mt_ne hB.1.1 (by decide)) (ct11 hB.1.1) rfl)) rfl rfl hl.1 rfl (lv_room (Nat.le_of_ble_eq_true rfl)) dJ2_ensureCapacityInternal_24 ⟨Nat.le_of_ble_eq_true rfl, Nat.le_of_ble_eq_true rfl⟩) hS (fun r_2 u_2 H locs hw_2 hm_2 hS => ?_)
    obtain ⟨hr_2, hu_2⟩ := hw_2
    replace hu_2 := hu_2.symm
    subst hu_2
    have hm := hm_2
    refine lv_aload_n hx hb dJ2_ensureCapacityInternal_27 rfl (lv_at hl 1 rfl) ?_
    refine gf_1101 hx hb hts hown hs hm hB.1.1 (hts _ q346) dJ2_ensureCapacityInternal_28 ?_
    refine lv_ishl hx hb dJ2_ensureCapacityInternal_31 ?_
    rw [show (r_2 <<< ((gI M 1101 c) &&& 31)) = (nI (capN n (czw M c))) from ((show nI (capN n (czw M c)) = r_2 <<< ((gI M 1101 c) &&& 31) from by rw [hr_2]; exact (nc_shl hB).symm)).symm]
    refine k_callr (B := fun (_ : Unit) r H => (t r).1 = 0 ∧ mw E (m1 t r (23, capN n (czw M c))) (wI M r (va_cpy (aI M (gN M 1100 c)) (fun _ => 0) 0 0 n)) H) (va_runS (As := [.ref ((gN M 1100 c)), .int ((nI (capN n (czw M c))))]) (rest := [.ref (c)]) ⟨hx, hb, hml, hown, hts⟩ (cmJ10_copyOf_3 l E t M (gN M 1100 c) n (capN n (czw M c)) hB.1.2.1 (cap_gr hB hk hg9).1 (by have := (cap_gr hB hk hg9).2; omega) hB.2.1) (va_cwS 2 hts (lw_S q1288 q1289 q77 q1290) rfl rfl rfl (by decide +kernel) ⟨Nat.le_of_ble_eq_true rfl, Nat.le_of_ble_eq_true rfl⟩) (k_preS hs hm hS) rfl rfl hl.1 rfl (lv_room (Nat.le_of_ble_eq_true rfl)) dJ2_ensureCapacityInternal_32 ⟨Nat.le_of_ble_eq_true rfl, Nat.le_of_ble_eq_true rfl⟩) hS (fun q_3 _ H locs _ hB_3 hS => ?_)
    obtain ⟨hq0_3, hm⟩ := hB_3
    refine pf_1100 hx hb hts hown hs hm hS (push_at hq0_3 hB.1.1) (hts _ q345) dJ2_ensureCapacityInternal_35 (fun H locs hm hS => ?_)
    have hm : mw E (m1 t q_3 (23, capN n (czw M c))) ((sN (wI M q_3 (va_cpy (aI M (gN M 1100 c)) (fun _ => 0) 0 0 n)) 1100 c q_3)) H := hm
    refine W.widen (k := 1) (n := 500) (Nat.le_of_ble_eq_true rfl) (Nat.le_of_ble_eq_true rfl) ?_
    exact W.vret hx hb hr (fun t9 ht9 _ => ⟨⟨((m1 t q_3 (23, capN n (czw M c))), (sN (wI M q_3 (va_cpy (aI M (gN M 1100 c)) (fun _ => 0) 0 0 n)) 1100 c q_3)), rfl, (gr_nw hB hk hg9 hq0_3), hb9 (B := fun H9 => mw E _ _ H9) ht9 hm⟩, hS.F ht9⟩) hS.2.2 dJ2_ensureCapacityInternal_38
theorem isl_0 {t : mt} {M : mm} {c : Nat} {r : Int32} (hr : r = CJ2_isLatin1 t M c) (hc : ¬ r = 0) : gI M 1101 c = 0 := by
  by_cases e : gI M 1101 c = 0
  · exact e
  · exact absurd (hr.trans (if_neg e)) hc
theorem isl_1 {t : mt} {M : mm} {c : Nat} {r : Int32} (hr : r = CJ2_isLatin1 t M c) (hc : r = 0) : ¬ gI M 1101 c = 0 := fun e => by
  rw [hr, show CJ2_isLatin1 t M c = 1 from if_pos e] at hc
  exact absurd hc (by decide)
def inR (t : mt) (M : mm) (c k : Nat) (S : mt × mm) : Prop := (∀ a, (t a).1 ≠ 0 → S.1 a = t a) ∧ (∀ b, (t b).1 ≠ 0 → b ≠ c → smC M S.2 b) ∧ (t (gN S.2 1100 c)).1 = 0 ∧ gI S.2 1101 c = 1 ∧ ∃ n', sbB S.1 S.2 c n' k ∧ (∀ n, sbB t M c n k → n' = 2 * n) ∧ (∀ i, i < k → ltr S.2 c i = ltr M c i)
theorem in_new {t : mt} {M : mm} {c n k q : Nat} (hB : sbB t M c n k) (hk : k ≤ 60) (hz : gI M 1101 c = 0) (hq0 : (t q).1 = 0) : inR t M c k (m1 t q (23, 2 * n), sI (sN (infM (m1 t q (23, 2 * n)) (wI M q (fun _ => 0)) (gN M 1100 c) q k) 1100 c q) 1101 c (1 : Int32)) := by
  have hn := hB.2.2.2 hz
  have hkn : k ≤ n := by
    rcases hB.1.2.2.2.2 with ⟨g1, g2⟩ | ⟨g1, g2⟩
    · exact g2
    · rw [hz] at g1; exact absurd g1 (by decide)
  have hne : ∀ a, (t a).1 ≠ 0 → a ≠ q := fun a ha e => ha (by rw [e]; exact hq0)
  have haq : gN M 1100 c ≠ q := ne_new hq0 hB.1.2.1
  obtain ⟨f, e1, e2, e3⟩ := infM_sp (m1 t q (23, 2 * n)) (wI M q (fun _ => 0)) haq k (by omega)
  rw [wI_wI] at e1
  rw [aI_wIn M _ haq] at e2
  have e3 := e3 (2 * n) (fun j hj => by rw [aI_wI]; rfl)
  rw [e1]
  have eN : gN (sI (sN (wI M q f) 1100 c q) 1101 c (1 : Int32)) 1100 c = q := m2_at _ _ _ _
  have eA : aI (sI (sN (wI M q f) 1100 c q) 1101 c (1 : Int32)) q = f := m1_at _ _ _
  have eZ : gI (sI (sN (wI M q f) 1100 c q) 1101 c (1 : Int32)) 1101 c = 1 := m2_at _ _ _ _
  have eC : gI (sI (sN (wI M q f) 1100 c q) 1101 c (1 : Int32)) 1103 c = gI M 1103 c := gI_sI_f (sN (wI M q f) 1100 c q) c c (1 : Int32) (show (1103 : Nat) ≠ 1101 by decide)
  refine ⟨fun a ha => m1_ne t _ (hne a ha), fun b hb hbc => ((smC.wI _ (hne b hb)).tr (smC.sN _ hbc)).tr (smC.sI _ hbc), by rw [eN]; exact hq0, eZ, 2 * n, ⟨⟨push_at hq0 hB.1.1, by rw [eN]; exact m1_at _ _ _, by omega, by rw [eC]; exact hB.1.2.2.2.1, .inr ⟨eZ, by omega⟩⟩, by rw [eN]; intro i hi; rw [eA]; exact e3 i hi, by omega, fun h9 => (by rw [eZ] at h9; exact absurd h9 (by decide))⟩, fun n9 h9 => ?_, fun i hi => ?_⟩
  · have := hB.1.2.1.symm.trans h9.1.2.1
    injection this with _ h8
    rw [h8]
  · unfold ltr
    rw [eZ, eN, eA, if_neg (by decide), if_pos hz]
    exact e2 i hi
theorem sb_kn {t : mt} {M : mm} {c n k : Nat} (hB : sbB t M c n k) (hz : gI M 1101 c = 0) : k ≤ n := by
  rcases hB.1.2.2.2.2 with ⟨g1, g2⟩ | ⟨g1, g2⟩
  · exact g2
  · rw [hz] at g1; exact absurd g1 (by decide)
set_option maxHeartbeats 4000000 in
theorem cmJ2_inflate (l : Launch) (E : mE) (t : mt) (M : mm) (c n k : Nat) (hB : sbB t M c n k) (hk : k ≤ 60) (hz : gI M 1101 c = 0) : Met l yJ2_inflate (ws_ yJ2_inflate cJ2_inflate 2 none) ({ frames := 5, cells := 1, slots := 500, locals := 116 }) (va_Pc [.ref c] (wP E t M)) (va_Qv (fun (S : mt × mm) => inR t M c k S) (fun S U => mw E S.1 S.2 U.heap) (eA E)) 1 500 (eA E) := by
  refine Met.ofW (cc := cJ2_inflate) (maxL := 2) (ret := none) (by decide) rfl ?_
  intro p e s m args below meth c0 s₁ B hml hv
  obtain ⟨rfl, hs, hm⟩ := hv
  have hx := B.exec
  have hb := B.bytes
  have hr := B.returns
  have hts := atoms_spec (ws := ws_ yJ2_inflate cJ2_inflate 2 none) B.pre
  have hts : ∀ w ∈ lw_all, w.before _ s = true := fun w h => hts w (List.mem_cons_of_mem _ h)
  have hown : s.vm.findClass RJ2 = some m.cls := findClass_of_methodNamed B.named
  have hlocks := B.notSynchronized
  have hS : va_S (eA E) s.heap s.heap [] := va_S.rf
  have hl := lv_entry ([.ref c]) (n := 2) (Nat.le_of_ble_eq_true rfl)
  rw [lg_entry_eq]
  generalize (lg_sl ([.ref c]) ++ List.replicate (2 - (lg_sl ([.ref c])).length) Slot.unset).toArray = ls at hl ⊢
  have hl : lv_has ls 2 [(0, .ref (c))] := hl
  refine lv_aload_n hx hb dJ2_inflate_0 rfl (lv_at hl 0 rfl) ?_
  refine k_calli (va_runU (As := []) (rest := []) ⟨hx, hb, hml, hown, hts⟩ (cmJ2_isLatin1 l E t M  (c)  hB.1.1 ) (va_cwU 0 hts (lw_U q1296 q1298 q1299 q1297 q68 q1300) rfl rfl rfl rfl (by decide +kernel) ⟨Nat.le_of_ble_eq_true rfl, Nat.le_of_ble_eq_true rfl⟩) (k_preV hs hm hS (mw.recv hs hm (mt_ne hB.1.1 (by decide)) (ct11 hB.1.1) rfl)) rfl rfl hl.1 rfl (lv_room (Nat.le_of_ble_eq_true rfl)) dJ2_inflate_1 ⟨Nat.le_of_ble_eq_true rfl, Nat.le_of_ble_eq_true rfl⟩) hS (fun r_1 u_1 H locs hw_1 hm_1 hS => ?_)
  obtain ⟨hr_1, hu_1⟩ := hw_1
  replace hu_1 := hu_1.symm
  subst hu_1
  have hm := hm_1
  refine lv_if_ne (tgt := 8) hx hb dJ2_inflate_4 (by decide) (fun c_2 => ?_) (fun c_2 => (isl_1 hr_1 c_2 hz).elim)
  refine lv_aload_n hx hb dJ2_inflate_8 rfl (lv_at hl 0 rfl) ?_
  refine gf_1100 hx hb hts hown hs hm hB.1.1 (hts _ q345) dJ2_inflate_9 ?_
  refine k_alen (j := 3) (v := (nI n)) hx hb hs hm hB.1.2.1 (by decide) rfl rfl rfl dJ2_inflate_12 ?_
  refine k_callr (B := fun (_ : Unit) r H => (t r).1 = 0 ∧ mw E (m1 t r (23, 2 * n)) (wI M r (fun _ => 0)) H) (va_runS (As := [.int ((nI n))]) (rest := []) ⟨hx, hb, hml, hown, hts⟩ (cmJ5_newBytesFor l E t M (nI n) n rfl (hB.2.2.2 hz)) (va_cwS 1 hts (lw_S q338 q339 q71 q340) rfl rfl rfl (by decide +kernel) ⟨Nat.le_of_ble_eq_true rfl, Nat.le_of_ble_eq_true rfl⟩) (k_preS hs hm hS) rfl rfl hl.1 rfl (lv_room (Nat.le_of_ble_eq_true rfl)) dJ2_inflate_13 ⟨Nat.le_of_ble_eq_true rfl, Nat.le_of_ble_eq_true rfl⟩) hS (fun q_3 _ H locs _ hB_3 hS => ?_)
  obtain ⟨hq0_3, hm⟩ := hB_3
  refine lv_astore_n (lv' := [(1, _), (0, _)]) hx hb dJ2_inflate_16 rfl hl (by decide) rfl (fun ls hl => ?_)
  refine lv_aload_n hx hb dJ2_inflate_17 rfl (lv_at hl 1 rfl) ?_
  refine gf_1100 hx hb hts hown hs hm (push_at hq0_3 hB.1.1) (hts _ q345) dJ2_inflate_18 ?_
  refine lv_iconst (v := (0 : Int32)) hx hb dJ2_inflate_21 (by decide) ?_
  refine lv_aload_n hx hb dJ2_inflate_22 rfl (lv_at hl 0 rfl) ?_
  refine lv_iconst (v := (0 : Int32)) hx hb dJ2_inflate_23 (by decide) ?_
  refine lv_aload_n hx hb dJ2_inflate_24 rfl (lv_at hl 1 rfl) ?_
  refine gf_1103 hx hb hts hown hs hm (push_at hq0_3 hB.1.1) (hts _ q349) dJ2_inflate_25 ?_
  rw [show gI (wI M q_3 (fun _ => 0)) 1103 c = nI k from hB.1.2.2.2.1]
  refine k_callv (va_runS (As := [.ref ((gN M 1100 c)), .int ((0 : Int32)), .ref (q_3), .int ((0 : Int32)), .int ((nI k))]) (rest := []) ⟨hx, hb, hml, hown, hts⟩ (cmJ20_inflate l E (m1 t q_3 (23, 2 * n)) (wI M q_3 (fun _ => 0)) (gN M 1100 c) q_3 n (2 * n) k (push_at hq0_3 hB.1.2.1) (m1_at _ _ _) (by have := hB.2.2.1; omega) (by have := hB.2.2.1; omega) (sb_kn hB hz) (by have := sb_kn hB hz; omega)) (va_cwS 5 hts (lw_S q1308 q1309 q91 q1310) rfl rfl rfl (by decide +kernel) ⟨Nat.le_of_ble_eq_true rfl, Nat.le_of_ble_eq_true rfl⟩) (k_preS hs hm hS) rfl rfl hl.1 rfl (lv_room (Nat.le_of_ble_eq_true rfl)) dJ2_inflate_28 ⟨Nat.le_of_ble_eq_true rfl, Nat.le_of_ble_eq_true rfl⟩) hS (fun u_4 H locs hu_4 hm hS => ?_)
  rw [hu_4] at hm
  refine lv_aload_n hx hb dJ2_inflate_31 rfl (lv_at hl 1 rfl) ?_
  refine lv_aload_n hx hb dJ2_inflate_32 rfl (lv_at hl 0 rfl) ?_
  refine pf_1100 hx hb hts hown hs hm hS (push_at hq0_3 hB.1.1) (hts _ q345) dJ2_inflate_33 (fun H locs hm hS => ?_)
  have hm : mw E (m1 t q_3 (23, 2 * n)) ((sN (infM (m1 t q_3 (23, 2 * n)) (wI M q_3 (fun _ => 0)) (gN M 1100 c) q_3 k) 1100 c q_3)) H := hm
  refine lv_aload_n hx hb dJ2_inflate_36 rfl (lv_at hl 1 rfl) ?_
  refine lv_iconst (v := (1 : Int32)) hx hb dJ2_inflate_37 (by decide) ?_
  refine pf_1101 hx hb hts hown hs hm hS (push_at hq0_3 hB.1.1) (hts _ q346) rfl rfl dJ2_inflate_38 (fun H locs hm hS => ?_)
  have hm : mw E (m1 t q_3 (23, 2 * n)) ((sI (sN (infM (m1 t q_3 (23, 2 * n)) (wI M q_3 (fun _ => 0)) (gN M 1100 c) q_3 k) 1100 c q_3) 1101 c (1 : Int32))) H := hm
  refine W.widen (k := 1) (n := 500) (Nat.le_of_ble_eq_true rfl) (Nat.le_of_ble_eq_true rfl) ?_
  subst hr_1
  exact W.vret hx hb hr (fun t9 ht9 _ => ⟨⟨((m1 t q_3 (23, 2 * n)), (sI (sN (infM (m1 t q_3 (23, 2 * n)) (wI M q_3 (fun _ => 0)) (gN M 1100 c) q_3 k) 1100 c q_3) 1101 c (1 : Int32))), rfl, in_new hB hk hz hq0_3, hb9 (B := fun H9 => mw E _ _ H9) ht9 hm⟩, hS.F ht9⟩) hS.2.2 dJ2_inflate_41
