set_option maxRecDepth 100000
/-! plain facts: ints in a range, places in arrays -/
theorem pp {α β : Type} {x : α × β} {r : α} {u : β} (h : x = (r, u)) : r = x.1 ∧ u = x.2 := by subst h; exact ⟨rfl, rfl⟩
theorem hb9 {B : Heap → Prop} {t : State} {H : Heap} (h : t.heap = H) (hB : B H) : B t.heap := h ▸ hB
def hEq (H0 H : Heap) : Prop := H = H0
theorem i_lt (a b : Int32) : a < b ↔ a.toInt < b.toInt := Int32.lt_iff_toInt_lt
theorem i_le (a b : Int32) : a ≤ b ↔ a.toInt ≤ b.toInt := Int32.le_iff_toInt_le
theorem i_eq (a b : Int32) : a = b ↔ a.toInt = b.toInt := Int32.toInt_inj.symm
/-- x is one of 0 .. B - 1 -/
def ix (B : Nat) (x : Int32) : Prop := ∃ k : Nat, k < B ∧ x = nI k
theorem ix.lit {B k : Nat} (h : k < B) : ix B (nI k) := ⟨k, h, rfl⟩
theorem ix.mono {B C : Nat} {x : Int32} (h : ix B x) (hBC : B ≤ C) : ix C x := by
  obtain ⟨k, h1, h2⟩ := h
  exact ⟨k, by omega, h2⟩
theorem ix.at {B : Nat} {x : Int32} (h : ix B x) (hB : B ≤ 2 ^ 30) : vp_in x B := by
  obtain ⟨k, h1, rfl⟩ := h
  exact vp_in_nI h1 (by omega)
/-- a place behind a start -/
theorem ix.add {B : Nat} {x : Int32} (K n : Nat) (h : ix B x) (hn : K + B ≤ n) (hN : n ≤ 2 ^ 30) : vp_in (nI K + x) n := by
  obtain ⟨k, h1, rfl⟩ := h
  rw [nI_add]
  exact vp_in_nI (by omega) (by omega)
theorem ix.nat {B : Nat} {x : Int32} (h : ix B x) (hB : B ≤ 2 ^ 30) : x.toNatClampNeg < B ∧ x = nI x.toNatClampNeg := by
  obtain ⟨k, h1, rfl⟩ := h
  have : (nI k).toNatClampNeg = k := nI_clamp (by omega)
  rw [this]
  exact ⟨h1, rfl⟩
theorem ix.of {B : Nat} {x hi : Int32} (h0 : ¬ x < 0) (h1 : ¬ hi < x) (hh : hi.toInt < B) (hB : B ≤ 2 ^ 30) : ix B x := by
  obtain ⟨j, hj, rfl⟩ := nI_of h0
  rw [i_lt, nI_toInt hj] at h1
  exact ⟨j, by omega, rfl⟩
theorem ix.pred {B : Nat} {n : Int32} (h : ix (B + 1) n) (hB : B ≤ 2 ^ 30) : (n - 1).toInt < B := by
  obtain ⟨k, h1, rfl⟩ := h
  cases k with
  | zero =>
    have : (nI 0 - 1 : Int32).toInt = -1 := by decide
    omega
  | succ k =>
    rw [nI_pred, nI_toInt (by omega)]
    omega
theorem ix.toInt {B : Nat} {x : Int32} (h : ix B x) (hB : B ≤ 2 ^ 30) : 0 ≤ x.toInt ∧ x.toInt < B := by
  obtain ⟨k, h1, rfl⟩ := h
  rw [nI_toInt (by omega)]
  omega
theorem vi (k : Nat) {n : Nat} (h : k < n) (hn : n ≤ 2 ^ 30) : vp_in (nI k) n := vp_in_nI h (by omega)
/-- outside of a switch's cases -/
theorem sw_out (x : Int32) (n : Nat) (hn : n ≤ 2 ^ 20) (h : ∀ k, k < n → ¬ x = nI k) {hi : Int} (hh : hi = (n : Int) - 1) : x.toInt < 0 ∨ hi < x.toInt := by
  by_cases h0 : x < 0
  · left
    rw [i_lt] at h0
    exact h0
  · right
    obtain ⟨j, hj, rfl⟩ := nI_of h0
    rw [nI_toInt hj]
    by_cases hjn : j < n
    · exact absurd rfl (h j hjn)
    · omega
theorem k_sw3 {x : Int32} (h0 : ¬ x = 0) (h1 : ¬ x = 1) (h2 : ¬ x = 2) : ∀ k, k < 3 → ¬ x = nI k := fun k hk => by
  match k, hk with
  | 0, _ => exact h0
  | 1, _ => exact h1
  | 2, _ => exact h2
theorem k_sw4 {x : Int32} (h0 : ¬ x = 0) (h1 : ¬ x = 1) (h2 : ¬ x = 2) (h3 : ¬ x = 3) : ∀ k, k < 4 → ¬ x = nI k := fun k hk => by
  match k, hk with
  | 0, _ => exact h0
  | 1, _ => exact h1
  | 2, _ => exact h2
  | 3, _ => exact h3
theorem k_sw5 {x : Int32} (h0 : ¬ x = 0) (h1 : ¬ x = 1) (h2 : ¬ x = 2) (h3 : ¬ x = 3) (h4 : ¬ x = 4) : ∀ k, k < 5 → ¬ x = nI k := fun k hk => by
  match k, hk with
  | 0, _ => exact h0
  | 1, _ => exact h1
  | 2, _ => exact h2
  | 3, _ => exact h3
  | 4, _ => exact h4
theorem k_sw15 {x : Int32} (h0 : ¬ x = 0) (h1 : ¬ x = 1) (h2 : ¬ x = 2) (h3 : ¬ x = 3) (h4 : ¬ x = 4) (h5 : ¬ x = 5) (h6 : ¬ x = 6) (h7 : ¬ x = 7) (h8 : ¬ x = 8) (h9 : ¬ x = 9) (h10 : ¬ x = 10) (h11 : ¬ x = 11) (h12 : ¬ x = 12) (h13 : ¬ x = 13) (h14 : ¬ x = 14) : ∀ k, k < 15 → ¬ x = nI k := fun k hk => by
  match k, hk with
  | 0, _ => exact h0
  | 1, _ => exact h1
  | 2, _ => exact h2
  | 3, _ => exact h3
  | 4, _ => exact h4
  | 5, _ => exact h5
  | 6, _ => exact h6
  | 7, _ => exact h7
  | 8, _ => exact h8
  | 9, _ => exact h9
  | 10, _ => exact h10
  | 11, _ => exact h11
  | 12, _ => exact h12
  | 13, _ => exact h13
  | 14, _ => exact h14
theorem lp_ge {k N : Nat} (hN : N < 2 ^ 31) (hk : k ≤ N) (c : nI N ≤ nI k) : k = N := by
  have := (nI_leI hN (by omega)).mp c
  omega
theorem lp_lt {k N : Nat} (hN : N < 2 ^ 31) (hk : k ≤ N) (c : ¬ nI N ≤ nI k) : k < N := by
  rcases Nat.lt_or_ge k N with h | h
  · exact h
  · exact absurd (nI_le h (by omega)) c
theorem cl_add {k : Nat} (K : Nat) (h : K + k < 2 ^ 31) : (nI K + nI k).toNatClampNeg = K + k := by rw [nI_add, nI_clamp h]
theorem cl_nI {k : Nat} (h : k < 2 ^ 31) : (nI k).toNatClampNeg = k := nI_clamp h
/-- how many plots are dug, of the first k -/
def cntD (g : Nat → Int32) : Nat → Int32
  | 0 => 0
  | k + 1 => cntD g k + (if g (15 + k) = -1 then 0 else 1)
/-- the first shed k ≥ that stands on p -/
def shedF (g : Nat → Int32) (p : Int32) : Nat → Nat → Int32
  | 0, _ => -1
  | n + 1, k => if g (81 + k) = p ∧ g (89 + k) = 1 then nI k else shedF g p n (k + 1)
/-- a contract by its walk, for a method of a class some of whose methods the machine runs by itself, if it isn't one of those -/
theorem k_ofW {l : Launch} {y : MethodName} {ws ws' : List Cond} {rm : Room} {Pc : Array Value → State → Prop} {Qc : Array Value → State → Outcome → State → Prop} {mc ms : Nat} {free : Addr → Prop} {cc : ByteArray} {maxL : Nat} {ret : Option FieldType} (hy : plainFor y = true) (hw : ws = Cond.code y cc maxL ret :: ws')
    (body : ∀ p e s m args below meth c s₁, BodyLoose p l y (headSpec ws rm) cc maxL ret e s m args below meth c s₁ → c.maxLocals = maxL → Pc args s → W p l e (headSpec ws rm).room s m args below meth c s.heap [] 0 0 (MQ below Qc args s mc ms free) (entryFrame m args maxL)) : Met l y ws rm Pc Qc mc ms free := by
  refine MetFree.of_bodySF (code := cc) (maxLocals := maxL) (ret := ret) hy (fun args s m h hn => ?_) (fun p e s m args below meth c s₁ B hml hP _ => ?_)
  · obtain ⟨meth, c, h1, h2, h3, h4, h5, h6, -, -⟩ := Cond.code_spec hn (atoms_spec (ws := ws) h _ (by rw [hw]; exact List.mem_cons_self))
    exact ⟨meth, c, h1, h2, h3, h4, h5, h6⟩
  · obtain ⟨t, a1, o, b1, b2, b3⟩ := body p e s m args below meth c s₁ B hml hP s₁ (by rw [B.state]; rfl) (Stand.of_body B)
    exact ⟨t, o, a1, b1, b2, b3⟩
