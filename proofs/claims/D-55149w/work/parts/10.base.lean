set_option maxRecDepth 100000
/-! OUR LAYER: memory as functions. A world is: which addresses hold what kind of cell (t), and maps of the values (M) -/
/-- int fields, float fields, reference fields that aren't null, reference fields, int arrays, float arrays, reference arrays -/
abbrev mm : Type := (Nat → Nat → Int32) × (Nat → Nat → UInt32) × (Nat → Nat → Nat) × (Nat → Nat → Option Nat) × (Nat → Nat → Int32) × (Nat → Nat → UInt32) × (Nat → Nat → Option Nat) × (Nat → Nat → Int64) × (Nat → Nat → UInt64)
abbrev mt : Type := Nat → Nat × Nat
/-- the classes' numbers, the array classes' numbers, which cells are ours -/
abbrev mE : Type := va_G × (Nat → ClassId) × (Nat → Prop)
def m2 {α : Type} (f : Nat → Nat → α) (x y : Nat) (v : α) : Nat → Nat → α := fun g b => bif Nat.beq g x && Nat.beq b y then v else f g b
def m1 {α : Type} (f : Nat → α) (x : Nat) (v : α) : Nat → α := fun g => bif Nat.beq g x then v else f g
def gI (M : mm) (f a : Nat) : Int32 := M.1 f a
def gF (M : mm) (f a : Nat) : UInt32 := M.2.1 f a
def gN (M : mm) (f a : Nat) : Nat := M.2.2.1 f a
def gR (M : mm) (f a : Nat) : Option Nat := M.2.2.2.1 f a
def aI (M : mm) (a : Nat) : Nat → Int32 := M.2.2.2.2.1 a
def aF (M : mm) (a : Nat) : Nat → UInt32 := M.2.2.2.2.2.1 a
def aR (M : mm) (a : Nat) : Nat → Option Nat := M.2.2.2.2.2.2.1 a
def aL (M : mm) (a : Nat) : Nat → Int64 := M.2.2.2.2.2.2.2.1 a
def aD (M : mm) (a : Nat) : Nat → UInt64 := M.2.2.2.2.2.2.2.2 a
def sI (M : mm) (f a : Nat) (v : Int32) : mm := (m2 M.1 f a v, M.2)
def sF (M : mm) (f a : Nat) (v : UInt32) : mm := (M.1, m2 M.2.1 f a v, M.2.2)
def sN (M : mm) (f a : Nat) (v : Nat) : mm := (M.1, M.2.1, m2 M.2.2.1 f a v, M.2.2.2)
def sR (M : mm) (f a : Nat) (v : Option Nat) : mm := (M.1, M.2.1, M.2.2.1, m2 M.2.2.2.1 f a v, M.2.2.2.2)
def wI (M : mm) (a : Nat) (g : Nat → Int32) : mm := (M.1, M.2.1, M.2.2.1, M.2.2.2.1, m1 M.2.2.2.2.1 a g, M.2.2.2.2.2)
def wF (M : mm) (a : Nat) (g : Nat → UInt32) : mm := (M.1, M.2.1, M.2.2.1, M.2.2.2.1, M.2.2.2.2.1, m1 M.2.2.2.2.2.1 a g, M.2.2.2.2.2.2)
def wR (M : mm) (a : Nat) (g : Nat → Option Nat) : mm := (M.1, M.2.1, M.2.2.1, M.2.2.2.1, M.2.2.2.2.1, M.2.2.2.2.2.1, m1 M.2.2.2.2.2.2.1 a g, M.2.2.2.2.2.2.2)
def wL (M : mm) (a : Nat) (g : Nat → Int64) : mm := (M.1, M.2.1, M.2.2.1, M.2.2.2.1, M.2.2.2.2.1, M.2.2.2.2.2.1, M.2.2.2.2.2.2.1, m1 M.2.2.2.2.2.2.2.1 a g, M.2.2.2.2.2.2.2.2)
def wD (M : mm) (a : Nat) (g : Nat → UInt64) : mm := (M.1, M.2.1, M.2.2.1, M.2.2.2.1, M.2.2.2.2.1, M.2.2.2.2.2.1, M.2.2.2.2.2.2.1, M.2.2.2.2.2.2.2.1, m1 M.2.2.2.2.2.2.2.2 a g)
theorem m2_at {α : Type} (f : Nat → Nat → α) (x y : Nat) (v : α) : m2 f x y v x y = v := by simp [m2]
theorem m2_ne {α : Type} (f : Nat → Nat → α) {x y g b : Nat} (v : α) (h : b ≠ y) : m2 f x y v g b = f g b := by
  have : Nat.beq b y = false := Bool.eq_false_iff.mpr (fun q => h (Nat.eq_of_beq_eq_true q))
  simp [m2, this]
theorem m2_nf {α : Type} (f : Nat → Nat → α) {x y g b : Nat} (v : α) (h : g ≠ x) : m2 f x y v g b = f g b := by
  have : Nat.beq g x = false := Bool.eq_false_iff.mpr (fun q => h (Nat.eq_of_beq_eq_true q))
  simp [m2, this]
theorem m1_at {α : Type} (f : Nat → α) (x : Nat) (v : α) : m1 f x v x = v := by simp [m1]
theorem m1_ne {α : Type} (f : Nat → α) {x g : Nat} (v : α) (h : g ≠ x) : m1 f x v g = f g := by
  have : Nat.beq g x = false := Bool.eq_false_iff.mpr (fun q => h (Nat.eq_of_beq_eq_true q))
  simp [m1, this]
/-- of an exception of the class's own: the fields that are its own -/
def TXR : u_T := fun k => match k with
  | 0 => ("CliffPlots$Refused", "reason", "I", true)
  | _ => ("CliffPlots$Refused", "detail", "I", true)
def TXF : u_T := fun _ => ("CliffPlots$Fault", "position", "I", true)
abbrev clA : List vw_C := [(RX1, TX1, 11), (RX2, TX2, 20), (RX4, TX4, 3), (RX5, TX5, 3), (RX6, TX6, 3), (RX7, TX7, 4), (RX8, TX8, 4), (RX9, TX9, 6), (RX10, TX10, 22), (RJ1, TJ1, 3), (RJ3, TJ3, 4), (RX11, TX11, 8), (RX12, TX12, 7), (RJ12, TJ12, 0), (RJ13, TJ13, 0), (RJ14, TJ14, 0), (RJ18, TJ18, 0), (RJ9, TJ9, 0), (RJ17, TJ17, 0), (RX11, TXR, 2), (RX12, TXF, 1)]
abbrev tyA (d : Nat → ClassId) : List (ClassId × FieldType) := [(d 0, .int), (d 1, .float), (d 2, .char), (d 3, .byte), (d 4, .object RX3), (d 5, .object RX4), (d 6, .object RX5), (d 7, .object RX6), (d 8, .object RX7), (d 9, .object RX8), (d 10, .object RJ25), (d 11, .long), (d 12, .double)]
/-- what a cell of a kind holds -/
def ct (E : mE) (t : mt) (M : mm) (a : Nat) : va_E := match (t a).1 with
  | 1 => .inr (0, [.ref (a + 1), .ref (a + 65), .ref (a + 129), .int (gI M 103 a), .ref (a + 193), .ref (a + 195), .ref (a + 197), .ref (a + 199), .int (gI M 108 a), .int (gI M 109 a), .int (gI M 110 a)])
  | 2 => .inr (1, [.ref (a + 1), .ref (a + 2), .ref (a + 3), .ref (a + 4), .ref (a + 5), .ref (a + 6), .ref (a + 7), .ref (a + 8), .ref (a + 9), .ref (a + 10), .ref (a + 11), .int (gI M 211 a), .int (gI M 212 a), .int (gI M 213 a), .int (gI M 214 a), .int (gI M 215 a), .int (gI M 216 a), .int (gI M 217 a), .int (gI M 218 a), .int (gI M 219 a)])
  | 3 => .inr (2, [.int (gI M 300 a), .float (gF M 301 a), .int (gI M 302 a)])
  | 4 => .inr (3, [.int (gI M 300 a), .float (gF M 301 a), .int (gI M 302 a)])
  | 5 => .inr (4, [.int (gI M 500 a), .int (gI M 501 a), .int (gI M 502 a)])
  | 6 => .inr (5, [.int (gI M 600 a), .int (gI M 601 a), .int (gI M 602 a), .float (gF M 603 a)])
  | 7 => .inr (6, [.int (gI M 700 a), .int (gI M 701 a), .float (gF M 702 a), .int (gI M 703 a)])
  | 8 => .inr (7, [.ref (a - 2), .int (gI M 801 a), .int (gI M 802 a), .ref (a + 1), .ref (a + 2), .ref (a + 3)])
  | 9 => .inr (19, [.int (gI M 900 a), .int (gI M 901 a)])
  | 12 => .inr (20, [.int (gI M 1200 a)])
  | 60 => .inl (E.2.1 11, (t a).2, .inr (.inl (aL M a)))
  | 61 => .inl (E.2.1 12, (t a).2, .inr (.inr (.inr (.inl (aD M a)))))
  | 10 => .inr (9, [.ref (a + 1), .int (gI M 1001 a), .int (gI M 1002 a)])
  | 11 => .inr (10, [.ref (gN M 1100 a), .int (gI M 1101 a), .int (gI M 1102 a), .int (gI M 1103 a)])
  | 20 => .inl (E.2.1 0, (t a).2, .inl (aI M a))
  | 21 => .inl (E.2.1 1, (t a).2, .inr (.inr (.inl (aF M a))))
  | 22 => .inl (E.2.1 2, (t a).2, .inl (aI M a))
  | 23 => .inl (E.2.1 3, (t a).2, .inl (aI M a))
  | 24 => .inl (E.2.1 4, (t a).2, .inr (.inr (.inr (.inr (aR M a)))))
  | 25 => .inl (E.2.1 5, (t a).2, .inr (.inr (.inr (.inr (aR M a)))))
  | 26 => .inl (E.2.1 6, (t a).2, .inr (.inr (.inr (.inr (aR M a)))))
  | 27 => .inl (E.2.1 7, (t a).2, .inr (.inr (.inr (.inr (fun k => some (a + 39 + k))))))
  | 28 => .inl (E.2.1 8, (t a).2, .inr (.inr (.inr (.inr (fun k => some (a + 44 + k))))))
  | 29 => .inl (E.2.1 9, (t a).2, .inr (.inr (.inr (.inr (aR M a)))))
  | 30 => .inl (E.2.1 10, (t a).2, .inr (.inr (.inr (.inr (aR M a)))))
  | 31 => .inl (E.2.1 4, (t a).2, .inr (.inr (.inr (.inr (fun k => some (a + 7 + 2 * k))))))
  | 33 => .inl (E.2.1 7, (t a).2, .inr (.inr (.inr (.inr (aR M a)))))
  | 34 => .inl (E.2.1 8, (t a).2, .inr (.inr (.inr (.inr (aR M a)))))
  | 41 => .inr (0, [va_rf (gR M 100 a), va_rf (gR M 101 a), va_rf (gR M 102 a), .int (gI M 103 a), va_rf (gR M 104 a), va_rf (gR M 105 a), va_rf (gR M 106 a), va_rf (gR M 107 a), .int (gI M 108 a), .int (gI M 109 a), .int (gI M 110 a)])
  | 42 => .inr (1, [va_rf (gR M 200 a), va_rf (gR M 201 a), va_rf (gR M 202 a), va_rf (gR M 203 a), va_rf (gR M 204 a), va_rf (gR M 205 a), va_rf (gR M 206 a), va_rf (gR M 207 a), va_rf (gR M 208 a), va_rf (gR M 209 a), va_rf (gR M 210 a), .int (gI M 211 a), .int (gI M 212 a), .int (gI M 213 a), .int (gI M 214 a), .int (gI M 215 a), .int (gI M 216 a), .int (gI M 217 a), .int (gI M 218 a), .int (gI M 219 a)])
  | 48 => .inr (7, [va_rf (gR M 800 a), .int (gI M 801 a), .int (gI M 802 a), va_rf (gR M 803 a), va_rf (gR M 804 a), va_rf (gR M 805 a)])
  | 50 => .inr (9, [va_rf (gR M 1000 a), .int (gI M 1001 a), .int (gI M 1002 a)])
  | 51 => .inr (10, [va_rf (gR M 1100 a), .int (gI M 1101 a), .int (gI M 1102 a), .int (gI M 1103 a)])
  | _ => .inl (0, 0, .inl fun _ => 0)
/-- which cells may change: all that are ours -/
def eA (E : mE) : Nat → Prop := E.2.2
/-- the memory: every address of a kind is a cell of ours with what M says -/
def mw (E : mE) (t : mt) (M : mm) (H : Heap) : Prop := ∃ L : List Nat, (∀ a, (t a).1 ≠ 0 → a ∈ L) ∧ va_P E.1 clA (va_pl L (ct E t M)) H ∧ va_D (eA E) (va_pl L (ct E t M))
/-- the words of the tables that don't ride in the lists -/
def nwb : Cond → Bool
  | .fieldLinkNest .. => true
  | .methodLinkNest .. => true
  | .castable .. => true
  | .declares .. => true
  | .privateMethod .. => true
  | .arrayOver (.object _) => true
  | _ => false
def nP (U : State) : Prop := ∀ w ∈ lw_tbl, nwb w = true → va_Nw w U
theorem nP.moved {s U : State} (h : nP s) (hW : s.WarmedH U.vm) : nP U := by
  intro w hw hb
  have hz := h w hw hb
  cases w with
  | fieldLinkNest a b c d e f => exact va_Nw.warmF hW hz
  | methodLinkNest a b c d => exact va_Nw.warmM hW hz
  | castable a b => exact va_Nw.warmC hW hz
  | declares a => exact va_Nw.warmD hW hz
  | privateMethod a => exact va_tabs rfl (rfl : (s.setVm U.vm).vm = U.vm) (by rw [Cond.privateMethod_setVm hW.alike]; exact hz)
  | arrayOver ty =>
    cases ty with
    | object C => exact va_AO.moved hW.alike hz
    | _ => cases hb
  | _ => cases hb
theorem nP.at {U : State} {w : Cond} {A : Array Value} (h : nP U) (hw : w ∈ lw_tbl) (hb : nwb w = true) (ho : w.onTables = true) : w.before A U = true := va_Nw.use ho (h w hw hb)
/-- static fields that are read, with their values -/
def stL : List (String × String × String × Value) := [("java/lang/Math", "negativeZeroFloatBits", "J", .long (-2147483648)), ("java/lang/String", "COMPACT_STRINGS", "Z", .int 1), ("java/lang/StringUTF16", "$assertionsDisabled", "Z", .int 1), ("java/lang/StringUTF16", "HI_BYTE_SHIFT", "I", .int 0), ("java/lang/StringUTF16", "LO_BYTE_SHIFT", "I", .int 8)]
/-- classes that aren't one another's -/
def exL : List String := ["java/lang/IllegalArgumentException", "java/lang/UnsupportedOperationException", "java/lang/IndexOutOfBoundsException", "java/util/NoSuchElementException", "java/lang/IllegalStateException"]
def ncL : List (String × String) := exL.flatMap (fun a => (exL.filter (fun b => a != b)).map (fun b => (a, b))) ++ [("java/lang/IllegalArgumentException", "CliffPlots$Refused"), ("CliffPlots$Bean", "CliffPlots$Marrow"), ("CliffPlots$Marrow", "CliffPlots$Bean")]
def ncP (U : State) : Prop := ∀ q ∈ ncL, va_Nc q.1 q.2 U
def stP (A : Nat → Prop) (U : State) (H : Heap) : Prop := (∀ q ∈ stL, va_Z q.1 q.2.1 q.2.2.1 q.2.2.2 A U H) ∧ va_Zq "jdk/internal/util/Preconditions" "SIOOBE_FORMATTER" "Ljava/util/function/BiFunction;" A U H ∧ ncP U
/-- what stands all through a run -/
def sP (E : mE) (U : State) : Prop := (∀ q, U.heap.size ≤ q → eA E q) ∧ va_K E.1 clA (tyA E.2.1) U ∧ nP U ∧ vx_Zq Bundle.tN "UNASSIGNED_STACK" Bundle.steD (eA E) U U.heap ∧ vx_Zq Bundle.tN "SUPPRESSED_SENTINEL" Bundle.listD (eA E) U U.heap ∧ stP (eA E) U U.heap
theorem sP.moved {E : mE} {s U : State} {H : Heap} {locs : List Loc} (h : sP E s) (hS : va_S (eA E) s.heap H locs) (hU : U.heap = H) (hW : s.WarmedH U.vm) : sP E U := by
  obtain ⟨h1, h2, h3, h4, h5, h6, h7⟩ := h
  subst hU
  exact ⟨fun q hq => h1 q (Nat.le_trans hS.1 hq), va_K.moved hW.alike h2, h3.moved hW, vx_Zq.moved hW.alike (h4.kept hS.2.1), vx_Zq.moved hW.alike (h5.kept hS.2.1), fun q hq => va_Z.moved hW.alike ((h6 q hq).kept hS.2.1), va_Zq.moved hW.alike (h7.1.kept hS.2.1), fun q hq => va_Nc.moved hW.alike (h7.2 q hq)⟩
theorem nP.calls {U : State} {g : JFrame} {mk : MethodId} {a : Array Value} (h : nP U) : nP (U.calling g mk a) := by
  intro w hw hb
  have hz := h w hw hb
  cases w with
  | fieldLinkNest a b c d e f => exact va_Nw.same (u := U) rfl rfl hz
  | methodLinkNest a b c d => exact va_Nw.same (u := U) rfl rfl hz
  | castable a b => exact va_Nw.same (u := U) rfl rfl hz
  | declares a => exact va_Nw.same (u := U) rfl rfl hz
  | privateMethod a => exact va_Nw.same (u := U) rfl rfl hz
  | arrayOver ty =>
    cases ty with
    | object C => exact va_AO.moved (u := U) (Vm.Alike.refl U.vm) hz
    | _ => cases hb
  | _ => cases hb
theorem sP.calls {E : mE} {U : State} {g : JFrame} {mk : MethodId} {a : Array Value} (h : sP E U) : sP E (U.calling g mk a) := by
  obtain ⟨h1, h2, h3, h4, h5, h6, h7⟩ := h
  have hA : U.vm.Alike (U.calling g mk a).vm := Vm.Alike.refl U.vm
  exact ⟨h1, va_K.moved hA h2, h3.calls, vx_Zq.moved hA h4, vx_Zq.moved hA h5, fun q hq => va_Z.moved hA (h6 q hq), va_Zq.moved hA h7.1, fun q hq => va_Nc.moved hA (h7.2 q hq)⟩
/-- a method's start: its arguments, and the world -/
def wP (E : mE) (t : mt) (M : mm) (U : State) : Prop := sP E U ∧ mw E t M U.heap
theorem wP.blind {E : mE} {t : mt} {M : mm} {av : List Value} : FrameBlind (va_Pc av (wP E t M)) := fun _ _ _ _ q => ⟨q.1, q.2.1.calls, q.2.2⟩
theorem eA.all {E : mE} {s : State} (h : sP E s) : ∀ q, s.heap.size ≤ q → eA E q := h.1
theorem mw.one {E : mE} {t : mt} {M : mm} {H : Heap} (h : mw E t M H) {a : Nat} (ha : (t a).1 ≠ 0) : va_at E.1 clA (a, ct E t M a) H := by
  obtain ⟨L, h1, h2, h3⟩ := h
  obtain ⟨k, hk⟩ := List.getElem?_of_mem (show (a, ct E t M a) ∈ va_pl L (ct E t M) from List.mem_map.mpr ⟨a, h1 a ha, rfl⟩)
  exact h2 k _ hk
theorem mw.lt {E : mE} {t : mt} {M : mm} {H : Heap} (h : mw E t M H) {a : Nat} (ha : (t a).1 ≠ 0) : a < H.size := (h.one ha).lt
theorem mw.recv {E : mE} {t : mt} {M : mm} {H : Heap} {s : State} {ci : Nat} {fs : List Value} {q : vw_C} (hs : sP E s) (h : mw E t M H) {a : Nat} (ha : (t a).1 ≠ 0) (hc : ct E t M a = .inr (ci, fs)) (hq : clA[ci]? = some q) : ∃ cell : Cell, H[a]? = some cell ∧ cell.vm.isStatics = false ∧ s.vm.findClass q.1 = some cell.cls := by
  have h1 := h.one ha
  rw [hc] at h1
  exact va_recv (ws := [(a, .inr (ci, fs))]) (q0 := 0) hs.2.1 (fun k x hk => by
    match k, hk with
    | 0, hk => cases hk; exact h1
    | k + 1, hk => simp at hk) hq rfl
/-- the memory with another M that differs at one address alone -/
theorem mw.to {E : mE} {t : mt} {M M1 : mm} {H1 : Heap} {L : List Nat} {a : Nat} {e : va_E} (hL : ∀ a, (t a).1 ≠ 0 → a ∈ L) (hM : ∀ b, ct E t M1 b = va_up (ct E t M) a e b) (h1 : va_P E.1 clA (va_pl L (va_up (ct E t M) a e)) H1) (h2 : va_D (eA E) (va_pl L (va_up (ct E t M) a e))) : mw E t M1 H1 := by
  have e1 : ct E t M1 = va_up (ct E t M) a e := funext hM
  exact ⟨L, hL, by rw [e1]; exact h1, by rw [e1]; exact h2⟩
/-- a new cell -/
theorem mw.push {E : mE} {t t1 : mt} {M M1 : mm} {H H1 : Heap} {L : List Nat} {q : Nat} {e : va_E} (hq : q ∉ L) (hL : ∀ a, (t a).1 ≠ 0 → a ∈ L) (ht : ∀ b, b ≠ q → (t1 b).1 ≠ 0 → (t b).1 ≠ 0) (hM : ∀ b, b ≠ q → ct E t1 M1 b = ct E t M b) (he : ct E t1 M1 q = e) (h1 : va_P E.1 clA (va_pl L (ct E t M) ++ [(q, e)]) H1) (h2 : va_D (eA E) (va_pl L (ct E t M) ++ [(q, e)])) : mw E t1 M1 H1 := by
  have e1 : ct E t1 M1 = va_up (ct E t M) q e := by
    funext b
    by_cases hb : b = q
    · subst hb; rw [va_up_self, he]
    · rw [va_up_ne _ _ hb, hM b hb]
  rw [va_pl_push hq] at h1 h2
  refine ⟨L ++ [q], fun a ha => ?_, by rw [e1]; exact h1, by rw [e1]; exact h2⟩
  by_cases hb : a = q
  · subst hb; exact List.mem_append_right _ List.mem_cons_self
  · exact List.mem_append_left _ (hL a (ht a hb ha))
theorem ct_sI {E : mE} {t : mt} {M : mm} {f a b : Nat} {v : Int32} (h : b ≠ a) : ct E t (sI M f a v) b = ct E t M b := by
  unfold ct
  simp only [gI, gF, gN, gR, aI, aF, aR, aL, aD, sI, m2_ne _ _ h]
theorem ct_sF {E : mE} {t : mt} {M : mm} {f a b : Nat} {v : UInt32} (h : b ≠ a) : ct E t (sF M f a v) b = ct E t M b := by
  unfold ct
  simp only [gI, gF, gN, gR, aI, aF, aR, aL, aD, sF, m2_ne _ _ h]
theorem ct_sN {E : mE} {t : mt} {M : mm} {f a b : Nat} {v : Nat} (h : b ≠ a) : ct E t (sN M f a v) b = ct E t M b := by
  unfold ct
  simp only [gI, gF, gN, gR, aI, aF, aR, aL, aD, sN, m2_ne _ _ h]
theorem ct_sR {E : mE} {t : mt} {M : mm} {f a b : Nat} {v : Option Nat} (h : b ≠ a) : ct E t (sR M f a v) b = ct E t M b := by
  unfold ct
  simp only [gI, gF, gN, gR, aI, aF, aR, aL, aD, sR, m2_ne _ _ h]
theorem ct_wI {E : mE} {t : mt} {M : mm} {a b : Nat} {v : Nat → Int32} (h : b ≠ a) : ct E t (wI M a v) b = ct E t M b := by
  unfold ct
  simp only [gI, gF, gN, gR, aI, aF, aR, aL, aD, wI, m1_ne _ _ h]
theorem ct_wF {E : mE} {t : mt} {M : mm} {a b : Nat} {v : Nat → UInt32} (h : b ≠ a) : ct E t (wF M a v) b = ct E t M b := by
  unfold ct
  simp only [gI, gF, gN, gR, aI, aF, aR, aL, aD, wF, m1_ne _ _ h]
theorem ct_wR {E : mE} {t : mt} {M : mm} {a b : Nat} {v : Nat → Option Nat} (h : b ≠ a) : ct E t (wR M a v) b = ct E t M b := by
  unfold ct
  simp only [gI, gF, gN, gR, aI, aF, aR, aL, aD, wR, m1_ne _ _ h]
theorem ct_wL {E : mE} {t : mt} {M : mm} {a b : Nat} {v : Nat → Int64} (h : b ≠ a) : ct E t (wL M a v) b = ct E t M b := by
  unfold ct
  simp only [gI, gF, gN, gR, aI, aF, aR, aL, aD, wL, m1_ne _ _ h]
theorem ct_wD {E : mE} {t : mt} {M : mm} {a b : Nat} {v : Nat → UInt64} (h : b ≠ a) : ct E t (wD M a v) b = ct E t M b := by
  unfold ct
  simp only [gI, gF, gN, gR, aI, aF, aR, aL, aD, wD, m1_ne _ _ h]
