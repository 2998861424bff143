set_option maxRecDepth 100000
/-! CliffPlots.read -/
section KXP
variable {p : Program} {l : Launch} {e : Env} {R : Room} {s : State} {m : MethodId} {args : Array Value} {below : List Frame} {meth : Method} {c : Code} {H : Heap} {locs : List Loc} {cells slots : Nat} {Q : State → Prop}
variable {cc : ByteArray} {pc : Nat} {ls : Array Slot} {rest st0 : List Value} {E : mE} {t : mt} {M : mm} {mc ms mc0 ms0 : Nat} {av : Array Value}
variable {own host : String} {index a : Nat}
theorem gfN_802 (hexec : p.tables.exec = Jvm.exec) (hb : c.code = cc) (hts : ∀ w ∈ lw_all, w.before args s = true) (hown : s.vm.findClass own = some m.cls) (hs : sP E s) (hm : mw E t M H) (ht : t a = (8, 0)) (hlink : (Cond.fieldLinkNest own index "CliffPlots$Reader" "many" "I" host) ∈ lw_tbl) (hdg : decode cc pc = .ok (.getfield index, 3)) (kk : W p l e R s m args below meth c H locs cells slots Q (F0 m (pc + 3) ls (.int (gI M 802 a) :: rest))) : W p l e R s m args below meth c H locs cells slots Q (F0 m pc ls (.ref a :: rest)) := k_getN hexec hb hts in_X9 hown hs hm (mt_ne ht (by decide)) (ct8 ht) rfl 2 (by decide) hlink (fun _ h9 => h9) rfl hdg kk
variable {SX : Type} {px : SX → Prop} {BX : String → Addr → SX → Heap → Prop}
/-- a throw leaves the method past handlers that do not take it -/
theorem kx_outP {Qc : Array Value → State → Outcome → State → Prop} {En : String} {q : Addr} {ce : Cell} {u : SX} (hown : s.vm.findClass own = some m.cls) (hpass : ∀ z ∈ c.exceptionTable.toList, covers z pc = false ∨ (z.catchType ≠ 0 ∧ ∃ nm : String, (Cond.classLink own z.catchType nm).before args s = true ∧ va_Nc En nm s)) (hlocks : meth.locks = false) (hp : px u) (hB : BX En q u H) (hS : va_S (eA E) s.heap H locs) (h1 : H[q]? = some ce) (h2 : ce.vm = .none) (h3 : s.vm.findClass En = some ce.cls) (hc : cells ≤ mc0) (hs : slots ≤ ms0) : vx_W p l e R s m args below meth c H locs cells slots (vx_MQ below Qc (vx_X px (fun En q u U => BX En q u U.heap) (eA E)) args s mc0 ms0 (eA E)) (F0 m pc ls rest) q :=
  vx_outP hown hlocks hpass h1 h2 h3 (fun t9 ht9 _ => ⟨u, hp, (show BX En q u t9.heap from by rw [ht9]; exact hB), hS.F ht9⟩) hS.2.2 hc hs
theorem k_joinC {α : Type} {g0 : JFrame} (cs : Nat × Nat) (P : α → Heap → List Loc → Array Slot → Prop) (g : α → Array Slot → JFrame) (hJ : ∀ x H1 locs1 ls1, P x H1 locs1 ls1 → W p l e R s m args below meth c H1 locs1 cs.1 cs.2 Q (g x ls1)) (k : (∀ x H1 locs1 ls1, P x H1 locs1 ls1 → W p l e R s m args below meth c H1 locs1 cs.1 cs.2 Q (g x ls1)) → W p l e R s m args below meth c H locs cells slots Q g0) : W p l e R s m args below meth c H locs cells slots Q g0 := k hJ
end KXP
/-- the memory when the text has been read and cleared, and with the tried cliff laid on -/
def C1_rd1 (t : mt) (M : mm) (c : Nat) : mm := CJ3_setLength t (C1_rdA t M c) (c + 197) (0 : Int32)
def C1_rdT (t : mt) (M : mm) (c : Nat) : mm := (C1_tryOn t (C1_rd1 t M c) c).2
/-- orders from k on are done, f of them -/
def rdD (t : mt) (c : Nat) : Nat → Nat → mm → Int32 × Int32 × mm
  | 0, _, N => ((0 : Int32), (C1_becomes t N c (gI N 802 (c + 199))).1, (C1_becomes t N c (gI N 802 (c + 199))).2)
  | f + 1, k, N => if C9_isRight t N (c + 199) (c + 65) (nI k) = 0 then ((1 : Int32), (0 : Int32), N) else if (C9_does t N (c + 199) (c + 65) (nI k)).1 = 0 then rdD t c f (k + 1) (C9_does t N (c + 199) (c + 65) (nI k)).2.2.2 else ((2 : Int32), (0 : Int32), refM (C9_does t N (c + 199) (c + 65) (nI k)).2.2.2 c (C9_does t N (c + 199) (c + 65) (nI k)).1 (C9_does t N (c + 199) (c + 65) (nI k)).2.1)
  termination_by f => f
theorem rdD_0 (t : mt) (c k : Nat) (N : mm) : rdD t c 0 k N = ((0 : Int32), (C1_becomes t N c (gI N 802 (c + 199))).1, (C1_becomes t N c (gI N 802 (c + 199))).2) := by rw [rdD]
theorem rdD_s (t : mt) (c f k : Nat) (N : mm) : rdD t c (f + 1) k N = if C9_isRight t N (c + 199) (c + 65) (nI k) = 0 then ((1 : Int32), (0 : Int32), N) else if (C9_does t N (c + 199) (c + 65) (nI k)).1 = 0 then rdD t c f (k + 1) (C9_does t N (c + 199) (c + 65) (nI k)).2.2.2 else ((2 : Int32), (0 : Int32), refM (C9_does t N (c + 199) (c + 65) (nI k)).2.2.2 c (C9_does t N (c + 199) (c + 65) (nI k)).1 (C9_does t N (c + 199) (c + 65) (nI k)).2.1) := by rw [rdD]
def rdN (t : mt) (M : mm) (c : Nat) : Nat := (gI (C1_rdT t M c) 802 (c + 199)).toNatClampNeg
def C1_read (t : mt) (M : mm) (c : Nat) : Int32 × Int32 × mm := if gI (C1_rd1 t M c) 108 c = (-1 : Int32) then rdD t c (rdN t M c) 0 (C1_rdT t M c) else ((1 : Int32), (0 : Int32), C1_rd1 t M c)
section RD
variable {t : mt} {M N u : mm} {c n k y : Nat} {K S : List Nat} {r x : Int32} {X : Int32 × Int32 × mm}
theorem rd_sb9 (h : sbP t M (c + 197) n k) : sbP t (sI M 108 c (-1 : Int32)) (c + 199 - 2) n k := by
  rw [show c + 199 - 2 = c + 197 by omega]
  exact h.far ((far.rf c 1 M).sI (by omega)) (by omega)
theorem rd1_108 : gI (C1_rd1 t M c) 108 c = gI (C1_rdA t M c) 108 c := ((setL_far (t := t) (M := C1_rdA t M c) (c + 197) 0) c (by omega)).1 108
theorem rd_ok (hP : ¬ (C9_read t (sI M 108 c (-1 : Int32)) (c + 199)).1 = 0 → ¬ (C9_read t (sI M 108 c (-1 : Int32)) (c + 199)).2.1 = -1) (h : gI (C1_rd1 t M c) 108 c = -1) : (C9_read t (sI M 108 c (-1 : Int32)) (c + 199)).1 = 0 := by
  by_cases e : (C9_read t (sI M 108 c (-1 : Int32)) (c + 199)).1 = 0
  · exact e
  · exfalso
    rw [rd1_108, ← rdA_1 e, gI_sI_at] at h
    exact hP e h
theorem rdT_many (hw : wfA M c K S) (hB : sbP t M (c + 197) n k) (hk : k ≤ 60) (h0 : (C9_read t (sI M 108 c (-1 : Int32)) (c + 199)).1 = 0) : ix 61 (gI (C1_rdT t M c) 802 (c + 199)) := by
  have e1 : gI (C1_rdT t M c) 802 (c + 199) = gI (C1_rd1 t M c) 802 (c + 199) := ((tryOn_far (t := t) (setL_wf (t := t) (rdA_wf (t := t) hw) 0)) (c + 199) (by omega)).1 802
  have e2 : gI (C1_rd1 t M c) 802 (c + 199) = gI (C1_rdA t M c) 802 (c + 199) := ((setL_far (t := t) (M := C1_rdA t M c) (c + 197) 0) (c + 199) (by omega)).1 802
  rw [e1, e2, ← rdA_0 h0]
  exact read_many (rd_sb9 hB) hk h0
theorem rd_45 (hu : u = CJ3_setLength t (C1_rdA t M c) (c + 197) (0 : Int32)) (hx : x = if gI u 108 c = (-1 : Int32) then (1 : Int32) else (0 : Int32)) (hc : x = 0) : C1_read t M c = ((1 : Int32), (0 : Int32), u) := by
  have e : ¬ gI u 108 c = (-1 : Int32) := fun h9 => by rw [hx, if_pos h9] at hc; exact absurd hc (by decide)
  rw [hu] at e ⊢
  exact if_neg e
theorem rd_f9 (hu : u = CJ3_setLength t (C1_rdA t M c) (c + 197) (0 : Int32)) (hx : x = if gI u 108 c = (-1 : Int32) then (1 : Int32) else (0 : Int32)) (hc : ¬ x = 0) : gI (C1_rd1 t M c) 108 c = -1 := by
  by_cases h9 : gI u 108 c = (-1 : Int32)
  · rw [hu] at h9; exact h9
  · exact absurd (hx.trans (if_neg h9)) hc
theorem rd_go (h : gI (C1_rd1 t M c) 108 c = -1) : rdD t c (rdN t M c - 0) 0 (C1_rdT t M c) = C1_read t M c := (if_pos h).symm
theorem rd_s1 (hI : rdD t c (rdN t M c - y) y N = X) (hk : y < rdN t M c) (hr : r = C9_isRight t N (c + 199) (c + 65) (nI y)) (hc : r = 0) : X = ((1 : Int32), (0 : Int32), N) := by
  rw [← hI, show rdN t M c - y = (rdN t M c - (y + 1)) + 1 by omega, rdD_s, if_pos (by rw [← hr]; exact hc)]
theorem rd_s2 (hI : rdD t c (rdN t M c - y) y N = X) (hk : y < rdN t M c) (hr : r = C9_isRight t N (c + 199) (c + 65) (nI y)) (hc : ¬ r = 0) (hd : ¬ (C9_does t N (c + 199) (c + 65) (nI y)).1 = 0) : X = ((2 : Int32), (0 : Int32), refM (C9_does t N (c + 199) (c + 65) (nI y)).2.2.2 c (C9_does t N (c + 199) (c + 65) (nI y)).1 (C9_does t N (c + 199) (c + 65) (nI y)).2.1) := by
  rw [← hI, show rdN t M c - y = (rdN t M c - (y + 1)) + 1 by omega, rdD_s, if_neg (by rw [← hr]; exact hc), if_neg hd]
theorem rd_nx (hA : layA t c) (hI : rdD t c (rdN t M c - y) y N = X ∧ y ≤ rdN t M c ∧ wfK N (c + 65) ∧ far (c + 65) 64 (C1_rdT t M c) N) (hk : y < rdN t M c) (hr : r = C9_isRight t N (c + 199) (c + 65) (nI y)) (hc : ¬ r = 0) (hd : (C9_does t N (c + 199) (c + 65) (nI y)).1 = 0) (hu : u = (C9_does t N (c + 199) (c + 65) (nI y)).2.2.2) : rdD t c (rdN t M c - (y + 1)) (y + 1) u = X ∧ y + 1 ≤ rdN t M c ∧ wfK u (c + 65) ∧ far (c + 65) 64 (C1_rdT t M c) u := by
  have hi : ¬ C9_isRight t N (c + 199) (c + 65) (nI y) = 0 := by rw [← hr]; exact hc
  refine ⟨?_, hk, by rw [hu]; exact hI.2.2.1.does hA.c2 hi, by rw [hu]; exact hI.2.2.2.tr (far_does hI.2.2.1 hA.c2 hi)⟩
  rw [← hI.1, show rdN t M c - y = (rdN t M c - (y + 1)) + 1 by omega, rdD_s, if_neg hi, if_pos hd, ← hu]
theorem rd_endX (hI : rdD t c (rdN t M c - y) y N = X) (hk : y = rdN t M c) (hr : r = (C1_becomes t N c (gI N 802 (c + 199))).1) (hu : u = (C1_becomes t N c (gI N 802 (c + 199))).2) : X = ((0 : Int32), r, u) := by
  rw [← hI, hk, Nat.sub_self, rdD_0, hr, hu]
end RD
set_option maxHeartbeats 4000000 in
theorem cm1_read (l : Launch) (E : mE) (hl9 : l.stackTraces = false) (t : mt) (M : mm) (c : Nat)  (hA : layA t c) (K S : List Nat) (hw : wfA M c K S) (n k : Nat) (hB : sbP t M (c + 197) n k) (hk60 : k ≤ 60) (hP : ¬ (C9_read t (sI M 108 c (-1 : Int32)) (c + 199)).1 = 0 → ¬ (C9_read t (sI M 108 c (-1 : Int32)) (c + 199)).2.1 = -1) (hT : wfK (C1_rdT t M c) (c + 65)) : vx_Met l yX1_read (wsW_ yX1_read cX1_read 3 (some .int) [((5 : Nat), (12 : Nat), (15 : Nat), (310 : Nat)), ((53 : Nat), (100 : Nat), (103 : Nat), (7 : Nat))]) ({ frames := 12, cells := 4200, slots := 48000, locals := 243 }) (va_Pc [.ref c] (wP E t M)) (va_Qi (fun (r : Int32) (u : mm) => (C1_read t M c ).1 = 0 ∧ r = (C1_read t M c ).2.1 ∧ u = (C1_read t M c ).2.2) (fun u U => mw E t u U.heap) (eA E)) (vx_X (fun (u : mm) => ¬ (C1_read t M c ).1 = 0 ∧ u = (C1_read t M c ).2.2) (fun En q u U => XS E t (C1_read t M c ).1 En q u U.heap) (eA E)) 4200 48000 (eA E) := by
  refine vx_ofWH (cc := cX1_read) (maxL := 3) (ret := (some .int)) (hh := [((5 : Nat), (12 : Nat), (15 : Nat), (310 : Nat)), ((53 : Nat), (100 : Nat), (103 : Nat), (7 : Nat))]) (by decide) rfl ?_
  intro p e s m args below meth c0 s₁ B hml hv
  obtain ⟨rfl, hs, hm⟩ := hv
  have hx := B.exec
  have hb := B.bytes
  have hr := B.returns
  have hts := atoms_spec (ws := wsW_ yX1_read cX1_read 3 (some .int) [((5 : Nat), (12 : Nat), (15 : Nat), (310 : Nat)), ((53 : Nat), (100 : Nat), (103 : Nat), (7 : Nat))]) B.pre
  have hts : ∀ w ∈ lw_all, w.before _ s = true := fun w h => hts w (List.mem_cons_of_mem _ h)
  have hown : s.vm.findClass RX1 = some m.cls := findClass_of_methodNamed B.named
  have hlocks := B.notSynchronized
  have htab := vx_table (x := yX1_read) B (atoms_spec (ws := wsW_ yX1_read cX1_read 3 (some .int) [((5 : Nat), (12 : Nat), (15 : Nat), (310 : Nat)), ((53 : Nat), (100 : Nat), (103 : Nat), (7 : Nat))]) B.pre _ List.mem_cons_self)
  have hS : va_S (eA E) s.heap s.heap [] := va_S.rf
  have hl := lv_entry ([.ref c]) (n := 3) (Nat.le_of_ble_eq_true rfl)
  rw [lg_entry_eq]
  generalize (lg_sl ([.ref c]) ++ List.replicate (3 - (lg_sl ([.ref c])).length) Slot.unset).toArray = ls at hl ⊢
  have hl : lv_has ls 3 [(0, .ref (c))] := hl
  refine k_joinC (430, 3000) (fun (_ : Unit) H locs ls => mw E t ((C1_rdA t M c)) H ∧ va_S (eA E) s.heap H locs ∧ lv_has ls 3 [(0, .ref (c))]) (fun (_ : Unit) ls => F0 m 24 ls []) (fun _ H locs ls hJ => ?_) (fun J1 => ?_)
  · obtain ⟨hm, hS, hl⟩ := hJ
    refine lv_aload_n hx hb dX1_read_24 rfl (lv_at hl 0 rfl) ?_
    refine gf_106 hx hb hts hown hs hm hA.z (hts _ q525) dX1_read_25 ?_
    refine lv_iconst (v := (0 : Int32)) hx hb dX1_read_28 (by decide) ?_
    refine k_callv (va_runV (As := [.int ((0 : Int32))]) (rest := []) ⟨hx, hb, hml, hown, hts⟩ (cmJ3_setLength l E t (C1_rdA t M c)  ((c + 197)) ((0 : Int32)) hA.b n k (rdA_sb hB) rfl) (cwV 1 hts (lw_V q1422 q1423 q1424 q69 q1425) rfl rfl rfl (by decide +kernel) ⟨Nat.le_of_ble_eq_true rfl, Nat.le_of_ble_eq_true rfl⟩) (k_preV hs hm hS (mw.recv hs hm (mt_ne hA.b (by decide)) (ct11 hA.b) rfl)) rfl rfl hl.1 rfl (lv_room (Nat.le_of_ble_eq_true rfl)) dX1_read_29 ⟨Nat.le_of_ble_eq_true rfl, Nat.le_of_ble_eq_true rfl⟩) hS (fun u_2 H locs hw_2 hm_2 hS => ?_)
    have hu_2 := hw_2
    have hm := hm_2
    refine lv_aload_n hx hb dX1_read_32 rfl (lv_at hl 0 rfl) ?_
    refine gf_108 hx hb hts hown hs hm hA.z (hts _ q527) dX1_read_33 ?_
    refine lv_iconst (v := (-1 : Int32)) hx hb dX1_read_36 (by decide) ?_
    refine k_join (fun (x4 : Int32) H locs ls => x4 = (if (gI u_2 108 c) = (-1 : Int32) then (1 : Int32) else (0 : Int32)) ∧ mw E t (u_2) H ∧ va_S (eA E) s.heap H locs ∧ lv_has ls 3 [(0, .ref (c))]) (fun (x4 : Int32) ls => F0 m 45 ls [.int (x4)]) (fun x4 H locs ls hJ => ?_) (fun J4 => ?_)
    · obtain ⟨hX4, hm, hS, hl⟩ := hJ
      refine kx_callv (BX := fun En q u H => XS E t 1 En q u H) (vx_runS (As := [.int (x4)]) (rest := []) ⟨hx, hb, hml, hown, hts⟩ (cm1_check l E hl9 t u_2  (x4) ) (va_cwS 1 hts (lw_S q702 q703 q58 q704) rfl rfl rfl (by decide +kernel) ⟨Nat.le_of_ble_eq_true rfl, Nat.le_of_ble_eq_true rfl⟩) (k_preS hs hm hS) rfl rfl hl.1 rfl (lv_room (Nat.le_of_ble_eq_true rfl)) dX1_read_45 ⟨Nat.le_of_ble_eq_true rfl, Nat.le_of_ble_eq_true rfl⟩) hS (fun En_5 ce_5 q_5 u9_5 H locs hp_5 hB_5 hS h1_5 h2_5 h3_5 => ?_) (fun u_5 H locs hw_5 hm_5 hS => ?_)
      · obtain ⟨c_5, hu9_5⟩ := hp_5
        replace hu9_5 := hu9_5.symm
        subst hu9_5
        have e9 : C1_read t M c  = ((1 : Int32), (0 : Int32), u_2) := rd_45 hu_2 hX4 c_5
        exact kx_out (BX := fun En q u H => XS E t (C1_read t M c ).1 En q u H) (u := u_2) (by rw [htab]; decide) hlocks (xs_leaf e9 (by decide) hB_5).1 (xs_leaf e9 (by decide) hB_5).2 hS h1_5 h2_5 h3_5 (Nat.le_of_ble_eq_true rfl) (Nat.le_of_ble_eq_true rfl)
      · obtain ⟨c_5, hu_5⟩ := hw_5
        replace hu_5 := hu_5.symm
        subst hu_5
        have hm := hm_5
        refine lv_aload_n hx hb dX1_read_48 rfl (lv_at hl 0 rfl) ?_
        refine k_callq (va_runV (As := []) (rest := []) ⟨hx, hb, hml, hown, hts⟩ (cm1_tryOn l E t u_2  (c)  hA K S (show wfA u_2 c K S from by rw [hu_2]; exact setL_wf (rdA_wf hw) 0)) (cwV 0 hts (lw_V q742 q744 qs7 q58 q745) rfl rfl rfl (by decide +kernel) ⟨Nat.le_of_ble_eq_true rfl, Nat.le_of_ble_eq_true rfl⟩) (k_preV hs hm hS (mw.recv hs hm (mt_ne hA.z (by decide)) (ct1 hA.z) rfl)) rfl rfl hl.1 rfl (lv_room (Nat.le_of_ble_eq_true rfl)) dX1_read_49 ⟨Nat.le_of_ble_eq_true rfl, Nat.le_of_ble_eq_true rfl⟩) hS (fun r_6 u_6 H locs hw_6 hm_6 hS => ?_)
        obtain ⟨hr_6, hu_6⟩ := hw_6
        have hm := hm_6
        obtain ⟨n_6, hn_6⟩ : ∃ n, n = (C1_tryOn t u_2 (c) ).1 := ⟨_, rfl⟩
        rw [← hn_6] at hr_6
        subst hr_6
        have hr_6 := hn_6
        clear hn_6
        obtain rfl : n_6 = (c + 65) := hr_6
        refine lv_pop hx hb dX1_read_52 rfl ?_
        have hf9 := rd_f9 hu_2 hX4 c_5
        have hTq : u_6 = C1_rdT t M c := by rw [hu_6, hu_2]; rfl
        have hW1 : wfA (C1_rd1 t M c) c K S := setL_wf (rdA_wf hw) 0
        have hF1 : far (c + 65) 64 (C1_rd1 t M c) (C1_rdT t M c) := tryOn_far hW1
        have hmn := rdT_many hw hB hk60 (rd_ok hP hf9)
        refine lv_iconst (v := (0 : Int32)) hx hb dX1_read_53 (by decide) ?_
        refine lv_istore_n (lv' := [(1, _), (0, _)]) hx hb dX1_read_54 rfl hl (by decide) rfl (fun ls hl => ?_)
        refine k_loop (fun y => rdN t M c - y.1) (fun (y : Nat × mm) H locs ls => (rdD t c (rdN t M c - y.1) y.1 y.2 = C1_read t M c ∧ y.1 ≤ rdN t M c ∧ wfK y.2 (c + 65) ∧ far (c + 65) 64 (C1_rdT t M c) y.2) ∧ mw E t (y.2) H ∧ va_S (eA E) s.heap H locs ∧ lv_has ls 3 [(1, .int (nI y.1)), (0, .ref (c))]) (fun (y : Nat × mm) ls => F0 m 55 ls []) (fun y => (431 + 61 * y.1, 3006 + 726 * y.1)) (fun y ih_7 H locs ls hP => ?_) ((0, u_6)) ⟨⟨by rw [hTq]; exact rd_go hf9, Nat.zero_le _, by rw [hTq]; exact hT, by rw [hTq]; exact far.rf _ _ _⟩, hm, hS, lv_sub hl [0, 1] rfl⟩
        obtain ⟨hI_7, hm, hS, hl⟩ := hP
        have hmy : gI y.2 802 (c + 199) = gI (C1_rdT t M c) 802 (c + 199) := (hI_7.2.2.2 (c + 199) (by omega)).1 802
        have hn60 : rdN t M c < 61 := hmn.nlt
        have hk61 : y.1 ≤ 60 := by have := hI_7.2.1; omega
        refine lv_iload_n hx hb dX1_read_55 rfl (lv_at hl 0 rfl) ?_
        refine lv_aload_n hx hb dX1_read_56 rfl (lv_at hl 1 rfl) ?_
        refine gf_107 hx hb hts hown hs hm hA.z (hts _ q526) dX1_read_57 ?_
        refine gfN_802 hx hb hts hown hs hm hA.r.z q369 dX1_read_60 ?_
        refine lv_icmp_ge (tgt := 100) hx hb dX1_read_63 (by decide) (fun c_8 => ?_) (fun c_8 => ?_)
        · have hke : y.1 = rdN t M c := lp_geI hmn (by decide) hI_7.2.1 (by rw [← hmy]; exact c_8)
          refine lv_goto (tgt := 110) hx hb dX1_read_100 (by decide) ?_
          refine lv_aload_n hx hb dX1_read_110 rfl (lv_at hl 1 rfl) ?_
          refine lv_aload_n hx hb dX1_read_111 rfl (lv_at hl 1 rfl) ?_
          refine gf_107 hx hb hts hown hs hm hA.z (hts _ q526) dX1_read_112 ?_
          refine gfN_802 hx hb hts hown hs hm hA.r.z q369 dX1_read_115 ?_
          refine k_calli (va_runV (As := [.int ((gI y.2 802 (c + 199)))]) (rest := []) ⟨hx, hb, hml, hown, hts⟩ (cm1_becomes l E t y.2  (c) ((gI y.2 802 (c + 199))) hA K S (hW1.tried (hF1.tr hI_7.2.2.2) hI_7.2.2.1)) (cwV 1 hts (lw_V q779 q781 qs8 q58 q782) rfl rfl rfl (by decide +kernel) ⟨Nat.le_of_ble_eq_true rfl, Nat.le_of_ble_eq_true rfl⟩) (k_preV hs hm hS (mw.recv hs hm (mt_ne hA.z (by decide)) (ct1 hA.z) rfl)) rfl rfl hl.1 rfl (lv_room (Nat.le_of_ble_eq_true rfl)) dX1_read_118 ⟨(show 431 + 61 * y.1 + 0 ≤ 4200 from by omega), (show 3006 + 726 * y.1 + 0 ≤ 48000 from by omega)⟩) hS (fun r_9 u_9 H locs hw_9 hm_9 hS => ?_)
          obtain ⟨hr_9, hu_9⟩ := hw_9
          have hm := hm_9
          refine vx_ret ?_
          refine W.widen (k := 4200) (n := 48000) ((show 431 + 61 * y.1 + 0 ≤ 4200 from by omega)) ((show 3006 + 726 * y.1 + 0 ≤ 48000 from by omega)) ?_
          exact W.iret (v := _) hx hb hr (fun t9 ht9 _ => ⟨⟨_, _, rfl, pp3 (rd_endX hI_7.1 hke hr_9 hu_9), hb9 ht9 hm⟩, hS.F ht9⟩) hS.2.2 dX1_read_121
        · have hk : y.1 < rdN t M c := lp_ltI hmn (by decide) hI_7.2.1 (by rw [← hmy]; exact c_8)
          refine lv_aload_n hx hb dX1_read_66 rfl (lv_at hl 1 rfl) ?_
          refine gf_107 hx hb hts hown hs hm hA.z (hts _ q526) dX1_read_67 ?_
          refine lv_aload_n hx hb dX1_read_70 rfl (lv_at hl 1 rfl) ?_
          refine gf_101 hx hb hts hown hs hm hA.z (hts _ q520) dX1_read_71 ?_
          refine lv_iload_n hx hb dX1_read_74 rfl (lv_at hl 0 rfl) ?_
          refine k_calli (va_runV (As := [.ref ((c + 65)), .int (nI y.1)]) (rest := []) ⟨hx, hb, hml, hown, hts⟩ (cm9_isRight l E t y.2  ((c + 199)) ((c + 65)) (nI y.1) hA.r hA.c2 ⟨y.1, by omega, rfl⟩) (cwV 2 hts (lw_V q1600 q1601 q1602 q72 q1603) rfl rfl rfl (by decide +kernel) ⟨Nat.le_of_ble_eq_true rfl, Nat.le_of_ble_eq_true rfl⟩) (k_preV hs hm hS (mw.recv hs hm (mt_ne hA.r.z (by decide)) (ct8 hA.r.z) rfl)) rfl rfl hl.1 rfl (lv_room (Nat.le_of_ble_eq_true rfl)) dX1_read_75 ⟨(show 431 + 61 * y.1 + 0 + 0 ≤ 4200 from by omega), (show 3006 + 726 * y.1 + 0 + 0 ≤ 48000 from by omega)⟩) hS (fun r_10 u_10 H locs hw_10 hm_10 hS => ?_)
          obtain ⟨hr_10, hu_10⟩ := hw_10
          replace hu_10 := hu_10.symm
          subst hu_10
          have hm := hm_10
          refine kx_callv (BX := fun En q u H => XS E t 1 En q u H) (vx_runS (As := [.int (r_10)]) (rest := []) ⟨hx, hb, hml, hown, hts⟩ (cm1_check l E hl9 t y.2  (r_10) ) (va_cwS 1 hts (lw_S q702 q703 q58 q704) rfl rfl rfl (by decide +kernel) ⟨Nat.le_of_ble_eq_true rfl, Nat.le_of_ble_eq_true rfl⟩) (k_preS hs hm hS) rfl rfl hl.1 rfl (lv_room (Nat.le_of_ble_eq_true rfl)) dX1_read_78 ⟨(show 431 + 61 * y.1 + 0 + 1 ≤ 4200 from by omega), (show 3006 + 726 * y.1 + 0 + 6 ≤ 48000 from by omega)⟩) hS (fun En_11 ce_11 q_11 u9_11 H locs hp_11 hB_11 hS h1_11 h2_11 h3_11 => ?_) (fun u_11 H locs hw_11 hm_11 hS => ?_)
          · obtain ⟨c_11, hu9_11⟩ := hp_11
            replace hu9_11 := hu9_11.symm
            subst hu9_11
            have e9 : C1_read t M c  = ((1 : Int32), (0 : Int32), y.2) := rd_s1 hI_7.1 hk hr_10 c_11
            exact kx_outP (BX := fun En q u H => XS E t (C1_read t M c ).1 En q u H) (u := y.2) hown (by rw [htab]; intro z hz; rcases List.mem_cons.mp hz with rfl | hz; exact Or.inl (by decide); rcases List.mem_singleton.mp hz with rfl; exact Or.inr ⟨by decide, "CliffPlots$Refused", hts _ q741, (show va_Nc En_11 "CliffPlots$Refused" s from by rw [hB_11.1]; exact hs.2.2.2.2.2.2.2 ("java/lang/IllegalArgumentException", "CliffPlots$Refused") (by decide +kernel))⟩) hlocks (xs_leaf e9 (by decide) hB_11).1 (xs_leaf e9 (by decide) hB_11).2 hS h1_11 h2_11 h3_11 ((show 431 + 61 * y.1 + 0 + 1 ≤ 4200 from by omega)) ((show 3006 + 726 * y.1 + 0 + 6 ≤ 48000 from by omega))
          · obtain ⟨c_11, hu_11⟩ := hw_11
            replace hu_11 := hu_11.symm
            subst hu_11
            have hm := hm_11
            refine lv_aload_n hx hb dX1_read_81 rfl (lv_at hl 1 rfl) ?_
            refine gf_107 hx hb hts hown hs hm hA.z (hts _ q526) dX1_read_82 ?_
            refine lv_aload_n hx hb dX1_read_85 rfl (lv_at hl 1 rfl) ?_
            refine gf_101 hx hb hts hown hs hm hA.z (hts _ q520) dX1_read_86 ?_
            refine lv_iload_n hx hb dX1_read_89 rfl (lv_at hl 0 rfl) ?_
            refine kx_calli (BX := fun En q u H => XR E t (C9_does t y.2 ((c + 199)) ((c + 65)) (nI y.1)).1 (C9_does t y.2 ((c + 199)) ((c + 65)) (nI y.1)).2.1 En q u H) (vx_runV (As := [.ref ((c + 65)), .int (nI y.1)]) (rest := []) ⟨hx, hb, hml, hown, hts⟩ (cm9_does l E hl9 t y.2  ((c + 199)) ((c + 65)) (nI y.1) hA.r hA.c2 ⟨y.1, by omega, rfl⟩ hI_7.2.2.1 (by rw [← hr_10]; exact c_11)) (cwV 2 hts (lw_V q1606 q1607 q1608 q72 q1609) rfl rfl rfl (by decide +kernel) ⟨Nat.le_of_ble_eq_true rfl, Nat.le_of_ble_eq_true rfl⟩) (k_preV hs hm hS (mw.recv hs hm (mt_ne hA.r.z (by decide)) (ct8 hA.r.z) rfl)) rfl rfl hl.1 rfl (lv_room (Nat.le_of_ble_eq_true rfl)) dX1_read_90 ⟨(show 431 + 61 * y.1 + 0 + 1 + 60 ≤ 4200 from by omega), (show 3006 + 726 * y.1 + 0 + 6 + 720 ≤ 48000 from by omega)⟩) hS (fun En_12 ce_12 q_12 u9_12 H locs hp_12 hB_12 hS h1_12 h2_12 h3_12 => ?_) (fun r_12 u_12 H locs hw_12 hm_12 hS => ?_)
            · obtain ⟨c_12, hu9_12⟩ := hp_12
              replace hu9_12 := hu9_12.symm
              subst hu9_12
              obtain ⟨hE_12, hq0_12, hm⟩ := hB_12
              subst hE_12
              refine vx_catch (name := "CliffPlots$Refused") hown [⟨5, 12, 15, 310⟩] ⟨53, 100, 103, 7⟩ [] htab (fun z hz => Or.inl (by revert z; decide)) (by decide) (by decide) (hts _ q741) (hs.2.2.1.at q754 rfl rfl) h1_12 h2_12 h3_12 ?_
              refine lv_astore_n (lv' := [(1, _), (0, _)]) hx hb dX1_read_103 rfl hl (by decide) rfl (fun ls hl => ?_)
              refine lv_aload_n hx hb dX1_read_104 rfl (lv_at hl 1 rfl) ?_
              refine lv_aload_n hx hb dX1_read_105 rfl (lv_at hl 0 rfl) ?_
              refine k_callr (B := fun (u : mm) r H => mw E t u H ∧ va_at E.1 clA (r, .inr (14, [])) H) (va_runV (As := [.ref q_12]) (rest := []) ⟨hx, hb, hml, hown, hts⟩ (cm1_because l E hl9 t ((C9_does t y.2 ((c + 199)) ((c + 65)) (nI y.1)).2.2.2) c q_12 ((C9_does t y.2 ((c + 199)) ((c + 65)) (nI y.1)).1) ((C9_does t y.2 ((c + 199)) ((c + 65)) (nI y.1)).2.1) hA.z hq0_12) (cwV 1 hts (lw_V q783 q785 qs9 q58 q786) rfl rfl rfl (by decide +kernel) ⟨Nat.le_of_ble_eq_true rfl, Nat.le_of_ble_eq_true rfl⟩) (k_preV hs hm hS (mw.recv hs hm (mt_ne (push_at hq0_12 hA.z) (by decide)) (ct1 (push_at hq0_12 hA.z)) rfl)) rfl rfl hl.1 rfl (lv_room (Nat.le_of_ble_eq_true rfl)) dX1_read_106 ⟨(show 431 + 61 * y.1 + 0 + 1 + 60 + 1 ≤ 4200 from by omega), (show 3006 + 726 * y.1 + 0 + 6 + 720 + 6 ≤ 48000 from by omega)⟩) hS (fun r9 u8 H locs hu8 hm8 hS => ?_)
              subst hu8
              obtain ⟨hm, hat8⟩ := hm8
              refine vx_athrow hx hb dX1_read_109 ?_
              obtain ⟨ce8, h1_12, h2_12, h3_12⟩ := kx_cell hs hat8 (show clA[14]? = some (RJ13, TJ13, 0) from rfl)
              have e9 : C1_read t M c  = ((2 : Int32), (0 : Int32), (refM (C9_does t y.2 ((c + 199)) ((c + 65)) (nI y.1)).2.2.2 c (C9_does t y.2 ((c + 199)) ((c + 65)) (nI y.1)).1 (C9_does t y.2 ((c + 199)) ((c + 65)) (nI y.1)).2.1)) := rd_s2 hI_7.1 hk hr_10 c_11 c_12
              exact kx_out (BX := fun En q u H => XS E t (C1_read t M c ).1 En q u H) (u := (refM (C9_does t y.2 ((c + 199)) ((c + 65)) (nI y.1)).2.2.2 c (C9_does t y.2 ((c + 199)) ((c + 65)) (nI y.1)).1 (C9_does t y.2 ((c + 199)) ((c + 65)) (nI y.1)).2.1)) (by rw [htab]; decide) hlocks (xs_leaf e9 (by decide) (show XS E t 2 (exN 2) r9 _ H from ⟨rfl, hm⟩)).1 (xs_leaf e9 (by decide) (show XS E t 2 (exN 2) r9 _ H from ⟨rfl, hm⟩)).2 hS h1_12 h2_12 h3_12 ((show 431 + 61 * y.1 + 0 + 1 + 60 + 1 ≤ 4200 from by omega)) ((show 3006 + 726 * y.1 + 0 + 6 + 720 + 6 ≤ 48000 from by omega))
            · obtain ⟨c_12, hr_12, hu_12⟩ := hw_12
              have hm := hm_12
              refine lv_istore_n (lv' := [(2, _), (1, _), (0, _)]) hx hb dX1_read_93 rfl hl (by decide) rfl (fun ls hl => ?_)
              refine lv_iinc (v := nI (y.1 + 1)) (lv' := [(1, _), (2, _), (0, _)]) hx hb dX1_read_94 hl (k := 1) rfl (nI_succ y.1).symm (by decide) rfl (fun ls hl => ?_)
              refine lv_goto (tgt := 55) hx hb dX1_read_97 (by decide) ?_
              refine W.widen (k := 431 + 61 * (y.1 + 1)) (n := 3006 + 726 * (y.1 + 1)) (show 431 + 61 * y.1 + 0 + 1 + 60 ≤ 431 + 61 * (y.1 + 1) from by omega) (show 3006 + 726 * y.1 + 0 + 6 + 720 ≤ 3006 + 726 * (y.1 + 1) from by omega) ?_
              exact ih_7 ((y.1 + 1, u_12)) ((show rdN t M c - (y.1 + 1) < rdN t M c - y.1 from by omega)) _ _ _ ⟨(rd_nx hA hI_7 hk hr_10 c_11 c_12 hu_12), hm, hS, lv_sub hl [0, 2] rfl⟩
    · refine lv_icmp_ne (tgt := 44) hx hb dX1_read_37 (by decide) (fun c_3 => ?_) (fun c_3 => ?_)
      · refine lv_iconst (v := (0 : Int32)) hx hb dX1_read_44 (by decide) ?_
        exact J4 ((0 : Int32)) _ _ _ ⟨((if_neg c_3).trans (rfl)).symm, hm, hS, lv_sub hl [0] rfl⟩
      · refine lv_iconst (v := (1 : Int32)) hx hb dX1_read_40 (by decide) ?_
        refine lv_goto (tgt := 45) hx hb dX1_read_41 (by decide) ?_
        exact J4 ((1 : Int32)) _ _ _ ⟨((if_pos c_3).trans (rfl)).symm, hm, hS, lv_sub hl [0] rfl⟩
  · refine lv_aload_n hx hb dX1_read_0 rfl (lv_at hl 0 rfl) ?_
    refine lv_iconst (v := (-1 : Int32)) hx hb dX1_read_1 (by decide) ?_
    refine pf_108 hx hb hts hown hs hm hS hA.z (hts _ q527) dX1_read_2 (fun H locs hm hS => ?_)
    have hm : mw E t ((sI M 108 c (-1 : Int32))) H := hm
    refine lv_aload_n hx hb dX1_read_5 rfl (lv_at hl 0 rfl) ?_
    refine gf_107 hx hb hts hown hs hm hA.z (hts _ q526) dX1_read_6 ?_
    refine kx_callv (BX := fun En q u H => XF E t (C9_read t (sI M 108 c (-1 : Int32)) ((c + 199)) ).2.1 En q u H) (vx_runV (As := []) (rest := []) ⟨hx, hb, hml, hown, hts⟩ (cm9_read l E hl9 t (sI M 108 c (-1 : Int32))  ((c + 199))  hA.r n k (rd_sb9 hB) hk60) (cwV 0 hts (lw_V q1357 q1358 q1359 q72 q1360) rfl rfl rfl (by decide +kernel) ⟨Nat.le_of_ble_eq_true rfl, Nat.le_of_ble_eq_true rfl⟩) (k_preV hs hm hS (mw.recv hs hm (mt_ne hA.r.z (by decide)) (ct8 hA.r.z) rfl)) rfl rfl hl.1 rfl (lv_room (Nat.le_of_ble_eq_true rfl)) dX1_read_9 ⟨Nat.le_of_ble_eq_true rfl, Nat.le_of_ble_eq_true rfl⟩) hS (fun En_13 ce_13 q_13 u9_13 H locs hp_13 hB_13 hS h1_13 h2_13 h3_13 => ?_) (fun u_13 H locs hw_13 hm_13 hS => ?_)
    · obtain ⟨c_13, hu9_13⟩ := hp_13
      replace hu9_13 := hu9_13.symm
      subst hu9_13
      obtain ⟨hE_13, hq0_13, hm⟩ := hB_13
      subst hE_13
      refine vx_catch (name := "CliffPlots$Fault") hown [] ⟨5, 12, 15, 310⟩ [⟨53, 100, 103, 7⟩] htab (fun z hz => nomatch hz) (by decide) (by decide) (hts _ q1356) (hs.2.2.1.at q1393 rfl rfl) h1_13 h2_13 h3_13 ?_
      refine lv_astore_n (lv' := [(1, _), (0, _)]) hx hb dX1_read_15 rfl hl (by decide) rfl (fun ls hl => ?_)
      have htq_13 : m1 t q_13 (12, 0) q_13 = (12, 0) := m1_at t _ _
      have htc_13 := push_at (x := (12, 0)) hq0_13 hA.z
      refine lv_aload_n hx hb dX1_read_16 rfl (lv_at hl 1 rfl) ?_
      refine lv_aload_n hx hb dX1_read_17 rfl (lv_at hl 0 rfl) ?_
      refine k_getN (C := RX12) (T := TXF) (N := 1) (ci := 20) hx hb hts in_TXF hown hs hm (mt_ne htq_13 (by decide)) (ct12 htq_13) rfl 0 (by decide) q1405 (fun _ h9 => h9) rfl dX1_read_18 ?_
      rw [show gI (sI (C9_read t (sI M 108 c (-1 : Int32)) ((c + 199)) ).2.2 1200 q_13 (C9_read t (sI M 108 c (-1 : Int32)) ((c + 199)) ).2.1) 1200 q_13 = (C9_read t (sI M 108 c (-1 : Int32)) ((c + 199)) ).2.1 from m2_at _ _ _ _]
      refine pf_108 hx hb hts hown hs hm hS htc_13 (hts _ q527) dX1_read_21 (fun H locs hm hS => ?_)
      have hm : mw E t (C1_rdA t M c) H := by rw [← rdA_1 c_13]; exact (hm.drop hq0_13).eqx hq0_13 ((eqx.rf q_13 _).at.stI)
      have hm : mw E t (C1_rdA t M c) H := by first | exact hm | (rw [← rdA_0 c_13, ← $hu1]; exact hm)
      exact J1 () _ _ _ ⟨hm, hS, lv_sub hl [1] rfl⟩
    · obtain ⟨c_13, hu_13⟩ := hw_13
      have hm := hm_13
      refine lv_goto (tgt := 24) hx hb dX1_read_12 (by decide) ?_
      have hm : mw E t (C1_rdA t M c) H := by first | exact hm | (rw [← rdA_0 c_13, ← hu_13]; exact hm)
      exact J1 () _ _ _ ⟨hm, hS, lv_sub hl [0] rfl⟩
