set_option maxRecDepth 100000
/-! CliffPlots: keep, tryOn, becomes -/
section KCC
variable {p : Program} {l : Launch} {e : Env} {R : Room} {s : State} {m : MethodId} {args : Array Value} {below : List Frame} {meth : Method} {c : Code} {H : Heap} {locs : List Loc} {cells slots : Nat} {Q : State → Prop}
variable {cc : ByteArray} {pc : Nat} {ls : Array Slot} {rest : List Value} {a : Nat} {E : mE} {t : mt} {M : mm}
theorem k_castC {own : String} {index : Nat} (hexec : p.tables.exec = Jvm.exec) (hb : c.code = cc) (hown : s.vm.findClass own = some m.cls) (hlink : (Cond.classLink own index "CliffPlots$Cliff").before args s = true) (hs : sP E s) (hm : mw E t M H) (ha : lay t a) (hdg : decode cc pc = .ok (.checkcast index, 3))
    (kk : W p l e R s m args below meth c H locs cells slots Q (F0 m (pc + 3) ls (.ref a :: rest))) : W p l e R s m args below meth c H locs cells slots Q (F0 m pc ls (.ref a :: rest)) :=
  va_castS hexec hb hown hlink (hs.2.1.1 1 _ rfl).2 (mw.recv hs hm (mt_ne ha.z (by decide)) (ct2 ha.z) rfl) hdg kk
end KCC
section KEEP
variable {t : mt} {M u : mm} {c : Nat} {K S : List Nat} {r : Option Nat} {r1 : Int32}
theorem far_poll1 (d : Nat) : far d 2 M (CJ1_pollFirst t M d).2 := by
  unfold CJ1_pollFirst
  dsimp only
  split
  · exact far.rf _ _ _
  · exact ((far.rf d 2 M).wR (by omega)).sI (by omega)
theorem far_poll2 (d : Nat) : far d 2 M (CJ1_pollLast t M d).2 := by
  unfold CJ1_pollLast
  dsimp only
  split
  · exact far.rf _ _ _
  · exact ((far.rf d 2 M).sI (by omega)).wR (by omega)
theorem far_add (d q : Nat) : far d 2 M (CJ1_addLast t M d q) := by
  rw [CJ1_addLast_eq]
  exact ((far.rf d 2 M).wR (by omega)).sI (by omega)
theorem dq.far {a n d : Nat} {L : List Nat} (h : dq M d L) (hf : far a n M u) (hd : d + 2 ≤ a ∨ a + n ≤ d) : dq u d L := by
  obtain ⟨k, h1, h2, h3, h4, h5⟩ := h
  refine ⟨k, h1, by rw [(hf d (by omega)).1]; exact h2, by rw [(hf d (by omega)).1]; exact h3, ?_, ?_⟩
  · rw [(hf (d + 1) (by omega)).2.2.2.2.2]; exact h4
  · rw [(hf (d + 1) (by omega)).2.2.2.2.2]; exact h5
theorem cliffs_at {a z : Nat} (h : z ∈ cliffs a) : a + 1 ≤ z ∧ z < a + 715 ∧ (z + 64 ≤ a + 193 ∨ a + 203 ≤ z) := by
  simp only [cliffs, List.mem_cons, List.not_mem_nil, or_false] at h
  omega
theorem lay_sep (hA : layA t c) {q : Nat} (hq : q ∈ eight c) : ¬ c + 1 = q := by
  have := eight_ge hq
  omega
theorem kpE (hA : layA t c) (hw : wfA M c K S) (h1 : r1 = CJ1_isEmpty t M (c + 195)) (hc : ¬ r1 = 0) : S = [] ∧ ∃ q L, K = q :: L := by
  have hl := hw.len
  rw [h1, hw.2.2.1.isEmpty (by omega)] at hc
  have hS : S = [] := by
    by_cases e : S = []
    · exact e
    · rw [if_neg e] at hc
      exact absurd rfl hc
  subst hS
  refine ⟨rfl, ?_⟩
  cases K with
  | nil => simp at hl
  | cons q L => exact ⟨q, L, rfl⟩
theorem kpN (hA : layA t c) (hw : wfA M c K S) (h1 : r1 = CJ1_isEmpty t M (c + 195)) (hc : r1 = 0) : ∃ q L, S = q :: L := by
  have hl := hw.len
  rw [h1, hw.2.2.1.isEmpty (by omega)] at hc
  cases S with
  | nil => rw [if_pos rfl] at hc; exact absurd hc (by decide)
  | cons q L => exact ⟨q, L, rfl⟩
theorem kp_f (hA : layA t c) (hw : wfA M c K S) (h1 : r1 = CJ1_isEmpty t M (c + 195)) (hc : ¬ r1 = 0) (hr : r = (CJ1_pollFirst t M (c + 193)).1) (hu : u = (CJ1_pollFirst t M (c + 193)).2) : (∃ q L, K = q :: L ∧ S = [] ∧ q ∈ eight c ∧ r = some q ∧ dq u (c + 193) L ∧ dq (C2_take t u q (c + 1)) (c + 193) L ∧ L.length < 16) ∧ (∀ z, z ∈ cliffs c → wfK u z) := by
  have hl := hw.len
  obtain ⟨rfl, q, L, rfl⟩ := kpE hA hw h1 hc
  have h2 := hw.2.1
  have hL : L.length < 16 := by rw [List.length_cons] at hl; omega
  obtain ⟨e1, e2⟩ := h2.first (t := t) hL
  rw [← hr] at e1
  rw [← hu] at e2
  have hq := hw.mem (q := q) (.inl (List.mem_cons_self))
  have hf : far (c + 193) 2 M u := by rw [hu]; exact far_poll1 _
  have hk : ∀ z, z ∈ cliffs c → wfK u z := fun z hz => (hw.1 z hz).far hf (by have := cliffs_at hz; omega)
  have hk1 := hk (c + 1) (by simp [cliffs])
  exact ⟨⟨q, L, rfl, rfl, hq, e1, e2, e2.far (far_take (hk q (eight_c hq)) hk1.n1 hk1.n2 hk1.n3) (by have := eight_ge hq; omega), hL⟩, hk⟩
theorem kp_g (hA : layA t c) (hw : wfA M c K S) (h1 : r1 = CJ1_isEmpty t M (c + 195)) (hc : r1 = 0) (hr : r = (CJ1_pollFirst t M (c + 195)).1) (hu : u = (CJ1_pollFirst t M (c + 195)).2) : (∃ q L, S = q :: L ∧ q ∈ eight c ∧ r = some q ∧ dq u (c + 195) L ∧ dq (C2_take t u q (c + 1)) (c + 195) L ∧ dq (C2_take t u q (c + 1)) (c + 193) K ∧ K.length < 16) ∧ (∀ z, z ∈ cliffs c → wfK u z) := by
  have hl := hw.len
  obtain ⟨q, L, rfl⟩ := kpN hA hw h1 hc
  have h2 := hw.2.2.1
  have hL : L.length < 16 := by rw [List.length_cons] at hl; omega
  obtain ⟨e1, e2⟩ := h2.first (t := t) hL
  rw [← hr] at e1
  rw [← hu] at e2
  have hq := hw.mem (q := q) (.inr (List.mem_cons_self))
  have hf : far (c + 195) 2 M u := by rw [hu]; exact far_poll1 _
  have hk : ∀ z, z ∈ cliffs c → wfK u z := fun z hz => (hw.1 z hz).far hf (by have := cliffs_at hz; omega)
  have hk1 := hk (c + 1) (by simp [cliffs])
  have hft := far_take (t := t) (hk q (eight_c hq)) hk1.n1 hk1.n2 hk1.n3
  have hg := eight_ge hq
  exact ⟨⟨q, L, rfl, hq, e1, e2, e2.far hft (by omega), (hw.2.1.far hf (by omega)).far hft (by omega), by omega⟩, hk⟩
/-- what the walk through keep asks -/
theorem kp_n {P : Nat → List Nat → Prop} (h : ∃ q L, P q L ∧ r = some q) : ¬ r = none := by
  obtain ⟨q, L, -, rfl⟩ := h
  simp
theorem kf_n (h : (∃ q L, K = q :: L ∧ S = [] ∧ q ∈ eight c ∧ r = some q ∧ dq u (c + 193) L ∧ dq (C2_take t u q (c + 1)) (c + 193) L ∧ L.length < 16) ∧ (∀ z, z ∈ cliffs c → wfK u z)) : ¬ r = none ∧ r.getD 0 ∈ eight c ∧ ix 17 (gI (C2_take t u (r.getD 0) (c + 1)) 1002 (c + 193)) ∧ ¬ gI (C2_take t u (r.getD 0) (c + 1)) 1001 (c + 193) = T_inc (gI (C2_take t u (r.getD 0) (c + 1)) 1002 (c + 193)) 17 := by
  obtain ⟨⟨q, L, -, -, h1, rfl, -, h2, h3⟩, -⟩ := h
  exact ⟨by simp, h1, h2.tl, h2.full h3⟩
theorem kg_n (h : (∃ q L, S = q :: L ∧ q ∈ eight c ∧ r = some q ∧ dq u (c + 195) L ∧ dq (C2_take t u q (c + 1)) (c + 195) L ∧ dq (C2_take t u q (c + 1)) (c + 193) K ∧ K.length < 16) ∧ (∀ z, z ∈ cliffs c → wfK u z)) : ¬ r = none ∧ r.getD 0 ∈ eight c ∧ ix 17 (gI (C2_take t u (r.getD 0) (c + 1)) 1002 (c + 193)) ∧ ¬ gI (C2_take t u (r.getD 0) (c + 1)) 1001 (c + 193) = T_inc (gI (C2_take t u (r.getD 0) (c + 1)) 1002 (c + 193)) 17 := by
  obtain ⟨⟨q, L, -, h1, rfl, -, -, h2, h3⟩, -⟩ := h
  exact ⟨by simp, h1, h2.tl, h2.full h3⟩
end KEEP
def C1_keep (t : mt) (M : mm) (c : Nat)  : mm :=
  let r_1 := CJ1_isEmpty t M ((c + 195)) ;
  if r_1 = 0 then
    let r_3 := (CJ1_pollFirst t M ((c + 195)) ).1;
    let u_3 := (CJ1_pollFirst t M ((c + 195)) ).2;
    let u_4 := C2_take t u_3 ((r_3.getD 0)) ((c + 1));
    let u_5 := CJ1_addLast t u_4 ((c + 193)) ((r_3.getD 0));
    u_5
  else
    let r_6 := (CJ1_pollFirst t M ((c + 193)) ).1;
    let u_6 := (CJ1_pollFirst t M ((c + 193)) ).2;
    let u_7 := C2_take t u_6 ((r_6.getD 0)) ((c + 1));
    let u_8 := CJ1_addLast t u_7 ((c + 193)) ((r_6.getD 0));
    u_8
set_option maxHeartbeats 4000000 in
theorem cm1_keep (l : Launch) (E : mE) (t : mt) (M : mm) (c : Nat)  (hA : layA t c) (K S : List Nat) (hw : wfA M c K S) : Met l yX1_keep (ws_ yX1_keep cX1_keep 2 none) ({ frames := 5, cells := 0, slots := 0, locals := 111 }) (va_Pc [.ref c] (wP E t M)) (va_Qv (fun (u : mm) => u = C1_keep t M c ) (fun u U => mw E t u U.heap) (eA E)) 0 0 (eA E) := by
  refine Met.ofW (cc := cX1_keep) (maxL := 2) (ret := none) (by decide) rfl ?_
  intro p e s m args below meth c0 s₁ B hml hv
  obtain ⟨rfl, hs, hm⟩ := hv
  have hx := B.exec
  have hb := B.bytes
  have hr := B.returns
  have hts := atoms_spec (ws := ws_ yX1_keep cX1_keep 2 none) B.pre
  have hts : ∀ w ∈ lw_all, w.before _ s = true := fun w h => hts w (List.mem_cons_of_mem _ h)
  have hown : s.vm.findClass RX1 = some m.cls := findClass_of_methodNamed B.named
  have hlocks := B.notSynchronized
  have hS : va_S (eA E) s.heap s.heap [] := va_S.rf
  have hl := lv_entry ([.ref c]) (n := 2) (Nat.le_of_ble_eq_true rfl)
  rw [lg_entry_eq]
  generalize (lg_sl ([.ref c]) ++ List.replicate (2 - (lg_sl ([.ref c])).length) Slot.unset).toArray = ls at hl ⊢
  have hl : lv_has ls 2 [(0, .ref (c))] := hl
  refine lv_aload_n hx hb dX1_keep_0 rfl (lv_at hl 0 rfl) ?_
  refine gf_105 hx hb hts hown hs hm hA.z (hts _ q524) dX1_keep_1 ?_
  refine k_calli (va_runV (As := []) (rest := []) ⟨hx, hb, hml, hown, hts⟩ (cmJ1_isEmpty l E t M  ((c + 195))  hA.s ) (cwV 0 hts (lw_V q561 q562 q563 q67 q564) rfl rfl rfl (by decide +kernel) ⟨Nat.le_of_ble_eq_true rfl, Nat.le_of_ble_eq_true rfl⟩) (k_preV hs hm hS (mw.recv hs hm (mt_ne hA.s.z (by decide)) (ct10 hA.s.z) rfl)) rfl rfl hl.1 rfl (lv_room (Nat.le_of_ble_eq_true rfl)) dX1_keep_4 ⟨Nat.le_of_ble_eq_true rfl, Nat.le_of_ble_eq_true rfl⟩) hS (fun r_1 u_1 H locs hw_1 hm_1 hS => ?_)
  obtain ⟨hr_1, hu_1⟩ := hw_1
  replace hu_1 := hu_1.symm
  subst hu_1
  have hm := hm_1
  refine lv_if_eq (tgt := 23) hx hb dX1_keep_7 (by decide) (fun c_2 => ?_) (fun c_2 => ?_)
  · refine lv_aload_n hx hb dX1_keep_23 rfl (lv_at hl 0 rfl) ?_
    refine gf_105 hx hb hts hown hs hm hA.z (hts _ q524) dX1_keep_24 ?_
    refine k_callq (va_runV (As := []) (rest := []) ⟨hx, hb, hml, hown, hts⟩ (cmJ1_pollFirst l E t M  ((c + 195))  hA.s hw.2.2.1.hd) (cwV 0 hts (lw_V q565 q566 q567 q67 q568) rfl rfl rfl (by decide +kernel) ⟨Nat.le_of_ble_eq_true rfl, Nat.le_of_ble_eq_true rfl⟩) (k_preV hs hm hS (mw.recv hs hm (mt_ne hA.s.z (by decide)) (ct10 hA.s.z) rfl)) rfl rfl hl.1 rfl (lv_room (Nat.le_of_ble_eq_true rfl)) dX1_keep_27 ⟨Nat.le_of_ble_eq_true rfl, Nat.le_of_ble_eq_true rfl⟩) hS (fun r_3 u_3 H locs hw_3 hm_3 hS => ?_)
    obtain ⟨hr_3, hu_3⟩ := hw_3
    have hm := hm_3
    refine k_nn (kg_n (kp_g hA hw hr_1 c_2 hr_3 hu_3)).1 ?_
    refine k_castC hx hb hown (hts _ q105) hs hm (hA.2.1 _ (eight_c (kg_n (kp_g hA hw hr_1 c_2 hr_3 hu_3)).2.1)) dX1_keep_30 ?_
    refine lv_astore_n (lv' := [(1, _), (0, _)]) hx hb dX1_keep_33 rfl hl (by decide) rfl (fun ls hl => ?_)
    refine lv_aload_n hx hb dX1_keep_34 rfl (lv_at hl 0 rfl) ?_
    refine lv_aload_n hx hb dX1_keep_35 rfl (lv_at hl 1 rfl) ?_
    refine gf_100 hx hb hts hown hs hm hA.z (hts _ q519) dX1_keep_36 ?_
    refine k_callv (va_runV (As := [.ref ((c + 1))]) (rest := []) ⟨hx, hb, hml, hown, hts⟩ (cm2_take l E t u_3  ((r_3.getD 0)) ((c + 1)) (hA.2.1 _ (eight_c (kg_n (kp_g hA hw hr_1 c_2 hr_3 hu_3)).2.1)) hA.c1 (lay_sep hA (kg_n (kp_g hA hw hr_1 c_2 hr_3 hu_3)).2.1) (wfK.m7 ((kp_g hA hw hr_1 c_2 hr_3 hu_3).2 (c + 1) (by simp [cliffs])) hA.c1) (wfK.m8 ((kp_g hA hw hr_1 c_2 hr_3 hu_3).2 (c + 1) (by simp [cliffs])) hA.c1) (wfK.cr ((kp_g hA hw hr_1 c_2 hr_3 hu_3).2 (c + 1) (by simp [cliffs])) hA.c1) (wfK.n1 ((kp_g hA hw hr_1 c_2 hr_3 hu_3).2 (c + 1) (by simp [cliffs]))) (wfK.n2 ((kp_g hA hw hr_1 c_2 hr_3 hu_3).2 (c + 1) (by simp [cliffs]))) (wfK.n3 ((kp_g hA hw hr_1 c_2 hr_3 hu_3).2 (c + 1) (by simp [cliffs]))) (wfK.st ((kp_g hA hw hr_1 c_2 hr_3 hu_3).2 (c + 1) (by simp [cliffs]))) (wfK.pz ((kp_g hA hw hr_1 c_2 hr_3 hu_3).2 _ (eight_c (kg_n (kp_g hA hw hr_1 c_2 hr_3 hu_3)).2.1)) (hA.2.1 _ (eight_c (kg_n (kp_g hA hw hr_1 c_2 hr_3 hu_3)).2.1))) (wfK.pz ((kp_g hA hw hr_1 c_2 hr_3 hu_3).2 (c + 1) (by simp [cliffs])) hA.c1)) (cwV 1 hts (lw_V q572 q573 q574 q59 q575) rfl rfl rfl (by decide +kernel) ⟨Nat.le_of_ble_eq_true rfl, Nat.le_of_ble_eq_true rfl⟩) (k_preV hs hm hS (mw.recv hs hm (mt_ne (lay.z (hA.2.1 _ (eight_c (kg_n (kp_g hA hw hr_1 c_2 hr_3 hu_3)).2.1))) (by decide)) (ct2 (lay.z (hA.2.1 _ (eight_c (kg_n (kp_g hA hw hr_1 c_2 hr_3 hu_3)).2.1)))) rfl)) rfl rfl hl.1 rfl (lv_room (Nat.le_of_ble_eq_true rfl)) dX1_keep_39 ⟨Nat.le_of_ble_eq_true rfl, Nat.le_of_ble_eq_true rfl⟩) hS (fun u_4 H locs hw_4 hm_4 hS => ?_)
    have hu_4 := hw_4
    have hm := hm_4
    refine lv_aload_n hx hb dX1_keep_42 rfl (lv_at hl 1 rfl) ?_
    refine gf_104 hx hb hts hown hs hm hA.z (hts _ q523) dX1_keep_43 ?_
    refine lv_aload_n hx hb dX1_keep_46 rfl (lv_at hl 0 rfl) ?_
    refine k_callv (va_runV (As := [.ref ((r_3.getD 0))]) (rest := []) ⟨hx, hb, hml, hown, hts⟩ (cmJ1_addLast l E t u_4  ((c + 193)) ((r_3.getD 0)) hA.k (by rw [hu_4]; exact (kg_n (kp_g hA hw hr_1 c_2 hr_3 hu_3)).2.2.1) (hA.2.1 _ (eight_c (kg_n (kp_g hA hw hr_1 c_2 hr_3 hu_3)).2.1)) (by rw [hu_4]; exact (kg_n (kp_g hA hw hr_1 c_2 hr_3 hu_3)).2.2.2)) (cwV 1 hts (lw_V q387 q388 q389 q67 q390) rfl rfl rfl (by decide +kernel) ⟨Nat.le_of_ble_eq_true rfl, Nat.le_of_ble_eq_true rfl⟩) (k_preV hs hm hS (mw.recv hs hm (mt_ne hA.k.z (by decide)) (ct10 hA.k.z) rfl)) rfl rfl hl.1 rfl (lv_room (Nat.le_of_ble_eq_true rfl)) dX1_keep_47 ⟨Nat.le_of_ble_eq_true rfl, Nat.le_of_ble_eq_true rfl⟩) hS (fun u_5 H locs hw_5 hm_5 hS => ?_)
    have hu_5 := hw_5
    have hm := hm_5
    subst hu_5
    subst hu_4
    subst hu_3
    subst hr_3
    subst hr_1
    exact W.vret hx hb hr (fun t9 ht9 _ => ⟨⟨_, rfl, ((if_pos c_2).trans (rfl)).symm, hb9 ht9 hm⟩, hS.F ht9⟩) hS.2.2 dX1_keep_50
  · refine lv_aload_n hx hb dX1_keep_10 rfl (lv_at hl 0 rfl) ?_
    refine gf_104 hx hb hts hown hs hm hA.z (hts _ q523) dX1_keep_11 ?_
    refine k_callq (va_runV (As := []) (rest := []) ⟨hx, hb, hml, hown, hts⟩ (cmJ1_pollFirst l E t M  ((c + 193))  hA.k hw.2.1.hd) (cwV 0 hts (lw_V q565 q566 q567 q67 q568) rfl rfl rfl (by decide +kernel) ⟨Nat.le_of_ble_eq_true rfl, Nat.le_of_ble_eq_true rfl⟩) (k_preV hs hm hS (mw.recv hs hm (mt_ne hA.k.z (by decide)) (ct10 hA.k.z) rfl)) rfl rfl hl.1 rfl (lv_room (Nat.le_of_ble_eq_true rfl)) dX1_keep_14 ⟨Nat.le_of_ble_eq_true rfl, Nat.le_of_ble_eq_true rfl⟩) hS (fun r_6 u_6 H locs hw_6 hm_6 hS => ?_)
    obtain ⟨hr_6, hu_6⟩ := hw_6
    have hm := hm_6
    refine k_nn (kf_n (kp_f hA hw hr_1 c_2 hr_6 hu_6)).1 ?_
    refine k_castC hx hb hown (hts _ q105) hs hm (hA.2.1 _ (eight_c (kf_n (kp_f hA hw hr_1 c_2 hr_6 hu_6)).2.1)) dX1_keep_17 ?_
    refine lv_goto (tgt := 33) hx hb dX1_keep_20 (by decide) ?_
    refine lv_astore_n (lv' := [(1, _), (0, _)]) hx hb dX1_keep_33 rfl hl (by decide) rfl (fun ls hl => ?_)
    refine lv_aload_n hx hb dX1_keep_34 rfl (lv_at hl 0 rfl) ?_
    refine lv_aload_n hx hb dX1_keep_35 rfl (lv_at hl 1 rfl) ?_
    refine gf_100 hx hb hts hown hs hm hA.z (hts _ q519) dX1_keep_36 ?_
    refine k_callv (va_runV (As := [.ref ((c + 1))]) (rest := []) ⟨hx, hb, hml, hown, hts⟩ (cm2_take l E t u_6  ((r_6.getD 0)) ((c + 1)) (hA.2.1 _ (eight_c (kf_n (kp_f hA hw hr_1 c_2 hr_6 hu_6)).2.1)) hA.c1 (lay_sep hA (kf_n (kp_f hA hw hr_1 c_2 hr_6 hu_6)).2.1) (wfK.m7 ((kp_f hA hw hr_1 c_2 hr_6 hu_6).2 (c + 1) (by simp [cliffs])) hA.c1) (wfK.m8 ((kp_f hA hw hr_1 c_2 hr_6 hu_6).2 (c + 1) (by simp [cliffs])) hA.c1) (wfK.cr ((kp_f hA hw hr_1 c_2 hr_6 hu_6).2 (c + 1) (by simp [cliffs])) hA.c1) (wfK.n1 ((kp_f hA hw hr_1 c_2 hr_6 hu_6).2 (c + 1) (by simp [cliffs]))) (wfK.n2 ((kp_f hA hw hr_1 c_2 hr_6 hu_6).2 (c + 1) (by simp [cliffs]))) (wfK.n3 ((kp_f hA hw hr_1 c_2 hr_6 hu_6).2 (c + 1) (by simp [cliffs]))) (wfK.st ((kp_f hA hw hr_1 c_2 hr_6 hu_6).2 (c + 1) (by simp [cliffs]))) (wfK.pz ((kp_f hA hw hr_1 c_2 hr_6 hu_6).2 _ (eight_c (kf_n (kp_f hA hw hr_1 c_2 hr_6 hu_6)).2.1)) (hA.2.1 _ (eight_c (kf_n (kp_f hA hw hr_1 c_2 hr_6 hu_6)).2.1))) (wfK.pz ((kp_f hA hw hr_1 c_2 hr_6 hu_6).2 (c + 1) (by simp [cliffs])) hA.c1)) (cwV 1 hts (lw_V q572 q573 q574 q59 q575) rfl rfl rfl (by decide +kernel) ⟨Nat.le_of_ble_eq_true rfl, Nat.le_of_ble_eq_true rfl⟩) (k_preV hs hm hS (mw.recv hs hm (mt_ne (lay.z (hA.2.1 _ (eight_c (kf_n (kp_f hA hw hr_1 c_2 hr_6 hu_6)).2.1))) (by decide)) (ct2 (lay.z (hA.2.1 _ (eight_c (kf_n (kp_f hA hw hr_1 c_2 hr_6 hu_6)).2.1)))) rfl)) rfl rfl hl.1 rfl (lv_room (Nat.le_of_ble_eq_true rfl)) dX1_keep_39 ⟨Nat.le_of_ble_eq_true rfl, Nat.le_of_ble_eq_true rfl⟩) hS (fun u_7 H locs hw_7 hm_7 hS => ?_)
    have hu_7 := hw_7
    have hm := hm_7
    refine lv_aload_n hx hb dX1_keep_42 rfl (lv_at hl 1 rfl) ?_
    refine gf_104 hx hb hts hown hs hm hA.z (hts _ q523) dX1_keep_43 ?_
    refine lv_aload_n hx hb dX1_keep_46 rfl (lv_at hl 0 rfl) ?_
    refine k_callv (va_runV (As := [.ref ((r_6.getD 0))]) (rest := []) ⟨hx, hb, hml, hown, hts⟩ (cmJ1_addLast l E t u_7  ((c + 193)) ((r_6.getD 0)) hA.k (by rw [hu_7]; exact (kf_n (kp_f hA hw hr_1 c_2 hr_6 hu_6)).2.2.1) (hA.2.1 _ (eight_c (kf_n (kp_f hA hw hr_1 c_2 hr_6 hu_6)).2.1)) (by rw [hu_7]; exact (kf_n (kp_f hA hw hr_1 c_2 hr_6 hu_6)).2.2.2)) (cwV 1 hts (lw_V q387 q388 q389 q67 q390) rfl rfl rfl (by decide +kernel) ⟨Nat.le_of_ble_eq_true rfl, Nat.le_of_ble_eq_true rfl⟩) (k_preV hs hm hS (mw.recv hs hm (mt_ne hA.k.z (by decide)) (ct10 hA.k.z) rfl)) rfl rfl hl.1 rfl (lv_room (Nat.le_of_ble_eq_true rfl)) dX1_keep_47 ⟨Nat.le_of_ble_eq_true rfl, Nat.le_of_ble_eq_true rfl⟩) hS (fun u_8 H locs hw_8 hm_8 hS => ?_)
    have hu_8 := hw_8
    have hm := hm_8
    subst hu_8
    subst hu_7
    subst hu_6
    subst hr_6
    subst hr_1
    exact W.vret hx hb hr (fun t9 ht9 _ => ⟨⟨_, rfl, ((if_neg c_2).trans (rfl)).symm, hb9 ht9 hm⟩, hS.F ht9⟩) hS.2.2 dX1_keep_50
def C1_tryOn (t : mt) (M : mm) (c : Nat)  : Nat × mm :=
  let u_1 := C2_take t M ((c + 65)) ((c + 1));
  ((c + 65), u_1)
set_option maxHeartbeats 4000000 in
theorem cm1_tryOn (l : Launch) (E : mE) (t : mt) (M : mm) (c : Nat)  (hA : layA t c) (K S : List Nat) (hw : wfA M c K S) : Met l yX1_tryOn (ws_ yX1_tryOn cX1_tryOn 1 (some (.object "CliffPlots$Cliff"))) ({ frames := 5, cells := 0, slots := 0, locals := 111 }) (va_Pc [.ref c] (wP E t M)) (va_Qq (fun (r : Option Nat) (u : mm) => r = some ((C1_tryOn t M c ).1) ∧ u = (C1_tryOn t M c ).2) (fun u U => mw E t u U.heap) (eA E)) 0 0 (eA E) := by
  refine Met.ofW (cc := cX1_tryOn) (maxL := 1) (ret := (some (.object "CliffPlots$Cliff"))) (by decide) rfl ?_
  intro p e s m args below meth c0 s₁ B hml hv
  obtain ⟨rfl, hs, hm⟩ := hv
  have hx := B.exec
  have hb := B.bytes
  have hr := B.returns
  have hts := atoms_spec (ws := ws_ yX1_tryOn cX1_tryOn 1 (some (.object "CliffPlots$Cliff"))) B.pre
  have hts : ∀ w ∈ lw_all, w.before _ s = true := fun w h => hts w (List.mem_cons_of_mem _ h)
  have hown : s.vm.findClass RX1 = some m.cls := findClass_of_methodNamed B.named
  have hlocks := B.notSynchronized
  have hS : va_S (eA E) s.heap s.heap [] := va_S.rf
  have hl := lv_entry ([.ref c]) (n := 1) (Nat.le_of_ble_eq_true rfl)
  rw [lg_entry_eq]
  generalize (lg_sl ([.ref c]) ++ List.replicate (1 - (lg_sl ([.ref c])).length) Slot.unset).toArray = ls at hl ⊢
  have hl : lv_has ls 1 [(0, .ref (c))] := hl
  refine lv_aload_n hx hb dX1_tryOn_0 rfl (lv_at hl 0 rfl) ?_
  refine gf_101 hx hb hts hown hs hm hA.z (hts _ q520) dX1_tryOn_1 ?_
  refine lv_aload_n hx hb dX1_tryOn_4 rfl (lv_at hl 0 rfl) ?_
  refine gf_100 hx hb hts hown hs hm hA.z (hts _ q519) dX1_tryOn_5 ?_
  refine k_callv (va_runV (As := [.ref ((c + 1))]) (rest := []) ⟨hx, hb, hml, hown, hts⟩ (cm2_take l E t M  ((c + 65)) ((c + 1)) hA.c2 hA.c1 (show ¬ c + 1 = c + 65 by omega) (wfK.m7 hw.w1 hA.c1) (wfK.m8 hw.w1 hA.c1) (wfK.cr hw.w1 hA.c1) (wfK.n1 hw.w1) (wfK.n2 hw.w1) (wfK.n3 hw.w1) (wfK.st hw.w1) (wfK.pz hw.w2 hA.c2) (wfK.pz hw.w1 hA.c1)) (cwV 1 hts (lw_V q572 q573 q574 q59 q575) rfl rfl rfl (by decide +kernel) ⟨Nat.le_of_ble_eq_true rfl, Nat.le_of_ble_eq_true rfl⟩) (k_preV hs hm hS (mw.recv hs hm (mt_ne (lay.z hA.c2) (by decide)) (ct2 (lay.z hA.c2)) rfl)) rfl rfl hl.1 rfl (lv_room (Nat.le_of_ble_eq_true rfl)) dX1_tryOn_8 ⟨Nat.le_of_ble_eq_true rfl, Nat.le_of_ble_eq_true rfl⟩) hS (fun u_1 H locs hw_1 hm_1 hS => ?_)
  have hu_1 := hw_1
  have hm := hm_1
  refine lv_aload_n hx hb dX1_tryOn_11 rfl (lv_at hl 0 rfl) ?_
  refine gf_101 hx hb hts hown hs hm hA.z (hts _ q520) dX1_tryOn_12 ?_
  subst hu_1
  exact W.aret (v := _) hx hb hr (Or.inl ⟨_, rfl⟩) (Or.inr ⟨_, rfl⟩) (fun t9 ht9 _ => ⟨⟨some _, _, rfl, pp (rfl), hb9 ht9 hm⟩, hS.F ht9⟩) hS.2.2 dX1_tryOn_15
