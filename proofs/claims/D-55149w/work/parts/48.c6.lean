set_option maxRecDepth 100000
/-! the class: a cliff takes another one -/
theorem cat_rf (r : Option Nat) : (va_rf r).category = 1 := by cases r <;> rfl
theorem spC_le (M : mm) (b : Nat) : ∀ n k, spC M b n k ≤ k + n
  | 0, k => Nat.le_refl _
  | n + 1, k => by
    unfold spC
    split
    · omega
    · have := spC_le M b n (k + 1); omega
theorem spare_p {t : mt} {M : mm} {c n : Nat} {x : Int32} (hL : lay t c) (h : n = C2_spare t M c x) : isP t n := by
  rw [h]
  exact spB_p hL rfl (by have := spC_le M (spB c x) 17 0; omega)
theorem spare_m {t : mt} {M : mm} {c : Nat} (hL : lay t c) : t (C2_spare t M c 0) = (3, 0) := by
  unfold C2_spare
  rw [show spB c 0 = c + 5 from if_pos rfl, show c + 5 + 7 + 2 * spC M (c + 5) 17 0 = c + 12 + 2 * spC M (c + 5) 17 0 by omega]
  exact hL.mar (by have := spC_le M (c + 5) 17 0; omega)
theorem spare_b {t : mt} {M : mm} {c : Nat} (hL : lay t c) : t (C2_spare t M c 1) = (4, 0) := by
  unfold C2_spare
  rw [show spB c 1 = c + 6 from if_neg (by decide), show c + 6 + 7 + 2 * spC M (c + 6) 17 0 = c + 13 + 2 * spC M (c + 6) 17 0 by omega]
  exact hL.bea (by have := spC_le M (c + 6) 17 0; omega)
theorem sp5_p {t : mt} {c k : Nat} (hL : lay t c) (hk : k < 18) : isP t (c + 5 + 7 + 2 * k) := by
  left; rw [show c + 5 + 7 + 2 * k = c + 12 + 2 * k by omega]; exact hL.mar hk
theorem sp6_p {t : mt} {c k : Nat} (hL : lay t c) (hk : k < 18) : isP t (c + 6 + 7 + 2 * k) := by
  right; rw [show c + 6 + 7 + 2 * k = c + 13 + 2 * k by omega]; exact hL.bea hk
def C2_like (t : mt) (M : mm) (c : Nat) (q0 : Option Nat) : Option Nat × mm :=
  if q0 = none then
    (none, M)
  else
    let n_3 := C2_spare t M (c) ((kd4 t (q0.getD 0)));
    let u_4 := C3_take t M (n_3) ((q0.getD 0));
    ((some n_3), u_4)
set_option maxHeartbeats 4000000 in
theorem cm2_like (l : Launch) (E : mE) (t : mt) (M : mm) (c : Nat) (q0 : Option Nat) (hL : lay t c) (hp1 : plO t q0) : Met l yX2_like (ws_ yX2_like cX2_like 3 (some (.object "CliffPlots$Plant"))) ({ frames := 2, cells := 0, slots := 0, locals := 42 }) (va_Pc [.ref c, va_rf q0] (wP E t M)) (va_Qq (fun (r : Option Nat) (u : mm) => r = ((C2_like t M c q0).1) ∧ u = (C2_like t M c q0).2) (fun u U => mw E t u U.heap) (eA E)) 0 0 (eA E) := by
  refine Met.ofW (cc := cX2_like) (maxL := 3) (ret := (some (.object "CliffPlots$Plant"))) (by decide) rfl ?_
  intro p e s m args below meth c0 s₁ B hml hv
  obtain ⟨rfl, hs, hm⟩ := hv
  have hx := B.exec
  have hb := B.bytes
  have hr := B.returns
  have hts := atoms_spec (ws := ws_ yX2_like cX2_like 3 (some (.object "CliffPlots$Plant"))) B.pre
  have hts : ∀ w ∈ lw_all, w.before _ s = true := fun w h => hts w (List.mem_cons_of_mem _ h)
  have hown : s.vm.findClass RX2 = some m.cls := findClass_of_methodNamed B.named
  have hlocks := B.notSynchronized
  have hS : va_S (eA E) s.heap s.heap [] := va_S.rf
  have hl := lv_entry ([.ref c, va_rf q0]) (n := 3) (by cases q0 <;> exact Nat.le_of_ble_eq_true rfl)
  rw [lg_entry_eq]
  generalize (lg_sl ([.ref c, va_rf q0]) ++ List.replicate (3 - (lg_sl ([.ref c, va_rf q0])).length) Slot.unset).toArray = ls at hl ⊢
  have hl : lv_has ls 3 [(0, .ref (c)), (1, va_rf (q0))] := hl
  refine lv_aload_nQ hx hb dX2_like_0 rfl (lv_at hl 1 rfl) ?_
  refine lv_ifnonnullQ (tgt := 6) hx hb dX2_like_1 (by decide) (fun c_1 => ?_) (fun c_1 => ?_)
  · refine lv_aload_n hx hb dX2_like_6 rfl (lv_at hl 0 rfl) ?_
    refine lv_aload_nQ hx hb dX2_like_7 rfl (lv_at hl 1 rfl) ?_
    refine k_nn c_1 ?_
    refine k_calli ((hp1.get c_1).elim (fun h9 => va_runU (As := []) (rest := [.ref (c)]) ⟨hx, hb, hml, hown, hts⟩ (cm4_kind l E t M ((q0.getD 0)) h9) (va_cwA 0 hts (lw_U q589 q591 q595 q596 q61 q597) rfl rfl rfl (hs.2.2.1 _ q590 rfl) (by decide +kernel) ⟨Nat.le_of_ble_eq_true rfl, Nat.le_of_ble_eq_true rfl⟩) (k_preV hs hm hS (mw.recv hs hm (mt_ne h9 (by decide)) (ct3 h9) rfl)) rfl rfl hl.1 rfl (lv_room (Nat.le_of_ble_eq_true rfl)) dX2_like_8 ⟨Nat.le_of_ble_eq_true rfl, Nat.le_of_ble_eq_true rfl⟩) (fun h9 => va_runU (As := []) (rest := [.ref (c)]) ⟨hx, hb, hml, hown, hts⟩ (cm5_kind l E t M ((q0.getD 0)) h9) (va_cwA 0 hts (lw_U q589 q591 q592 q593 q62 q594) rfl rfl rfl (hs.2.2.1 _ q590 rfl) (by decide +kernel) ⟨Nat.le_of_ble_eq_true rfl, Nat.le_of_ble_eq_true rfl⟩) (k_preV hs hm hS (mw.recv hs hm (mt_ne h9 (by decide)) (ct4 h9) rfl)) rfl rfl hl.1 rfl (lv_room (Nat.le_of_ble_eq_true rfl)) dX2_like_8 ⟨Nat.le_of_ble_eq_true rfl, Nat.le_of_ble_eq_true rfl⟩)) hS (fun r_2 u_2 H locs hw_2 hm_2 hS => ?_)
    obtain ⟨hr_2, hu_2⟩ := hw_2
    subst hr_2
    replace hu_2 := hu_2.symm
    subst hu_2
    have hm : mw E t (M) H := hm_2
    refine k_callq (va_runV (As := [.int ((kd4 t (q0.getD 0)))]) (rest := []) ⟨hx, hb, hml, hown, hts⟩ (cm2_spare l E t M  (c) ((kd4 t (q0.getD 0))) hL ) (cwV 1 hts (lw_V q598 q600 qs6 q59 q601) rfl rfl rfl (by decide +kernel) ⟨Nat.le_of_ble_eq_true rfl, Nat.le_of_ble_eq_true rfl⟩) (k_preV hs hm hS (mw.recv hs hm (mt_ne (lay.z hL) (by decide)) (ct2 (lay.z hL)) rfl)) rfl rfl hl.1 rfl (lv_room (Nat.le_of_ble_eq_true rfl)) dX2_like_11 ⟨Nat.le_of_ble_eq_true rfl, Nat.le_of_ble_eq_true rfl⟩) hS (fun r_3 u_3 H locs hw_3 hm_3 hS => ?_)
    obtain ⟨hr_3, hu_3⟩ := hw_3
    replace hu_3 := hu_3.symm
    subst hu_3
    have hm := hm_3
    obtain ⟨n_3, hn_3⟩ : ∃ n, n = C2_spare t M (c) ((kd4 t (q0.getD 0))) := ⟨_, rfl⟩
    rw [← hn_3] at hr_3
    subst hr_3
    have hr_3 := hn_3
    clear hn_3
    refine lv_astore_n (lv' := [(2, .ref (n_3)), (0, .ref (c)), (1, va_rf (q0))]) hx hb dX2_like_14 rfl hl (by decide) (by simp [cat_rf]) (fun ls hl => ?_)
    refine lv_aload_n hx hb dX2_like_15 rfl (lv_at hl 0 rfl) ?_
    refine lv_aload_nQ hx hb dX2_like_16 rfl (lv_at hl 2 rfl) ?_
    refine k_nn c_1 ?_
    refine k_callv ((spare_p hL hr_3).elim (fun h9 => va_runU (As := [.ref ((q0.getD 0))]) (rest := []) ⟨hx, hb, hml, hown, hts⟩ (cm3_take l E t M  (n_3) ((q0.getD 0)) (spare_p hL hr_3) (hp1.get c_1)) (va_cwU 1 hts (lw_U q602 q604 q606 q603 q60 q607) rfl rfl rfl rfl (by decide +kernel) ⟨Nat.le_of_ble_eq_true rfl, Nat.le_of_ble_eq_true rfl⟩) (k_preV hs hm hS (mw.recv hs hm (mt_ne h9 (by decide)) (ct3 h9) rfl)) rfl rfl hl.1 rfl (lv_room (Nat.le_of_ble_eq_true rfl)) dX2_like_17 ⟨Nat.le_of_ble_eq_true rfl, Nat.le_of_ble_eq_true rfl⟩) (fun h9 => va_runU (As := [.ref ((q0.getD 0))]) (rest := []) ⟨hx, hb, hml, hown, hts⟩ (cm3_take l E t M  (n_3) ((q0.getD 0)) (spare_p hL hr_3) (hp1.get c_1)) (va_cwU 1 hts (lw_U q602 q604 q605 q603 q60 q607) rfl rfl rfl rfl (by decide +kernel) ⟨Nat.le_of_ble_eq_true rfl, Nat.le_of_ble_eq_true rfl⟩) (k_preV hs hm hS (mw.recv hs hm (mt_ne h9 (by decide)) (ct4 h9) rfl)) rfl rfl hl.1 rfl (lv_room (Nat.le_of_ble_eq_true rfl)) dX2_like_17 ⟨Nat.le_of_ble_eq_true rfl, Nat.le_of_ble_eq_true rfl⟩)) hS (fun u_4 H locs hw_4 hm_4 hS => ?_)
    have hu_4 := hw_4
    have hm := hm_4
    refine lv_aload_n hx hb dX2_like_20 rfl (lv_at hl 0 rfl) ?_
    subst hu_4
    subst hr_3
    exact W.aret (v := _) hx hb hr (Or.inl ⟨_, rfl⟩) (Or.inr ⟨_, rfl⟩) (fun t9 ht9 _ => ⟨⟨some _, _, rfl, pp ((if_neg c_1).trans (rfl)), hb9 ht9 hm⟩, hS.F ht9⟩) hS.2.2 dX2_like_21
  · refine lv_null hx hb dX2_like_4 ?_
    exact W.aret (v := _) hx hb hr (Or.inl ⟨_, rfl⟩) (Or.inl rfl) (fun t9 ht9 _ => ⟨⟨none, _, rfl, pp ((if_pos c_1).trans (rfl)), hb9 ht9 hm⟩, hS.F ht9⟩) hS.2.2 dX2_like_5
theorem like_aR (t : mt) (M : mm) (c : Nat) (p : Option Nat) (b : Nat) : aR (C2_like t M c p).2 b = aR M b := by
  unfold C2_like
  split <;> rfl
theorem like_3 {t : mt} {M : mm} {c : Nat} {p r : Option Nat} (hL : lay t c) (hp : ∀ q, p = some q → t q = (3, 0)) (h : r = (C2_like t M c p).1) : ∀ q, r = some q → t q = (3, 0) := by
  intro q hq
  rw [h] at hq
  unfold C2_like at hq
  split at hq
  · cases hq
  · rename_i hn
    cases p with
    | none => exact absurd rfl hn
    | some p =>
      cases hq
      rw [show kd4 t ((some p).getD 0) = 0 from if_neg (is3 (hp p rfl))]
      exact spare_m hL
theorem like_4 {t : mt} {M : mm} {c : Nat} {p r : Option Nat} (hL : lay t c) (hp : ∀ q, p = some q → t q = (4, 0)) (h : r = (C2_like t M c p).1) : ∀ q, r = some q → t q = (4, 0) := by
  intro q hq
  rw [h] at hq
  unfold C2_like at hq
  split at hq
  · cases hq
  · rename_i hn
    cases p with
    | none => exact absurd rfl hn
    | some p =>
      cases hq
      rw [show kd4 t ((some p).getD 0) = 1 from if_pos (is4 (hp p rfl))]
      exact spare_b hL
theorem like_P {t : mt} {M : mm} {c : Nat} {p r : Option Nat} (hL : lay t c) (h : r = (C2_like t M c p).1) : plO t r := by
  intro q hq
  rw [h] at hq
  unfold C2_like at hq
  split at hq
  · cases hq
  · cases hq
    exact spare_p hL rfl
section KR5
variable {p : Program} {l : Launch} {e : Env} {R : Room} {s : State} {m : MethodId} {args : Array Value} {below : List Frame} {meth : Method} {c : Code} {H : Heap} {locs : List Loc} {cells slots : Nat} {Q : State → Prop}
variable {cc : ByteArray} {pc : Nat} {ls : Array Slot} {rest : List Value} {a : Nat} {E : mE} {t : mt} {M : mm} {r : Option Nat}
theorem k_aastQ25 (hexec : p.tables.exec = Jvm.exec) (hb : c.code = cc) (hs : sP E s) (hm : mw E t M H) (hS : va_S (eA E) s.heap H locs) (ht : t a = (25, 5)) (hr : ∀ q, r = some q → t q = (3, 0)) {i : Int32} (hin : vp_in i 5) (hdg : decode cc pc = .ok (.aastore, 1))
    (kk : ∀ (H1 : Heap) (locs1 : List Loc), mw E t (wR M a (va_up (aR M a) i.toNatClampNeg r)) H1 → va_S (eA E) s.heap H1 locs1 → W p l e R s m args below meth c H1 locs1 cells slots Q (F0 m (pc + 1) ls rest)) : W p l e R s m args below meth c H locs cells slots Q (F0 m pc ls (va_rf r :: .int i :: .ref a :: rest)) := by
  cases r with
  | none => exact k_aastN (j := 5) hexec hb hs hm hS ht (by decide) (fun _ => rfl) rfl hin hdg kk
  | some v => exact k_aastS (j := 5) (ci := 2) hexec hb hs hm hS ht (by decide) (fun _ => rfl) rfl (ct3 (hr v rfl)) (mt_ne (hr v rfl) (by decide)) rfl hin hdg kk
theorem k_aastQ26 (hexec : p.tables.exec = Jvm.exec) (hb : c.code = cc) (hs : sP E s) (hm : mw E t M H) (hS : va_S (eA E) s.heap H locs) (ht : t a = (26, 5)) (hr : ∀ q, r = some q → t q = (4, 0)) {i : Int32} (hin : vp_in i 5) (hdg : decode cc pc = .ok (.aastore, 1))
    (kk : ∀ (H1 : Heap) (locs1 : List Loc), mw E t (wR M a (va_up (aR M a) i.toNatClampNeg r)) H1 → va_S (eA E) s.heap H1 locs1 → W p l e R s m args below meth c H1 locs1 cells slots Q (F0 m (pc + 1) ls rest)) : W p l e R s m args below meth c H locs cells slots Q (F0 m pc ls (va_rf r :: .int i :: .ref a :: rest)) := by
  cases r with
  | none => exact k_aastN (j := 6) hexec hb hs hm hS ht (by decide) (fun _ => rfl) rfl hin hdg kk
  | some v => exact k_aastS (j := 6) (ci := 3) hexec hb hs hm hS ht (by decide) (fun _ => rfl) rfl (ct4 (hr v rfl)) (mt_ne (hr v rfl) (by decide)) rfl hin hdg kk
theorem k_aastQ24 (hexec : p.tables.exec = Jvm.exec) (hb : c.code = cc) (hs : sP E s) (hm : mw E t M H) (hS : va_S (eA E) s.heap H locs) (ht : t a = (24, 12)) (hr : plO t r) {i : Int32} (hin : vp_in i 12) (hdg : decode cc pc = .ok (.aastore, 1))
    (kk : ∀ (H1 : Heap) (locs1 : List Loc), mw E t (wR M a (va_up (aR M a) i.toNatClampNeg r)) H1 → va_S (eA E) s.heap H1 locs1 → W p l e R s m args below meth c H1 locs1 cells slots Q (F0 m (pc + 1) ls rest)) : W p l e R s m args below meth c H locs cells slots Q (F0 m pc ls (va_rf r :: .int i :: .ref a :: rest)) := by
  cases r with
  | none => exact k_aastN (j := 4) hexec hb hs hm hS ht (by decide) (fun _ => rfl) rfl hin hdg kk
  | some v =>
    rcases hr v rfl with h | h
    · exact k_aastO (j := 4) (ci := 2) hexec hb hs hm hS ht (by decide) (fun _ => rfl) rfl (ct3 h) (mt_ne h (by decide)) rfl (hs.2.2.1 _ q2131 rfl) hin hdg kk
    · exact k_aastO (j := 4) (ci := 3) hexec hb hs hm hS ht (by decide) (fun _ => rfl) rfl (ct4 h) (mt_ne h (by decide)) rfl (hs.2.2.1 _ q2132 rfl) hin hdg kk
end KR5
theorem aR_off {M : mm} {a b : Nat} {f : Nat → Option Nat} (h : ¬ b = a) : aR (wR M a f) b = aR M b := m1_ne _ _ h
def S_tpa (t : mt) (M : mm) (c : Nat) (z : mm) (k : Nat) : mm :=
  (sI (sI z 302 ((c + 5) + 7 + 2 * k) (0 : Int32)) 302 ((c + 6) + 7 + 2 * k) (0 : Int32))
def L_tpa (t : mt) (M : mm) (c : Nat) : Nat → mm
  | 0 => M
  | k + 1 => S_tpa t M c (L_tpa t M c k) k
  termination_by k => k
theorem L_tpa_0 (t : mt) (M : mm) (c : Nat) : L_tpa t M c 0 = M := by rw [L_tpa]
theorem L_tpa_s (t : mt) (M : mm) (c : Nat) (k : Nat) : L_tpa t M c (k + 1) = S_tpa t M c (L_tpa t M c k) k := by rw [L_tpa]
theorem tpa_aR (t : mt) (M : mm) (c b : Nat) : ∀ k, aR (L_tpa t M c k) b = aR M b
  | 0 => by rw [L_tpa_0]
  | k + 1 => by rw [L_tpa_s]; exact tpa_aR t M c b k
def S_tpm (t : mt) (M : mm) (c : Nat) (d : Nat) (z : mm) (k : Nat) : mm :=
  let r_18 := (C2_like t z (c) ((aR z (d + 7) k))).1;
  let u_18 := (C2_like t z (c) ((aR z (d + 7) k))).2;
  (wR u_18 (c + 7) (va_up (aR u_18 (c + 7)) k r_18))
def L_tpm (t : mt) (M : mm) (c : Nat) (d : Nat) : Nat → mm
  | 0 => M
  | k + 1 => S_tpm t M c d (L_tpm t M c d k) k
  termination_by k => k
theorem L_tpm_0 (t : mt) (M : mm) (c : Nat) (d : Nat) : L_tpm t M c d 0 = M := by rw [L_tpm]
theorem L_tpm_s (t : mt) (M : mm) (c : Nat) (d : Nat) (k : Nat) : L_tpm t M c d (k + 1) = S_tpm t M c d (L_tpm t M c d k) k := by rw [L_tpm]
theorem tpm_aR (t : mt) (M : mm) (c d b : Nat) (hb : ¬ b = c + 7) : ∀ k, aR (L_tpm t M c d k) b = aR M b
  | 0 => by rw [L_tpm_0]
  | k + 1 => by
    rw [L_tpm_s]
    unfold S_tpm
    dsimp only
    rw [aR_off hb, like_aR]
    exact tpm_aR t M c d b hb k
def S_tpb (t : mt) (M : mm) (c : Nat) (d : Nat) (z : mm) (k : Nat) : mm :=
  let r_17 := (C2_like t z (c) ((aR z (d + 8) k))).1;
  let u_17 := (C2_like t z (c) ((aR z (d + 8) k))).2;
  (wR u_17 (c + 8) (va_up (aR u_17 (c + 8)) k r_17))
def L_tpb (t : mt) (M : mm) (c : Nat) (d : Nat) : Nat → mm
  | 0 => M
  | k + 1 => S_tpb t M c d (L_tpb t M c d k) k
  termination_by k => k
theorem L_tpb_0 (t : mt) (M : mm) (c : Nat) (d : Nat) : L_tpb t M c d 0 = M := by rw [L_tpb]
theorem L_tpb_s (t : mt) (M : mm) (c : Nat) (d : Nat) (k : Nat) : L_tpb t M c d (k + 1) = S_tpb t M c d (L_tpb t M c d k) k := by rw [L_tpb]
theorem tpb_aR (t : mt) (M : mm) (c d b : Nat) (hb : ¬ b = c + 8) : ∀ k, aR (L_tpb t M c d k) b = aR M b
  | 0 => by rw [L_tpb_0]
  | k + 1 => by
    rw [L_tpb_s]
    unfold S_tpb
    dsimp only
    rw [aR_off hb, like_aR]
    exact tpb_aR t M c d b hb k
def S_tpc (t : mt) (M : mm) (c : Nat) (d : Nat) (z : mm) (k : Nat) : mm :=
  let r_16 := (C2_like t z (c) ((aR z (d + 4) k))).1;
  let u_16 := (C2_like t z (c) ((aR z (d + 4) k))).2;
  (wR u_16 (c + 4) (va_up (aR u_16 (c + 4)) k r_16))
def L_tpc (t : mt) (M : mm) (c : Nat) (d : Nat) : Nat → mm
  | 0 => M
  | k + 1 => S_tpc t M c d (L_tpc t M c d k) k
  termination_by k => k
theorem L_tpc_0 (t : mt) (M : mm) (c : Nat) (d : Nat) : L_tpc t M c d 0 = M := by rw [L_tpc]
theorem L_tpc_s (t : mt) (M : mm) (c : Nat) (d : Nat) (k : Nat) : L_tpc t M c d (k + 1) = S_tpc t M c d (L_tpc t M c d k) k := by rw [L_tpc]
theorem tpc_aR (t : mt) (M : mm) (c d b : Nat) (hb : ¬ b = c + 4) : ∀ k, aR (L_tpc t M c d k) b = aR M b
  | 0 => by rw [L_tpc_0]
  | k + 1 => by
    rw [L_tpc_s]
    unfold S_tpc
    dsimp only
    rw [aR_off hb, like_aR]
    exact tpc_aR t M c d b hb k
theorem tp_cr {t : mt} {M : mm} {c d : Nat} (hL : lay t c) (hD : lay t d) (hdc : ¬ d = c) (hcr : ∀ k, k < 12 → plO t (aR M (d + 4) k)) {k : Nat} (hk : k < 12) : plO t (aR (L_tpc t (L_tpb t (L_tpm t (L_tpa t M c 18) c d 5) c d 5) c d k) (d + 4) k) := by
  rw [tpc_aR t _ c d (d + 4) (by omega), tpb_aR t _ c d (d + 4) (by intro h9; exact absurd (hD.a4.symm.trans (h9 ▸ hL.a8)) (by decide)), tpm_aR t _ c d (d + 4) (by intro h9; exact absurd (hD.a4.symm.trans (h9 ▸ hL.a7)) (by decide)), tpa_aR]
  exact hcr k hk
def C2_takePlants (t : mt) (M : mm) (c : Nat) (d : Nat) : mm := L_tpc t (L_tpb t (L_tpm t (L_tpa t M c 18) c d 5) c d 5) c d 12
set_option maxHeartbeats 4000000 in
theorem cm2_takePlants (l : Launch) (E : mE) (t : mt) (M : mm) (c : Nat) (d : Nat) (hL : lay t c) (hD : lay t d) (hdc : ¬ d = c) (hm7 : ∀ k, k < 5 → ∀ q, aR M (d + 7) k = some q → t q = (3, 0)) (hm8 : ∀ k, k < 5 → ∀ q, aR M (d + 8) k = some q → t q = (4, 0)) (hcr : ∀ k, k < 12 → plO t (aR M (d + 4) k)) : Met l yX2_takePlants (ws_ yX2_takePlants cX2_takePlants 6 none) ({ frames := 3, cells := 0, slots := 0, locals := 64 }) (va_Pc [.ref c, .ref d] (wP E t M)) (va_Qv (fun (u : mm) => u = C2_takePlants t M c d) (fun u U => mw E t u U.heap) (eA E)) 0 0 (eA E) := by
  refine Met.ofW (cc := cX2_takePlants) (maxL := 6) (ret := none) (by decide) rfl ?_
  intro p e s m args below meth c0 s₁ B hml hv
  obtain ⟨rfl, hs, hm⟩ := hv
  have hx := B.exec
  have hb := B.bytes
  have hr := B.returns
  have hts := atoms_spec (ws := ws_ yX2_takePlants cX2_takePlants 6 none) B.pre
  have hts : ∀ w ∈ lw_all, w.before _ s = true := fun w h => hts w (List.mem_cons_of_mem _ h)
  have hown : s.vm.findClass RX2 = some m.cls := findClass_of_methodNamed B.named
  have hlocks := B.notSynchronized
  have hS : va_S (eA E) s.heap s.heap [] := va_S.rf
  have hl := lv_entry ([.ref c, .ref d]) (n := 6) (Nat.le_of_ble_eq_true rfl)
  rw [lg_entry_eq]
  generalize (lg_sl ([.ref c, .ref d]) ++ List.replicate (6 - (lg_sl ([.ref c, .ref d])).length) Slot.unset).toArray = ls at hl ⊢
  have hl : lv_has ls 6 [(0, .ref (c)), (1, .ref (d))] := hl
  refine lv_iconst (v := (0 : Int32)) hx hb dX2_takePlants_0 (by decide) ?_
  refine lv_istore_n (lv' := [(2, _), (0, _), (1, _)]) hx hb dX2_takePlants_1 rfl hl (by decide) rfl (fun ls hl => ?_)
  refine k_loop (fun k => 18 - k) (fun (k : Nat) H locs ls => (k ≤ 18) ∧ mw E t ((L_tpa t M c k)) H ∧ va_S (eA E) s.heap H locs ∧ lv_has ls 6 [(2, .int (nI k)), (0, .ref (c)), (1, .ref (d))]) (fun (k : Nat) ls => F0 m 2 ls []) (fun k => (0, 0)) (fun k ih_1 H locs ls hP => ?_) (0) ⟨(Nat.zero_le _), (by rw [L_tpa_0]; exact hm), hS, lv_sub hl [0, 1, 2] rfl⟩
  obtain ⟨hI_1, hm, hS, hl⟩ := hP
  refine lv_iload_n hx hb dX2_takePlants_2 rfl (lv_at hl 0 rfl) ?_
  refine lv_bipush (v := (18 : Int32)) hx hb dX2_takePlants_3 (by decide) ?_
  refine lv_icmp_ge (tgt := 34) hx hb dX2_takePlants_5 (by decide) (fun c_2 => ?_) (fun c_2 => ?_)
  · have hkN : k = 18 := lp_ge (by decide) hI_1 c_2
    replace hkN := hkN.symm
    subst hkN
    refine lv_iconst (v := (0 : Int32)) hx hb dX2_takePlants_34 (by decide) ?_
    refine lv_istore_n (lv' := [(2, _), (0, _), (1, _)]) hx hb dX2_takePlants_35 rfl hl (by decide) rfl (fun ls hl => ?_)
    refine lv_iload_n hx hb dX2_takePlants_36 rfl (lv_at hl 0 rfl) ?_
    refine lv_iconst (v := (2 : Int32)) hx hb dX2_takePlants_37 (by decide) ?_
    refine lv_icmp_ge (tgt := 88) hx hb dX2_takePlants_38 (by decide) (fun c_3 => absurd c_3 (by decide)) (fun c_3 => ?_)
    refine lv_aload_n hx hb dX2_takePlants_41 rfl (lv_at hl 2 rfl) ?_
    refine lv_iload_n hx hb dX2_takePlants_42 rfl (lv_at hl 0 rfl) ?_
    refine k_callq (va_runV (As := [.int ((0 : Int32))]) (rest := []) ⟨hx, hb, hml, hown, hts⟩ (cm2_bench l E t (L_tpa t M c 18)  (d) ((0 : Int32)) hD ) (cwV 1 hts (lw_V q581 q582 q583 q59 q584) rfl rfl rfl (by decide +kernel) ⟨Nat.le_of_ble_eq_true rfl, Nat.le_of_ble_eq_true rfl⟩) (k_preV hs hm hS (mw.recv hs hm (mt_ne (lay.z hD) (by decide)) (ct2 (lay.z hD)) rfl)) rfl rfl hl.1 rfl (lv_room (Nat.le_of_ble_eq_true rfl)) dX2_takePlants_43 ⟨Nat.le_of_ble_eq_true rfl, Nat.le_of_ble_eq_true rfl⟩) hS (fun r_4 u_4 H locs hw_4 hm_4 hS => ?_)
    obtain ⟨hr_4, hu_4⟩ := hw_4
    replace hu_4 := hu_4.symm
    subst hu_4
    have hm := hm_4
    obtain ⟨n_4, hn_4⟩ : ∃ n, n = C2_bench t (L_tpa t M c 18) (d) ((0 : Int32)) := ⟨_, rfl⟩
    rw [← hn_4] at hr_4
    subst hr_4
    have hr_4 := hn_4
    clear hn_4
    obtain rfl : n_4 = (d + 7) := hr_4.trans (if_pos rfl)
    refine lv_astore_n (lv' := [(3, _), (2, _), (0, _), (1, _)]) hx hb dX2_takePlants_46 rfl hl (by decide) rfl (fun ls hl => ?_)
    refine lv_aload_n hx hb dX2_takePlants_47 rfl (lv_at hl 2 rfl) ?_
    refine lv_iload_n hx hb dX2_takePlants_48 rfl (lv_at hl 1 rfl) ?_
    refine k_callq (va_runV (As := [.int ((0 : Int32))]) (rest := []) ⟨hx, hb, hml, hown, hts⟩ (cm2_bench l E t (L_tpa t M c 18)  (c) ((0 : Int32)) hL ) (cwV 1 hts (lw_V q581 q582 q583 q59 q584) rfl rfl rfl (by decide +kernel) ⟨Nat.le_of_ble_eq_true rfl, Nat.le_of_ble_eq_true rfl⟩) (k_preV hs hm hS (mw.recv hs hm (mt_ne (lay.z hL) (by decide)) (ct2 (lay.z hL)) rfl)) rfl rfl hl.1 rfl (lv_room (Nat.le_of_ble_eq_true rfl)) dX2_takePlants_49 ⟨Nat.le_of_ble_eq_true rfl, Nat.le_of_ble_eq_true rfl⟩) hS (fun r_5 u_5 H locs hw_5 hm_5 hS => ?_)
    obtain ⟨hr_5, hu_5⟩ := hw_5
    replace hu_5 := hu_5.symm
    subst hu_5
    have hm := hm_5
    obtain ⟨n_5, hn_5⟩ : ∃ n, n = C2_bench t (L_tpa t M c 18) (c) ((0 : Int32)) := ⟨_, rfl⟩
    rw [← hn_5] at hr_5
    subst hr_5
    have hr_5 := hn_5
    clear hn_5
    obtain rfl : n_5 = (c + 7) := hr_5.trans (if_pos rfl)
    refine lv_astore (lv' := [(4, _), (3, _), (2, _), (0, _), (1, _)]) hx hb dX2_takePlants_52 hl (by decide) rfl (fun ls hl => ?_)
    refine lv_iconst (v := (0 : Int32)) hx hb dX2_takePlants_54 (by decide) ?_
    refine lv_istore (lv' := [(5, _), (4, _), (3, _), (2, _), (0, _), (1, _)]) hx hb dX2_takePlants_55 hl (by decide) rfl (fun ls hl => ?_)
    refine k_loop (fun k => 5 - k) (fun (k : Nat) H locs ls => (k ≤ 5) ∧ mw E t ((L_tpm t (L_tpa t M c 18) c d k)) H ∧ va_S (eA E) s.heap H locs ∧ lv_has ls 6 [(5, .int (nI k)), (4, .ref ((c + 7))), (3, .ref ((d + 7))), (2, .int ((0 : Int32))), (0, .ref (c)), (1, .ref (d))]) (fun (k : Nat) ls => F0 m 57 ls []) (fun k => (0, 0)) (fun k ih_6 H locs ls hP => ?_) (0) ⟨(Nat.zero_le _), (by rw [L_tpm_0]; exact hm), hS, lv_sub hl [0, 1, 2, 3, 4, 5] rfl⟩
    obtain ⟨hI_6, hm, hS, hl⟩ := hP
    refine lv_iload hx hb dX2_takePlants_57 (lv_at hl 0 rfl) ?_
    refine lv_iconst (v := (5 : Int32)) hx hb dX2_takePlants_59 (by decide) ?_
    refine lv_icmp_ge (tgt := 82) hx hb dX2_takePlants_60 (by decide) (fun c_7 => ?_) (fun c_7 => ?_)
    · have hkN : k = 5 := lp_ge (by decide) hI_6 c_7
      replace hkN := hkN.symm
      subst hkN
      refine lv_iinc (v := (1 : Int32)) (lv' := [(2, _), (5, _), (4, _), (3, _), (0, _), (1, _)]) hx hb dX2_takePlants_82 hl (k := 3) rfl (by decide) (by decide) rfl (fun ls hl => ?_)
      refine lv_goto (tgt := 36) hx hb dX2_takePlants_85 (by decide) ?_
      refine lv_iload_n hx hb dX2_takePlants_36 rfl (lv_at hl 0 rfl) ?_
      refine lv_iconst (v := (2 : Int32)) hx hb dX2_takePlants_37 (by decide) ?_
      refine lv_icmp_ge (tgt := 88) hx hb dX2_takePlants_38 (by decide) (fun c_8 => absurd c_8 (by decide)) (fun c_8 => ?_)
      refine lv_aload_n hx hb dX2_takePlants_41 rfl (lv_at hl 5 rfl) ?_
      refine lv_iload_n hx hb dX2_takePlants_42 rfl (lv_at hl 0 rfl) ?_
      refine k_callq (va_runV (As := [.int ((1 : Int32))]) (rest := []) ⟨hx, hb, hml, hown, hts⟩ (cm2_bench l E t (L_tpm t (L_tpa t M c 18) c d 5)  (d) ((1 : Int32)) hD ) (cwV 1 hts (lw_V q581 q582 q583 q59 q584) rfl rfl rfl (by decide +kernel) ⟨Nat.le_of_ble_eq_true rfl, Nat.le_of_ble_eq_true rfl⟩) (k_preV hs hm hS (mw.recv hs hm (mt_ne (lay.z hD) (by decide)) (ct2 (lay.z hD)) rfl)) rfl rfl hl.1 rfl (lv_room (Nat.le_of_ble_eq_true rfl)) dX2_takePlants_43 ⟨Nat.le_of_ble_eq_true rfl, Nat.le_of_ble_eq_true rfl⟩) hS (fun r_9 u_9 H locs hw_9 hm_9 hS => ?_)
      obtain ⟨hr_9, hu_9⟩ := hw_9
      replace hu_9 := hu_9.symm
      subst hu_9
      have hm := hm_9
      obtain ⟨n_9, hn_9⟩ : ∃ n, n = C2_bench t (L_tpm t (L_tpa t M c 18) c d 5) (d) ((1 : Int32)) := ⟨_, rfl⟩
      rw [← hn_9] at hr_9
      subst hr_9
      have hr_9 := hn_9
      clear hn_9
      obtain rfl : n_9 = (d + 8) := hr_9.trans (if_neg (by decide))
      refine lv_astore_n (lv' := [(3, _), (2, _), (5, _), (4, _), (0, _), (1, _)]) hx hb dX2_takePlants_46 rfl hl (by decide) rfl (fun ls hl => ?_)
      refine lv_aload_n hx hb dX2_takePlants_47 rfl (lv_at hl 4 rfl) ?_
      refine lv_iload_n hx hb dX2_takePlants_48 rfl (lv_at hl 1 rfl) ?_
      refine k_callq (va_runV (As := [.int ((1 : Int32))]) (rest := []) ⟨hx, hb, hml, hown, hts⟩ (cm2_bench l E t (L_tpm t (L_tpa t M c 18) c d 5)  (c) ((1 : Int32)) hL ) (cwV 1 hts (lw_V q581 q582 q583 q59 q584) rfl rfl rfl (by decide +kernel) ⟨Nat.le_of_ble_eq_true rfl, Nat.le_of_ble_eq_true rfl⟩) (k_preV hs hm hS (mw.recv hs hm (mt_ne (lay.z hL) (by decide)) (ct2 (lay.z hL)) rfl)) rfl rfl hl.1 rfl (lv_room (Nat.le_of_ble_eq_true rfl)) dX2_takePlants_49 ⟨Nat.le_of_ble_eq_true rfl, Nat.le_of_ble_eq_true rfl⟩) hS (fun r_10 u_10 H locs hw_10 hm_10 hS => ?_)
      obtain ⟨hr_10, hu_10⟩ := hw_10
      replace hu_10 := hu_10.symm
      subst hu_10
      have hm := hm_10
      obtain ⟨n_10, hn_10⟩ : ∃ n, n = C2_bench t (L_tpm t (L_tpa t M c 18) c d 5) (c) ((1 : Int32)) := ⟨_, rfl⟩
      rw [← hn_10] at hr_10
      subst hr_10
      have hr_10 := hn_10
      clear hn_10
      obtain rfl : n_10 = (c + 8) := hr_10.trans (if_neg (by decide))
      refine lv_astore (lv' := [(4, _), (3, _), (2, _), (5, _), (0, _), (1, _)]) hx hb dX2_takePlants_52 hl (by decide) rfl (fun ls hl => ?_)
      refine lv_iconst (v := (0 : Int32)) hx hb dX2_takePlants_54 (by decide) ?_
      refine lv_istore (lv' := [(5, _), (4, _), (3, _), (2, _), (0, _), (1, _)]) hx hb dX2_takePlants_55 hl (by decide) rfl (fun ls hl => ?_)
      refine k_loop (fun k => 5 - k) (fun (k : Nat) H locs ls => (k ≤ 5) ∧ mw E t ((L_tpb t (L_tpm t (L_tpa t M c 18) c d 5) c d k)) H ∧ va_S (eA E) s.heap H locs ∧ lv_has ls 6 [(5, .int (nI k)), (4, .ref ((c + 8))), (3, .ref ((d + 8))), (2, .int ((1 : Int32))), (0, .ref (c)), (1, .ref (d))]) (fun (k : Nat) ls => F0 m 57 ls []) (fun k => (0, 0)) (fun k ih_11 H locs ls hP => ?_) (0) ⟨(Nat.zero_le _), (by rw [L_tpb_0]; exact hm), hS, lv_sub hl [0, 1, 2, 3, 4, 5] rfl⟩
      obtain ⟨hI_11, hm, hS, hl⟩ := hP
      refine lv_iload hx hb dX2_takePlants_57 (lv_at hl 0 rfl) ?_
      refine lv_iconst (v := (5 : Int32)) hx hb dX2_takePlants_59 (by decide) ?_
      refine lv_icmp_ge (tgt := 82) hx hb dX2_takePlants_60 (by decide) (fun c_12 => ?_) (fun c_12 => ?_)
      · have hkN : k = 5 := lp_ge (by decide) hI_11 c_12
        replace hkN := hkN.symm
        subst hkN
        refine lv_iinc (v := (2 : Int32)) (lv' := [(2, _), (5, _), (4, _), (3, _), (0, _), (1, _)]) hx hb dX2_takePlants_82 hl (k := 3) rfl (by decide) (by decide) rfl (fun ls hl => ?_)
        refine lv_goto (tgt := 36) hx hb dX2_takePlants_85 (by decide) ?_
        refine lv_iload_n hx hb dX2_takePlants_36 rfl (lv_at hl 0 rfl) ?_
        refine lv_iconst (v := (2 : Int32)) hx hb dX2_takePlants_37 (by decide) ?_
        refine lv_icmp_ge (tgt := 88) hx hb dX2_takePlants_38 (by decide) (fun c_13 => ?_) (fun c_13 => absurd c_13 (by decide))
        refine lv_iconst (v := (0 : Int32)) hx hb dX2_takePlants_88 (by decide) ?_
        refine lv_istore_n (lv' := [(2, _), (5, _), (4, _), (3, _), (0, _), (1, _)]) hx hb dX2_takePlants_89 rfl hl (by decide) rfl (fun ls hl => ?_)
        refine k_loop (fun k => 12 - k) (fun (k : Nat) H locs ls => (k ≤ 12) ∧ mw E t ((L_tpc t (L_tpb t (L_tpm t (L_tpa t M c 18) c d 5) c d 5) c d k)) H ∧ va_S (eA E) s.heap H locs ∧ lv_has ls 6 [(2, .int (nI k)), (0, .ref (c)), (1, .ref (d))]) (fun (k : Nat) ls => F0 m 90 ls []) (fun k => (0, 0)) (fun k ih_14 H locs ls hP => ?_) (0) ⟨(Nat.zero_le _), (by rw [L_tpc_0]; exact hm), hS, lv_sub hl [0, 4, 5] rfl⟩
        obtain ⟨hI_14, hm, hS, hl⟩ := hP
        refine lv_iload_n hx hb dX2_takePlants_90 rfl (lv_at hl 0 rfl) ?_
        refine lv_bipush (v := (12 : Int32)) hx hb dX2_takePlants_91 (by decide) ?_
        refine lv_icmp_ge (tgt := 118) hx hb dX2_takePlants_93 (by decide) (fun c_15 => ?_) (fun c_15 => ?_)
        · have hkN : k = 12 := lp_ge (by decide) hI_14 c_15
          replace hkN := hkN.symm
          subst hkN
          exact W.vret hx hb hr (fun t9 ht9 _ => ⟨⟨_, rfl, (rfl).symm, hb9 ht9 hm⟩, hS.F ht9⟩) hS.2.2 dX2_takePlants_118
        · have hk : k < 12 := lp_lt (by decide) hI_14 c_15
          refine lv_aload_n hx hb dX2_takePlants_96 rfl (lv_at hl 1 rfl) ?_
          refine gf_203 hx hb hts hown hs hm (lay.z hL) (hts _ q233) dX2_takePlants_97 ?_
          refine lv_iload_n hx hb dX2_takePlants_100 rfl (lv_at hl 0 rfl) ?_
          refine lv_aload_n hx hb dX2_takePlants_101 rfl (lv_at hl 1 rfl) ?_
          refine lv_aload_n hx hb dX2_takePlants_102 rfl (lv_at hl 2 rfl) ?_
          refine gf_203 hx hb hts hown hs hm (lay.z hD) (hts _ q233) dX2_takePlants_103 ?_
          refine lv_iload_n hx hb dX2_takePlants_106 rfl (lv_at hl 0 rfl) ?_
          refine k_aald24 hx hb hs hm (lay.a4 hD) (ix.at (B := 12) (⟨k, hk, rfl⟩) (by decide)) dX2_takePlants_107 ?_
          rw [show (nI k).toNatClampNeg = k from cl_nI (by omega)]
          refine k_callq (va_runV (As := [va_rf ((aR (L_tpc t (L_tpb t (L_tpm t (L_tpa t M c 18) c d 5) c d 5) c d k) (d + 4) k))]) (rest := [.int (nI k), .ref ((c + 4))]) ⟨hx, hb, hml, hown, hts⟩ (cm2_like l E t (L_tpc t (L_tpb t (L_tpm t (L_tpa t M c 18) c d 5) c d 5) c d k)  (c) ((aR (L_tpc t (L_tpb t (L_tpm t (L_tpa t M c 18) c d 5) c d 5) c d k) (d + 4) k)) hL (tp_cr hL hD hdc hcr hk)) (cwV 1 hts (lw_V q585 q587 qs5 q59 q588) rfl rfl rfl (by decide +kernel) ⟨Nat.le_of_ble_eq_true rfl, Nat.le_of_ble_eq_true rfl⟩) (k_preV hs hm hS (mw.recv hs hm (mt_ne (lay.z hL) (by decide)) (ct2 (lay.z hL)) rfl)) rfl rfl hl.1 rfl (lv_room (Nat.le_of_ble_eq_true rfl)) dX2_takePlants_108 ⟨Nat.le_of_ble_eq_true rfl, Nat.le_of_ble_eq_true rfl⟩) hS (fun r_16 u_16 H locs hw_16 hm_16 hS => ?_)
          obtain ⟨hr_16, hu_16⟩ := hw_16
          have hm := hm_16
          refine k_aastQ24 hx hb hs hm hS (lay.a4 hL) (like_P hL hr_16) (ix.at (B := 12) (⟨k, hk, rfl⟩) (by decide)) dX2_takePlants_111 (fun H locs hm hS => ?_)
          rw [show (nI k).toNatClampNeg = k from cl_nI (by omega)] at hm
          have hm : mw E t ((wR u_16 (c + 4) (va_up (aR u_16 (c + 4)) k r_16))) H := hm
          refine lv_iinc (v := nI (k + 1)) (lv' := [(2, _), (0, _), (1, _)]) hx hb dX2_takePlants_112 hl (k := 0) rfl (nI_succ k).symm (by decide) rfl (fun ls hl => ?_)
          refine lv_goto (tgt := 90) hx hb dX2_takePlants_115 (by decide) ?_
          subst hu_16
          subst hr_16
          have hE : L_tpc t (L_tpb t (L_tpm t (L_tpa t M c 18) c d 5) c d 5) c d (k + 1) = _ := (L_tpc_s t (L_tpb t (L_tpm t (L_tpa t M c 18) c d 5) c d 5) c d k).trans (rfl)
          exact ih_14 (k + 1) (by omega) _ _ _ ⟨(by omega), (by rw [hE]; exact hm), hS, lv_sub hl [0, 1, 2] rfl⟩
      · have hk : k < 5 := lp_lt (by decide) hI_11 c_12
        refine lv_aload hx hb dX2_takePlants_63 (lv_at hl 1 rfl) ?_
        refine lv_iload hx hb dX2_takePlants_65 (lv_at hl 0 rfl) ?_
        refine lv_aload_n hx hb dX2_takePlants_67 rfl (lv_at hl 4 rfl) ?_
        refine lv_aload_n hx hb dX2_takePlants_68 rfl (lv_at hl 2 rfl) ?_
        refine lv_iload hx hb dX2_takePlants_69 (lv_at hl 0 rfl) ?_
        refine k_aald2 hx hb hs hm (Or.inr (lay.a8 hD)) (ix.at (B := 5) (⟨k, hk, rfl⟩) (by decide)) dX2_takePlants_71 ?_
        rw [show (nI k).toNatClampNeg = k from cl_nI (by omega)]
        refine k_callq (va_runV (As := [va_rf ((aR (L_tpb t (L_tpm t (L_tpa t M c 18) c d 5) c d k) (d + 8) k))]) (rest := [.int (nI k), .ref ((c + 8))]) ⟨hx, hb, hml, hown, hts⟩ (cm2_like l E t (L_tpb t (L_tpm t (L_tpa t M c 18) c d 5) c d k)  (c) ((aR (L_tpb t (L_tpm t (L_tpa t M c 18) c d 5) c d k) (d + 8) k)) hL (fun q hq => Or.inr (hm8 k hk q (by rw [tpb_aR t _ c d (d + 8) (by omega), tpm_aR t _ c d (d + 8) (by intro h9; exact absurd (hD.a8.symm.trans (h9 ▸ hL.a7)) (by decide)), tpa_aR] at hq; exact hq)))) (cwV 1 hts (lw_V q585 q587 qs5 q59 q588) rfl rfl rfl (by decide +kernel) ⟨Nat.le_of_ble_eq_true rfl, Nat.le_of_ble_eq_true rfl⟩) (k_preV hs hm hS (mw.recv hs hm (mt_ne (lay.z hL) (by decide)) (ct2 (lay.z hL)) rfl)) rfl rfl hl.1 rfl (lv_room (Nat.le_of_ble_eq_true rfl)) dX2_takePlants_72 ⟨Nat.le_of_ble_eq_true rfl, Nat.le_of_ble_eq_true rfl⟩) hS (fun r_17 u_17 H locs hw_17 hm_17 hS => ?_)
        obtain ⟨hr_17, hu_17⟩ := hw_17
        have hm := hm_17
        refine k_aastQ26 hx hb hs hm hS (lay.a8 hL) (like_4 hL (fun q hq => hm8 k hk q (by rw [tpb_aR t _ c d (d + 8) (by omega), tpm_aR t _ c d (d + 8) (by intro h9; exact absurd (hD.a8.symm.trans (h9 ▸ hL.a7)) (by decide)), tpa_aR] at hq; exact hq)) hr_17) (ix.at (B := 5) (⟨k, hk, rfl⟩) (by decide)) dX2_takePlants_75 (fun H locs hm hS => ?_)
        rw [show (nI k).toNatClampNeg = k from cl_nI (by omega)] at hm
        have hm : mw E t ((wR u_17 (c + 8) (va_up (aR u_17 (c + 8)) k r_17))) H := hm
        refine lv_iinc (v := nI (k + 1)) (lv' := [(5, _), (4, _), (3, _), (2, _), (0, _), (1, _)]) hx hb dX2_takePlants_76 hl (k := 0) rfl (nI_succ k).symm (by decide) rfl (fun ls hl => ?_)
        refine lv_goto (tgt := 57) hx hb dX2_takePlants_79 (by decide) ?_
        subst hu_17
        subst hr_17
        have hE : L_tpb t (L_tpm t (L_tpa t M c 18) c d 5) c d (k + 1) = _ := (L_tpb_s t (L_tpm t (L_tpa t M c 18) c d 5) c d k).trans (rfl)
        exact ih_11 (k + 1) (by omega) _ _ _ ⟨(by omega), (by rw [hE]; exact hm), hS, lv_sub hl [0, 1, 2, 3, 4, 5] rfl⟩
    · have hk : k < 5 := lp_lt (by decide) hI_6 c_7
      refine lv_aload hx hb dX2_takePlants_63 (lv_at hl 1 rfl) ?_
      refine lv_iload hx hb dX2_takePlants_65 (lv_at hl 0 rfl) ?_
      refine lv_aload_n hx hb dX2_takePlants_67 rfl (lv_at hl 4 rfl) ?_
      refine lv_aload_n hx hb dX2_takePlants_68 rfl (lv_at hl 2 rfl) ?_
      refine lv_iload hx hb dX2_takePlants_69 (lv_at hl 0 rfl) ?_
      refine k_aald2 hx hb hs hm (Or.inl (lay.a7 hD)) (ix.at (B := 5) (⟨k, hk, rfl⟩) (by decide)) dX2_takePlants_71 ?_
      rw [show (nI k).toNatClampNeg = k from cl_nI (by omega)]
      refine k_callq (va_runV (As := [va_rf ((aR (L_tpm t (L_tpa t M c 18) c d k) (d + 7) k))]) (rest := [.int (nI k), .ref ((c + 7))]) ⟨hx, hb, hml, hown, hts⟩ (cm2_like l E t (L_tpm t (L_tpa t M c 18) c d k)  (c) ((aR (L_tpm t (L_tpa t M c 18) c d k) (d + 7) k)) hL (fun q hq => Or.inl (hm7 k hk q (by rw [tpm_aR t _ c d (d + 7) (by omega), tpa_aR] at hq; exact hq)))) (cwV 1 hts (lw_V q585 q587 qs5 q59 q588) rfl rfl rfl (by decide +kernel) ⟨Nat.le_of_ble_eq_true rfl, Nat.le_of_ble_eq_true rfl⟩) (k_preV hs hm hS (mw.recv hs hm (mt_ne (lay.z hL) (by decide)) (ct2 (lay.z hL)) rfl)) rfl rfl hl.1 rfl (lv_room (Nat.le_of_ble_eq_true rfl)) dX2_takePlants_72 ⟨Nat.le_of_ble_eq_true rfl, Nat.le_of_ble_eq_true rfl⟩) hS (fun r_18 u_18 H locs hw_18 hm_18 hS => ?_)
      obtain ⟨hr_18, hu_18⟩ := hw_18
      have hm := hm_18
      refine k_aastQ25 hx hb hs hm hS (lay.a7 hL) (like_3 hL (fun q hq => hm7 k hk q (by rw [tpm_aR t _ c d (d + 7) (by omega), tpa_aR] at hq; exact hq)) hr_18) (ix.at (B := 5) (⟨k, hk, rfl⟩) (by decide)) dX2_takePlants_75 (fun H locs hm hS => ?_)
      rw [show (nI k).toNatClampNeg = k from cl_nI (by omega)] at hm
      have hm : mw E t ((wR u_18 (c + 7) (va_up (aR u_18 (c + 7)) k r_18))) H := hm
      refine lv_iinc (v := nI (k + 1)) (lv' := [(5, _), (4, _), (3, _), (2, _), (0, _), (1, _)]) hx hb dX2_takePlants_76 hl (k := 0) rfl (nI_succ k).symm (by decide) rfl (fun ls hl => ?_)
      refine lv_goto (tgt := 57) hx hb dX2_takePlants_79 (by decide) ?_
      subst hu_18
      subst hr_18
      have hE : L_tpm t (L_tpa t M c 18) c d (k + 1) = _ := (L_tpm_s t (L_tpa t M c 18) c d k).trans (rfl)
      exact ih_6 (k + 1) (by omega) _ _ _ ⟨(by omega), (by rw [hE]; exact hm), hS, lv_sub hl [0, 1, 2, 3, 4, 5] rfl⟩
  · have hk : k < 18 := lp_lt (by decide) hI_1 c_2
    refine lv_aload_n hx hb dX2_takePlants_8 rfl (lv_at hl 1 rfl) ?_
    refine gf_204 hx hb hts hown hs hm (lay.z hL) (hts _ q235) dX2_takePlants_9 ?_
    refine lv_iload_n hx hb dX2_takePlants_12 rfl (lv_at hl 0 rfl) ?_
    refine k_sp hx hb hs hm (lay.a5 hL) (k := k) (cl_nI (by omega)).symm (ix.at (B := 18) (⟨k, hk, rfl⟩) (by decide)) dX2_takePlants_13 ?_
    refine lv_iconst (v := (0 : Int32)) hx hb dX2_takePlants_14 (by decide) ?_
    refine pfN_302 hx hb hts hown hs hm hS (sp5_p hL hk) q137 rfl rfl dX2_takePlants_15 (fun H locs hm hS => ?_)
    have hm : mw E t ((sI (L_tpa t M c k) 302 ((c + 5) + 7 + 2 * k) (0 : Int32))) H := hm
    refine lv_aload_n hx hb dX2_takePlants_18 rfl (lv_at hl 1 rfl) ?_
    refine gf_205 hx hb hts hown hs hm (lay.z hL) (hts _ q236) dX2_takePlants_19 ?_
    refine lv_iload_n hx hb dX2_takePlants_22 rfl (lv_at hl 0 rfl) ?_
    refine k_sp hx hb hs hm (lay.a6 hL) (k := k) (cl_nI (by omega)).symm (ix.at (B := 18) (⟨k, hk, rfl⟩) (by decide)) dX2_takePlants_23 ?_
    refine lv_iconst (v := (0 : Int32)) hx hb dX2_takePlants_24 (by decide) ?_
    refine pfN_302 hx hb hts hown hs hm hS (sp6_p hL hk) q137 rfl rfl dX2_takePlants_25 (fun H locs hm hS => ?_)
    have hm : mw E t ((sI (sI (L_tpa t M c k) 302 ((c + 5) + 7 + 2 * k) (0 : Int32)) 302 ((c + 6) + 7 + 2 * k) (0 : Int32))) H := hm
    refine lv_iinc (v := nI (k + 1)) (lv' := [(2, _), (0, _), (1, _)]) hx hb dX2_takePlants_28 hl (k := 0) rfl (nI_succ k).symm (by decide) rfl (fun ls hl => ?_)
    refine lv_goto (tgt := 2) hx hb dX2_takePlants_31 (by decide) ?_
    have hE : L_tpa t M c (k + 1) = _ := (L_tpa_s t M c k).trans (rfl)
    exact ih_1 (k + 1) (by omega) _ _ _ ⟨(by omega), (by rw [hE]; exact hm), hS, lv_sub hl [0, 1, 2] rfl⟩
