set_option maxRecDepth 100000
/-! StringBuilder: append of a char; CliffPlots.append -/
/-- a letter more -/
def apR (t : mt) (M : mm) (c k : Nat) (x : Int32) (S : mt × mm) : Prop := (∀ a, (t a).1 ≠ 0 → S.1 a = t a) ∧ (∀ b, (t b).1 ≠ 0 → b ≠ c → b ≠ gN M 1100 c → smC M S.2 b) ∧ (gN S.2 1100 c = gN M 1100 c ∨ (t (gN S.2 1100 c)).1 = 0) ∧ ∃ n', sbB S.1 S.2 c n' (k + 1) ∧ (∀ i, i < k → ltr S.2 c i = ltr M c i) ∧ ltr S.2 c k = x
/-- what stands ahead of the store -/
def preR (t : mt) (M : mm) (c k n' : Nat) (u : mt) (N : mm) : Prop := (∀ a, (t a).1 ≠ 0 → u a = t a) ∧ (∀ b, (t b).1 ≠ 0 → b ≠ c → smC M N b) ∧ (gN N 1100 c = gN M 1100 c ∨ (t (gN N 1100 c)).1 = 0) ∧ sbB u N c n' k ∧ (k + 1) * czw N c ≤ n' ∧ (∀ i, i < k → ltr N c i = ltr M c i)
theorem pre_gr {t : mt} {M : mm} {c k n : Nat} {S : mt × mm} (g1 : ∀ a, (t a).1 ≠ 0 → S.1 a = t a) (g2 : ∀ b, (t b).1 ≠ 0 → b ≠ c → smC M S.2 b) (g3 : gN S.2 1100 c = gN M 1100 c ∨ (t (gN S.2 1100 c)).1 = 0) (g4 : ∀ f, gI S.2 f c = gI M f c) (hB : sbB S.1 S.2 c n k) (g5 : (k + 1) * czw M c ≤ n) (g6 : ∀ i, i < k → ltr S.2 c i = ltr M c i) : preR t M c k n S.1 S.2 := ⟨g1, g2, g3, hB, by unfold czw at g5 ⊢; rw [g4]; exact g5, g6⟩
theorem pre_in {t u : mt} {M N : mm} {c k n : Nat} (h : preR t M c k n u N) (hz : gI N 1101 c = 0) {S : mt × mm} (hi : inR u N c k S) : ∃ n', preR t M c k n' S.1 S.2 ∧ gI S.2 1101 c = 1 := by
  obtain ⟨g1, g2, g3, hB, g5, g6⟩ := h
  obtain ⟨i1, i2, i3, i4, n', i5, i6, i7⟩ := hi
  have hn : (t c).1 ≠ 0 ∨ (t c).1 = 0 := by omega
  refine ⟨n', ⟨fun a ha => (i1 a (by rw [g1 a ha]; exact ha)).trans (g1 a ha), fun b hb hbc => (g2 b hb hbc).tr (i2 b (by rw [g1 b hb]; exact hb) hbc), .inr ?_, i5, ?_, fun i hi => (i7 i hi).trans (g6 i hi)⟩, i4⟩
  · by_cases e : (t (gN S.2 1100 c)).1 = 0
    · exact e
    · rw [g1 _ e] at i3; exact absurd i3 e
  · rw [i6 n hB, show czw S.2 c = 2 from if_neg (by rw [i4]; decide)]
    rw [show czw N c = 1 from if_pos hz] at g5
    omega
theorem pre_8 {t u : mt} {M N : mm} {c k n j : Nat} (h : preR t M c k n u N) (hz : gI N 1101 c = 0) (hk : k < 60) (hj : j < 256) : apR t M c k (nI j) (u, wI (sI N 1103 c (gI N 1103 c + (1 : Int32))) (gN N 1100 c) (upd (aI N (gN N 1100 c)) (gI N 1103 c).toNatClampNeg (vp_nar .byte ((nI j).toInt8.toInt32)))) := by
  obtain ⟨g1, g2, g3, ⟨⟨b1, b2, b3, b4, b5⟩, b6, b7, b8⟩, g5, g6⟩ := h
  rw [show czw N c = 1 from if_pos hz] at g5
  rw [b4, cl_nI (by omega), nI_1]
  generalize hW : wI (sI N 1103 c (nI (k + 1))) (gN N 1100 c) (upd (aI N (gN N 1100 c)) k (vp_nar .byte ((nI j).toInt8.toInt32))) = W
  have eN : gN W 1100 c = gN N 1100 c := by rw [← hW]; rfl
  have eZ : gI W 1101 c = gI N 1101 c := by rw [← hW]; exact gI_sI_f N c c (nI (k + 1)) (show (1101 : Nat) ≠ 1103 by decide)
  have eC : gI W 1103 c = nI (k + 1) := by rw [← hW]; exact m2_at _ _ _ _
  have eA : aI W (gN N 1100 c) = upd (aI N (gN N 1100 c)) k (vp_nar .byte ((nI j).toInt8.toInt32)) := by rw [← hW]; exact m1_at _ _ _
  refine ⟨g1, fun b hb hbc hba => ?_, by rw [eN]; exact g3, n, ⟨⟨b1, by rw [eN]; exact b2, b3, eC, ?_⟩, ?_, b7, by rw [eZ]; exact b8⟩, fun i hi => ?_, ?_⟩
  · rw [← hW]
    refine ((g2 b hb hbc).tr (smC.sI _ hbc)).tr (smC.wI _ ?_)
    rcases g3 with h9 | h9
    · rw [h9]; exact hba
    · intro e; rw [← e] at h9; exact hb h9
  · rw [eZ]; exact .inl ⟨hz, by omega⟩
  · rw [eN]
    intro i hi
    rw [eA]
    unfold upd
    (try dsimp only)
    split
    · rw [nar8]; exact pk_fb _
    · exact b6 i hi
  · rw [← g6 i hi]
    unfold ltr
    rw [eZ, eN, eA, if_pos hz, if_pos hz]
    exact l8_cg (pk_un (by omega))
  · unfold ltr
    rw [eZ, eN, eA, if_pos hz]
    exact l8_at hj _ _
theorem pre_16 {t u : mt} {M N : mm} {c k n j : Nat} (h : preR t M c k n u N) (hz : gI N 1101 c = 1) (hk : k < 60) (hj : j < 65536) (t0 : mt) : apR t M c k (nI j) (u, CJ5_putCharSB t0 (sI N 1103 c (gI N 1103 c + (1 : Int32))) (gN N 1100 c) (gI N 1103 c) (nI j)) := by
  obtain ⟨g1, g2, g3, ⟨⟨b1, b2, b3, b4, b5⟩, b6, b7, b8⟩, g5, g6⟩ := h
  rw [show czw N c = 2 from if_neg (by rw [hz]; decide)] at g5
  rw [show CJ5_putCharSB t0 (sI N 1103 c (gI N 1103 c + (1 : Int32))) (gN N 1100 c) (gI N 1103 c) (nI j) = CJ5_putChar t0 (sI N 1103 c (gI N 1103 c + (1 : Int32))) (gN N 1100 c) (gI N 1103 c) (nI j) from rfl, put_eq, b4, cl_nI (by omega), nI_1]
  show apR t M c k (nI j) (u, wI (sI N 1103 c (nI (k + 1))) (gN N 1100 c) (put16 (aI N (gN N 1100 c)) k (nI j)))
  generalize hW : wI (sI N 1103 c (nI (k + 1))) (gN N 1100 c) (put16 (aI N (gN N 1100 c)) k (nI j)) = W
  have eN : gN W 1100 c = gN N 1100 c := by rw [← hW]; rfl
  have eZ : gI W 1101 c = gI N 1101 c := by rw [← hW]; exact gI_sI_f N c c (nI (k + 1)) (show (1101 : Nat) ≠ 1103 by decide)
  have eC : gI W 1103 c = nI (k + 1) := by rw [← hW]; exact m2_at _ _ _ _
  have eA : aI W (gN N 1100 c) = put16 (aI N (gN N 1100 c)) k (nI j) := by rw [← hW]; exact m1_at _ _ _
  refine ⟨g1, fun b hb hbc hba => ?_, by rw [eN]; exact g3, n, ⟨⟨b1, by rw [eN]; exact b2, b3, eC, ?_⟩, ?_, b7, by rw [eZ]; exact b8⟩, fun i hi => ?_, ?_⟩
  · rw [← hW]
    refine ((g2 b hb hbc).tr (smC.sI _ hbc)).tr (smC.wI _ ?_)
    rcases g3 with h9 | h9
    · rw [h9]; exact hba
    · intro e; rw [← e] at h9; exact hb h9
  · rw [eZ]; exact .inr ⟨hz, by omega⟩
  · rw [eN]
    intro i hi
    rw [eA]
    exact put_bytes b6 i hi
  · rw [← g6 i hi]
    unfold ltr
    rw [eZ, eN, eA, if_neg (by rw [hz]; decide), if_neg (by rw [hz]; decide)]
    exact l16_ne (by omega) _ _
  · unfold ltr
    rw [eZ, eN, eA, if_neg (by rw [hz]; decide)]
    exact l16_at hj _ _
theorem enc_lt {t : mt} {M : mm} {r : Int32} {j : Nat} (hj : j < 65536) (hr : r = CJ20_canEncode t M (nI j)) (hc : ¬ r = 0) : j < 256 := by
  rcases Nat.lt_or_ge j 256 with h | h
  · exact h
  · exfalso
    apply hc
    rw [hr]
    exact if_pos (nI_lt (a := 255) (by omega) (by omega))
theorem pre_in8 {t u : mt} {M N : mm} {c k n : Nat} (h : preR t M c k n u N) (hk : k < 60) : vp_in (gI N 1103 c) n := by
  obtain ⟨-, -, -, hB, g5, -⟩ := h
  have := (cz_pos hB.1).2.1
  have h2 : k + 1 ≤ n := Nat.le_trans (Nat.le_mul_of_pos_right _ this) g5
  rw [hB.1.2.2.2.1]
  exact vi k (by omega) (by have := hB.2.2.1; omega)
theorem pre_x1 {t u : mt} {M N : mm} {c k n : Nat} (h : preR t M c k n u N) (hk : k < 60) : ix 40000 (gI N 1103 c) := ⟨k, by omega, h.2.2.2.1.1.2.2.2.1⟩
theorem pre_x2 {t u : mt} {M N : mm} {c k n : Nat} (h : preR t M c k n u N) (hz : gI N 1101 c = 1) (hk : k < 60) : 2 * (gI N 1103 c).toNatClampNeg + 1 < n := by
  obtain ⟨-, -, -, hB, g5, -⟩ := h
  rw [show czw N c = 2 from if_neg (by rw [hz]; decide)] at g5
  rw [hB.1.2.2.2.1, cl_nI (by omega)]
  omega
theorem cz_1 {t : mt} {M : mm} {c n k : Nat} (hB : sbB t M c n k) (h : ¬ gI M 1101 c = 0) : gI M 1101 c = 1 := by
  rcases cz_or hB.1 with ⟨g, -⟩ | ⟨g, -⟩
  · exact absurd g h
  · exact g
set_option maxHeartbeats 4000000 in
theorem cmJ2_append (l : Launch) (E : mE) (t : mt) (M : mm) (c n k j : Nat) (hB : sbB t M c n k) (hk : k < 60) (hj : j < 65536) : Met l yJ2_append (ws_ yJ2_append cJ2_append 2 (some (.object "java/lang/AbstractStringBuilder"))) ({ frames := 6, cells := 2, slots := 1000, locals := 137 }) (va_Pc [.ref c, .int (nI j)] (wP E t M)) (va_Qr (fun (S : mt × mm) => apR t M c k (nI j) S) (fun S r U => r = c ∧ mw E S.1 S.2 U.heap) (eA E)) 2 1000 (eA E) := by
  refine Met.ofW (cc := cJ2_append) (maxL := 2) (ret := (some (.object "java/lang/AbstractStringBuilder"))) (by decide) rfl ?_
  intro p e s m args below meth c0 s₁ B hml hv
  obtain ⟨rfl, hs, hm⟩ := hv
  have hx := B.exec
  have hb := B.bytes
  have hr := B.returns
  have hts := atoms_spec (ws := ws_ yJ2_append cJ2_append 2 (some (.object "java/lang/AbstractStringBuilder"))) B.pre
  have hts : ∀ w ∈ lw_all, w.before _ s = true := fun w h => hts w (List.mem_cons_of_mem _ h)
  have hown : s.vm.findClass RJ2 = some m.cls := findClass_of_methodNamed B.named
  have hlocks := B.notSynchronized
  have hS : va_S (eA E) s.heap s.heap [] := va_S.rf
  have hl := lv_entry ([.ref c, .int (nI j)]) (n := 2) (Nat.le_of_ble_eq_true rfl)
  rw [lg_entry_eq]
  generalize (lg_sl ([.ref c, .int (nI j)]) ++ List.replicate (2 - (lg_sl ([.ref c, .int (nI j)])).length) Slot.unset).toArray = ls at hl ⊢
  have hl : lv_has ls 2 [(0, .ref (c)), (1, .int ((nI j)))] := hl
  refine lv_aload_n hx hb dJ2_append_0 rfl (lv_at hl 0 rfl) ?_
  refine lv_aload_n hx hb dJ2_append_1 rfl (lv_at hl 0 rfl) ?_
  refine gf_1103 hx hb hts hown hs hm hB.1.1 (hts _ q349) dJ2_append_2 ?_
  refine lv_iconst (v := (1 : Int32)) hx hb dJ2_append_5 (by decide) ?_
  refine lv_iadd hx hb dJ2_append_6 ?_
  rw [show gI M 1103 c + (1 : Int32) = nI (k + 1) from by rw [hB.1.2.2.2.1]; exact nI_1 k]
  refine k_callv (S := mt × mm) (B := fun S H => mw E S.1 S.2 H) (va_runU (As := [.int ((nI (k + 1)))]) (rest := []) ⟨hx, hb, hml, hown, hts⟩ (cmJ2_ensureG l E t M c n k hB (by omega)) (cwP 1 hts (lw_meth q1274) rfl rfl rfl (hts _ q1271) (hts _ q2093) (selP (z := yJ2_isLatin1) (by decide +kernel) rfl (hts _ q1299) (hs.2.2.1.at q1272 rfl rfl) (hts _ q1273)) (hts _ q1273) (hts _ q68) (by decide +kernel) ⟨Nat.le_of_ble_eq_true rfl, Nat.le_of_ble_eq_true rfl⟩) (k_preV hs hm hS (mw.recv hs hm (mt_ne hB.1.1 (by decide)) (ct11 hB.1.1) rfl)) rfl rfl hl.1 rfl (lv_room (Nat.le_of_ble_eq_true rfl)) dJ2_append_7 ⟨Nat.le_of_ble_eq_true rfl, Nat.le_of_ble_eq_true rfl⟩) hS (fun u_1 H locs hg_1 hm hS => ?_)
  obtain ⟨g1_1, g2_1, g3_1, g4_1, n_1, hB_1, g5_1, g6_1⟩ := hg_1
  have hp_1 := pre_gr g1_1 g2_1 g3_1 g4_1 hB_1 g5_1 g6_1
  refine lv_aload_n hx hb dJ2_append_10 rfl (lv_at hl 0 rfl) ?_
  refine k_calli (va_runU (As := []) (rest := []) ⟨hx, hb, hml, hown, hts⟩ (cmJ2_isLatin1 l E u_1.1 u_1.2  (c)  hB_1.1.1 ) (va_cwU 0 hts (lw_U q1296 q1298 q1299 q1297 q68 q1300) rfl rfl rfl rfl (by decide +kernel) ⟨Nat.le_of_ble_eq_true rfl, Nat.le_of_ble_eq_true rfl⟩) (k_preV hs hm hS (mw.recv hs hm (mt_ne hB_1.1.1 (by decide)) (ct11 hB_1.1.1) rfl)) rfl rfl hl.1 rfl (lv_room (Nat.le_of_ble_eq_true rfl)) dJ2_append_11 ⟨Nat.le_of_ble_eq_true rfl, Nat.le_of_ble_eq_true rfl⟩) hS (fun r_2 u_2 H locs hw_2 hm_2 hS => ?_)
  obtain ⟨hr_2, hu_2⟩ := hw_2
  replace hu_2 := hu_2.symm
  subst hu_2
  have hm := hm_2
  refine lv_if_eq (tgt := 45) hx hb dJ2_append_14 (by decide) (fun c_3 => ?_) (fun c_3 => ?_)
  · refine lv_aload_n hx hb dJ2_append_45 rfl (lv_at hl 0 rfl) ?_
    refine k_calli (va_runU (As := []) (rest := []) ⟨hx, hb, hml, hown, hts⟩ (cmJ2_isLatin1 l E u_1.1 u_1.2  (c)  hB_1.1.1 ) (va_cwU 0 hts (lw_U q1296 q1298 q1299 q1297 q68 q1300) rfl rfl rfl rfl (by decide +kernel) ⟨Nat.le_of_ble_eq_true rfl, Nat.le_of_ble_eq_true rfl⟩) (k_preV hs hm hS (mw.recv hs hm (mt_ne hB_1.1.1 (by decide)) (ct11 hB_1.1.1) rfl)) rfl rfl hl.1 rfl (lv_room (Nat.le_of_ble_eq_true rfl)) dJ2_append_46 ⟨Nat.le_of_ble_eq_true rfl, Nat.le_of_ble_eq_true rfl⟩) hS (fun r_4 u_4 H locs hw_4 hm_4 hS => ?_)
    obtain ⟨hr_4, hu_4⟩ := hw_4
    replace hu_4 := hu_4.symm
    subst hu_4
    have hm := hm_4
    refine lv_if_eq (tgt := 56) hx hb dJ2_append_49 (by decide) (fun c_5 => ?_) (fun c_5 => ?_)
    · refine lv_aload_n hx hb dJ2_append_56 rfl (lv_at hl 0 rfl) ?_
      refine gf_1100 hx hb hts hown hs hm hB_1.1.1 (hts _ q345) dJ2_append_57 ?_
      refine lv_aload_n hx hb dJ2_append_60 rfl (lv_at hl 0 rfl) ?_
      refine lv_dup hx hb dJ2_append_61 rfl ?_
      refine gf_1103 hx hb hts hown hs hm hB_1.1.1 (hts _ q349) dJ2_append_62 ?_
      refine lv_dup_x1 hx hb dJ2_append_65 rfl rfl ?_
      refine lv_iconst (v := (1 : Int32)) hx hb dJ2_append_66 (by decide) ?_
      refine lv_iadd hx hb dJ2_append_67 ?_
      refine pf_1103 hx hb hts hown hs hm hS hB_1.1.1 (hts _ q349) dJ2_append_68 (fun H locs hm hS => ?_)
      have hm : mw E u_1.1 ((sI u_1.2 1103 c ((gI u_1.2 1103 c) + (1 : Int32)))) H := hm
      refine lv_iload_n hx hb dJ2_append_71 rfl (lv_at hl 1 rfl) ?_
      refine k_callv (va_runS (As := [.ref ((gN u_1.2 1100 c)), .int ((gI u_1.2 1103 c)), .int ((nI j))]) (rest := []) ⟨hx, hb, hml, hown, hts⟩ (cmJ5_putCharSB l E u_1.1 (sI u_1.2 1103 c ((gI u_1.2 1103 c) + (1 : Int32)))  ((gN u_1.2 1100 c)) ((gI u_1.2 1103 c)) ((nI j)) n_1 hB_1.1.2.1 hB_1.1.2.2.1 (pre_x1 hp_1 hk) (pre_x2 hp_1 (cz_1 hB_1 (isl_1 hr_4 c_5)) hk)) (va_cwS 3 hts (lw_S q1337 q1338 q71 q1339) rfl rfl rfl (by decide +kernel) ⟨Nat.le_of_ble_eq_true rfl, Nat.le_of_ble_eq_true rfl⟩) (k_preS hs hm hS) rfl rfl hl.1 rfl (lv_room (Nat.le_of_ble_eq_true rfl)) dJ2_append_72 ⟨Nat.le_of_ble_eq_true rfl, Nat.le_of_ble_eq_true rfl⟩) hS (fun u_6 H locs hw_6 hm_6 hS => ?_)
      have hu_6 := hw_6
      have hm := hm_6
      refine lv_aload_n hx hb dJ2_append_75 rfl (lv_at hl 0 rfl) ?_
      refine W.widen (k := 2) (n := 1000) (Nat.le_of_ble_eq_true rfl) (Nat.le_of_ble_eq_true rfl) ?_
      subst hu_6
      exact W.aret (v := _) hx hb hr (Or.inl ⟨_, rfl⟩) (Or.inr ⟨_, rfl⟩) (fun t9 ht9 _ => ⟨⟨(u_1.1, _), c, rfl, (pre_16 hp_1 (cz_1 hB_1 (isl_1 hr_4 c_5)) hk hj u_1.1), rfl, hb9 (B := fun H9 => mw E _ _ H9) ht9 hm⟩, hS.F ht9⟩) hS.2.2 dJ2_append_76
    · refine lv_aload_n hx hb dJ2_append_52 rfl (lv_at hl 0 rfl) ?_
      have hz_7 := isl_0 hr_4 c_5
      refine k_callv (S := mt × mm) (B := fun S H => mw E S.1 S.2 H) (va_runU (As := []) (rest := []) ⟨hx, hb, hml, hown, hts⟩ (cmJ2_inflate l E u_1.1 u_1.2 c n_1 k hB_1 (by omega) hz_7) (cwP 0 hts (lw_meth q1307) rfl rfl rfl (hts _ q1304) (hts _ q2095) (selP (z := yJ2_isLatin1) (by decide +kernel) rfl (hts _ q1299) (hs.2.2.1.at q1305 rfl rfl) (hts _ q1306)) (hts _ q1306) (hts _ q68) (by decide +kernel) ⟨Nat.le_of_ble_eq_true rfl, Nat.le_of_ble_eq_true rfl⟩) (k_preV hs hm hS (mw.recv hs hm (mt_ne hB_1.1.1 (by decide)) (ct11 hB_1.1.1) rfl)) rfl rfl hl.1 rfl (lv_room (Nat.le_of_ble_eq_true rfl)) dJ2_append_53 ⟨Nat.le_of_ble_eq_true rfl, Nat.le_of_ble_eq_true rfl⟩) hS (fun u_7 H locs hg_7 hm hS => ?_)
      obtain ⟨n_7, hp_7, hz1_7⟩ := pre_in hp_1 hz_7 hg_7
      have hB_7 := hp_7.2.2.2.1
      refine lv_aload_n hx hb dJ2_append_56 rfl (lv_at hl 0 rfl) ?_
      refine gf_1100 hx hb hts hown hs hm hB_7.1.1 (hts _ q345) dJ2_append_57 ?_
      refine lv_aload_n hx hb dJ2_append_60 rfl (lv_at hl 0 rfl) ?_
      refine lv_dup hx hb dJ2_append_61 rfl ?_
      refine gf_1103 hx hb hts hown hs hm hB_7.1.1 (hts _ q349) dJ2_append_62 ?_
      refine lv_dup_x1 hx hb dJ2_append_65 rfl rfl ?_
      refine lv_iconst (v := (1 : Int32)) hx hb dJ2_append_66 (by decide) ?_
      refine lv_iadd hx hb dJ2_append_67 ?_
      refine pf_1103 hx hb hts hown hs hm hS hB_7.1.1 (hts _ q349) dJ2_append_68 (fun H locs hm hS => ?_)
      have hm : mw E u_7.1 ((sI u_7.2 1103 c ((gI u_7.2 1103 c) + (1 : Int32)))) H := hm
      refine lv_iload_n hx hb dJ2_append_71 rfl (lv_at hl 1 rfl) ?_
      refine k_callv (va_runS (As := [.ref ((gN u_7.2 1100 c)), .int ((gI u_7.2 1103 c)), .int ((nI j))]) (rest := []) ⟨hx, hb, hml, hown, hts⟩ (cmJ5_putCharSB l E u_7.1 (sI u_7.2 1103 c ((gI u_7.2 1103 c) + (1 : Int32)))  ((gN u_7.2 1100 c)) ((gI u_7.2 1103 c)) ((nI j)) n_7 hB_7.1.2.1 hB_7.1.2.2.1 (pre_x1 hp_7 hk) (pre_x2 hp_7 hz1_7 hk)) (va_cwS 3 hts (lw_S q1337 q1338 q71 q1339) rfl rfl rfl (by decide +kernel) ⟨Nat.le_of_ble_eq_true rfl, Nat.le_of_ble_eq_true rfl⟩) (k_preS hs hm hS) rfl rfl hl.1 rfl (lv_room (Nat.le_of_ble_eq_true rfl)) dJ2_append_72 ⟨Nat.le_of_ble_eq_true rfl, Nat.le_of_ble_eq_true rfl⟩) hS (fun u_8 H locs hw_8 hm_8 hS => ?_)
      have hu_8 := hw_8
      have hm := hm_8
      refine lv_aload_n hx hb dJ2_append_75 rfl (lv_at hl 0 rfl) ?_
      refine W.widen (k := 2) (n := 1000) (Nat.le_of_ble_eq_true rfl) (Nat.le_of_ble_eq_true rfl) ?_
      subst hu_8
      exact W.aret (v := _) hx hb hr (Or.inl ⟨_, rfl⟩) (Or.inr ⟨_, rfl⟩) (fun t9 ht9 _ => ⟨⟨(u_7.1, _), c, rfl, (pre_16 hp_7 hz1_7 hk hj u_7.1), rfl, hb9 (B := fun H9 => mw E _ _ H9) ht9 hm⟩, hS.F ht9⟩) hS.2.2 dJ2_append_76
  · refine lv_iload_n hx hb dJ2_append_17 rfl (lv_at hl 1 rfl) ?_
    refine k_calli (va_runS (As := [.int ((nI j))]) (rest := []) ⟨hx, hb, hml, hown, hts⟩ (cmJ20_canEncode l E u_1.1 u_1.2  ((nI j)) ) (va_cwS 1 hts (lw_S q1301 q1302 q91 q1303) rfl rfl rfl (by decide +kernel) ⟨Nat.le_of_ble_eq_true rfl, Nat.le_of_ble_eq_true rfl⟩) (k_preS hs hm hS) rfl rfl hl.1 rfl (lv_room (Nat.le_of_ble_eq_true rfl)) dJ2_append_18 ⟨Nat.le_of_ble_eq_true rfl, Nat.le_of_ble_eq_true rfl⟩) hS (fun r_9 u_9 H locs hw_9 hm_9 hS => ?_)
    obtain ⟨hr_9, hu_9⟩ := hw_9
    replace hu_9 := hu_9.symm
    subst hu_9
    have hm := hm_9
    refine lv_if_eq (tgt := 45) hx hb dJ2_append_21 (by decide) (fun c_10 => ?_) (fun c_10 => ?_)
    · refine lv_aload_n hx hb dJ2_append_45 rfl (lv_at hl 0 rfl) ?_
      refine k_calli (va_runU (As := []) (rest := []) ⟨hx, hb, hml, hown, hts⟩ (cmJ2_isLatin1 l E u_1.1 u_1.2  (c)  hB_1.1.1 ) (va_cwU 0 hts (lw_U q1296 q1298 q1299 q1297 q68 q1300) rfl rfl rfl rfl (by decide +kernel) ⟨Nat.le_of_ble_eq_true rfl, Nat.le_of_ble_eq_true rfl⟩) (k_preV hs hm hS (mw.recv hs hm (mt_ne hB_1.1.1 (by decide)) (ct11 hB_1.1.1) rfl)) rfl rfl hl.1 rfl (lv_room (Nat.le_of_ble_eq_true rfl)) dJ2_append_46 ⟨Nat.le_of_ble_eq_true rfl, Nat.le_of_ble_eq_true rfl⟩) hS (fun r_11 u_11 H locs hw_11 hm_11 hS => ?_)
      obtain ⟨hr_11, hu_11⟩ := hw_11
      replace hu_11 := hu_11.symm
      subst hu_11
      have hm := hm_11
      refine lv_if_eq (tgt := 56) hx hb dJ2_append_49 (by decide) (fun c_12 => ?_) (fun c_12 => ?_)
      · refine lv_aload_n hx hb dJ2_append_56 rfl (lv_at hl 0 rfl) ?_
        refine gf_1100 hx hb hts hown hs hm hB_1.1.1 (hts _ q345) dJ2_append_57 ?_
        refine lv_aload_n hx hb dJ2_append_60 rfl (lv_at hl 0 rfl) ?_
        refine lv_dup hx hb dJ2_append_61 rfl ?_
        refine gf_1103 hx hb hts hown hs hm hB_1.1.1 (hts _ q349) dJ2_append_62 ?_
        refine lv_dup_x1 hx hb dJ2_append_65 rfl rfl ?_
        refine lv_iconst (v := (1 : Int32)) hx hb dJ2_append_66 (by decide) ?_
        refine lv_iadd hx hb dJ2_append_67 ?_
        refine pf_1103 hx hb hts hown hs hm hS hB_1.1.1 (hts _ q349) dJ2_append_68 (fun H locs hm hS => ?_)
        have hm : mw E u_1.1 ((sI u_1.2 1103 c ((gI u_1.2 1103 c) + (1 : Int32)))) H := hm
        refine lv_iload_n hx hb dJ2_append_71 rfl (lv_at hl 1 rfl) ?_
        refine k_callv (va_runS (As := [.ref ((gN u_1.2 1100 c)), .int ((gI u_1.2 1103 c)), .int ((nI j))]) (rest := []) ⟨hx, hb, hml, hown, hts⟩ (cmJ5_putCharSB l E u_1.1 (sI u_1.2 1103 c ((gI u_1.2 1103 c) + (1 : Int32)))  ((gN u_1.2 1100 c)) ((gI u_1.2 1103 c)) ((nI j)) n_1 hB_1.1.2.1 hB_1.1.2.2.1 (pre_x1 hp_1 hk) (pre_x2 hp_1 (cz_1 hB_1 (isl_1 hr_11 c_12)) hk)) (va_cwS 3 hts (lw_S q1337 q1338 q71 q1339) rfl rfl rfl (by decide +kernel) ⟨Nat.le_of_ble_eq_true rfl, Nat.le_of_ble_eq_true rfl⟩) (k_preS hs hm hS) rfl rfl hl.1 rfl (lv_room (Nat.le_of_ble_eq_true rfl)) dJ2_append_72 ⟨Nat.le_of_ble_eq_true rfl, Nat.le_of_ble_eq_true rfl⟩) hS (fun u_13 H locs hw_13 hm_13 hS => ?_)
        have hu_13 := hw_13
        have hm := hm_13
        refine lv_aload_n hx hb dJ2_append_75 rfl (lv_at hl 0 rfl) ?_
        refine W.widen (k := 2) (n := 1000) (Nat.le_of_ble_eq_true rfl) (Nat.le_of_ble_eq_true rfl) ?_
        subst hu_13
        exact W.aret (v := _) hx hb hr (Or.inl ⟨_, rfl⟩) (Or.inr ⟨_, rfl⟩) (fun t9 ht9 _ => ⟨⟨(u_1.1, _), c, rfl, (pre_16 hp_1 (cz_1 hB_1 (isl_1 hr_11 c_12)) hk hj u_1.1), rfl, hb9 (B := fun H9 => mw E _ _ H9) ht9 hm⟩, hS.F ht9⟩) hS.2.2 dJ2_append_76
      · refine lv_aload_n hx hb dJ2_append_52 rfl (lv_at hl 0 rfl) ?_
        have hz_14 := isl_0 hr_11 c_12
        refine k_callv (S := mt × mm) (B := fun S H => mw E S.1 S.2 H) (va_runU (As := []) (rest := []) ⟨hx, hb, hml, hown, hts⟩ (cmJ2_inflate l E u_1.1 u_1.2 c n_1 k hB_1 (by omega) hz_14) (cwP 0 hts (lw_meth q1307) rfl rfl rfl (hts _ q1304) (hts _ q2095) (selP (z := yJ2_isLatin1) (by decide +kernel) rfl (hts _ q1299) (hs.2.2.1.at q1305 rfl rfl) (hts _ q1306)) (hts _ q1306) (hts _ q68) (by decide +kernel) ⟨Nat.le_of_ble_eq_true rfl, Nat.le_of_ble_eq_true rfl⟩) (k_preV hs hm hS (mw.recv hs hm (mt_ne hB_1.1.1 (by decide)) (ct11 hB_1.1.1) rfl)) rfl rfl hl.1 rfl (lv_room (Nat.le_of_ble_eq_true rfl)) dJ2_append_53 ⟨Nat.le_of_ble_eq_true rfl, Nat.le_of_ble_eq_true rfl⟩) hS (fun u_14 H locs hg_14 hm hS => ?_)
        obtain ⟨n_14, hp_14, hz1_14⟩ := pre_in hp_1 hz_14 hg_14
        have hB_14 := hp_14.2.2.2.1
        refine lv_aload_n hx hb dJ2_append_56 rfl (lv_at hl 0 rfl) ?_
        refine gf_1100 hx hb hts hown hs hm hB_14.1.1 (hts _ q345) dJ2_append_57 ?_
        refine lv_aload_n hx hb dJ2_append_60 rfl (lv_at hl 0 rfl) ?_
        refine lv_dup hx hb dJ2_append_61 rfl ?_
        refine gf_1103 hx hb hts hown hs hm hB_14.1.1 (hts _ q349) dJ2_append_62 ?_
        refine lv_dup_x1 hx hb dJ2_append_65 rfl rfl ?_
        refine lv_iconst (v := (1 : Int32)) hx hb dJ2_append_66 (by decide) ?_
        refine lv_iadd hx hb dJ2_append_67 ?_
        refine pf_1103 hx hb hts hown hs hm hS hB_14.1.1 (hts _ q349) dJ2_append_68 (fun H locs hm hS => ?_)
        have hm : mw E u_14.1 ((sI u_14.2 1103 c ((gI u_14.2 1103 c) + (1 : Int32)))) H := hm
        refine lv_iload_n hx hb dJ2_append_71 rfl (lv_at hl 1 rfl) ?_
        refine k_callv (va_runS (As := [.ref ((gN u_14.2 1100 c)), .int ((gI u_14.2 1103 c)), .int ((nI j))]) (rest := []) ⟨hx, hb, hml, hown, hts⟩ (cmJ5_putCharSB l E u_14.1 (sI u_14.2 1103 c ((gI u_14.2 1103 c) + (1 : Int32)))  ((gN u_14.2 1100 c)) ((gI u_14.2 1103 c)) ((nI j)) n_14 hB_14.1.2.1 hB_14.1.2.2.1 (pre_x1 hp_14 hk) (pre_x2 hp_14 hz1_14 hk)) (va_cwS 3 hts (lw_S q1337 q1338 q71 q1339) rfl rfl rfl (by decide +kernel) ⟨Nat.le_of_ble_eq_true rfl, Nat.le_of_ble_eq_true rfl⟩) (k_preS hs hm hS) rfl rfl hl.1 rfl (lv_room (Nat.le_of_ble_eq_true rfl)) dJ2_append_72 ⟨Nat.le_of_ble_eq_true rfl, Nat.le_of_ble_eq_true rfl⟩) hS (fun u_15 H locs hw_15 hm_15 hS => ?_)
        have hu_15 := hw_15
        have hm := hm_15
        refine lv_aload_n hx hb dJ2_append_75 rfl (lv_at hl 0 rfl) ?_
        refine W.widen (k := 2) (n := 1000) (Nat.le_of_ble_eq_true rfl) (Nat.le_of_ble_eq_true rfl) ?_
        subst hu_15
        exact W.aret (v := _) hx hb hr (Or.inl ⟨_, rfl⟩) (Or.inr ⟨_, rfl⟩) (fun t9 ht9 _ => ⟨⟨(u_14.1, _), c, rfl, (pre_16 hp_14 hz1_14 hk hj u_14.1), rfl, hb9 (B := fun H9 => mw E _ _ H9) ht9 hm⟩, hS.F ht9⟩) hS.2.2 dJ2_append_76
    · refine lv_aload_n hx hb dJ2_append_24 rfl (lv_at hl 0 rfl) ?_
      refine gf_1100 hx hb hts hown hs hm hB_1.1.1 (hts _ q345) dJ2_append_25 ?_
      refine lv_aload_n hx hb dJ2_append_28 rfl (lv_at hl 0 rfl) ?_
      refine lv_dup hx hb dJ2_append_29 rfl ?_
      refine gf_1103 hx hb hts hown hs hm hB_1.1.1 (hts _ q349) dJ2_append_30 ?_
      refine lv_dup_x1 hx hb dJ2_append_33 rfl rfl ?_
      refine lv_iconst (v := (1 : Int32)) hx hb dJ2_append_34 (by decide) ?_
      refine lv_iadd hx hb dJ2_append_35 ?_
      refine pf_1103 hx hb hts hown hs hm hS hB_1.1.1 (hts _ q349) dJ2_append_36 (fun H locs hm hS => ?_)
      have hm : mw E u_1.1 ((sI u_1.2 1103 c ((gI u_1.2 1103 c) + (1 : Int32)))) H := hm
      refine lv_iload_n hx hb dJ2_append_39 rfl (lv_at hl 1 rfl) ?_
      refine lv_i2b hx hb dJ2_append_40 rfl ?_
      refine k_bast hx hb hs hm hS hB_1.1.2.1 (pre_in8 hp_1 hk) dJ2_append_41 (fun H locs hm hS => ?_)
      have hm : mw E u_1.1 ((wI (sI u_1.2 1103 c ((gI u_1.2 1103 c) + (1 : Int32))) (gN u_1.2 1100 c) (upd (aI u_1.2 (gN u_1.2 1100 c)) ((gI u_1.2 1103 c)).toNatClampNeg (vp_nar .byte ((nI j)).toInt8.toInt32)))) H := hm
      refine lv_goto (tgt := 75) hx hb dJ2_append_42 (by decide) ?_
      refine lv_aload_n hx hb dJ2_append_75 rfl (lv_at hl 0 rfl) ?_
      refine W.widen (k := 2) (n := 1000) (Nat.le_of_ble_eq_true rfl) (Nat.le_of_ble_eq_true rfl) ?_
      exact W.aret (v := _) hx hb hr (Or.inl ⟨_, rfl⟩) (Or.inr ⟨_, rfl⟩) (fun t9 ht9 _ => ⟨⟨(u_1.1, _), c, rfl, (pre_8 hp_1 (isl_0 hr_2 c_3) hk (enc_lt hj hr_9 c_10)), rfl, hb9 (B := fun H9 => mw E _ _ H9) ht9 hm⟩, hS.F ht9⟩) hS.2.2 dJ2_append_76
set_option maxHeartbeats 4000000 in
theorem cmJ3_append (l : Launch) (E : mE) (t : mt) (M : mm) (c n k j : Nat) (hB : sbB t M c n k) (hk : k < 60) (hj : j < 65536) : Met l yJ3_append (ws_ yJ3_append cJ3_append 2 (some (.object "java/lang/StringBuilder"))) ({ frames := 7, cells := 2, slots := 1000, locals := 158 }) (va_Pc [.ref c, .int (nI j)] (wP E t M)) (va_Qr (fun (S : mt × mm) => apR t M c k (nI j) S) (fun S r U => r = c ∧ mw E S.1 S.2 U.heap) (eA E)) 2 1000 (eA E) := by
  refine Met.ofW (cc := cJ3_append) (maxL := 2) (ret := (some (.object "java/lang/StringBuilder"))) (by decide) rfl ?_
  intro p e s m args below meth c0 s₁ B hml hv
  obtain ⟨rfl, hs, hm⟩ := hv
  have hx := B.exec
  have hb := B.bytes
  have hr := B.returns
  have hts := atoms_spec (ws := ws_ yJ3_append cJ3_append 2 (some (.object "java/lang/StringBuilder"))) B.pre
  have hts : ∀ w ∈ lw_all, w.before _ s = true := fun w h => hts w (List.mem_cons_of_mem _ h)
  have hown : s.vm.findClass RJ3 = some m.cls := findClass_of_methodNamed B.named
  have hlocks := B.notSynchronized
  have hS : va_S (eA E) s.heap s.heap [] := va_S.rf
  have hl := lv_entry ([.ref c, .int (nI j)]) (n := 2) (Nat.le_of_ble_eq_true rfl)
  rw [lg_entry_eq]
  generalize (lg_sl ([.ref c, .int (nI j)]) ++ List.replicate (2 - (lg_sl ([.ref c, .int (nI j)])).length) Slot.unset).toArray = ls at hl ⊢
  have hl : lv_has ls 2 [(0, .ref (c)), (1, .int ((nI j)))] := hl
  refine lv_aload_n hx hb dJ3_append_0 rfl (lv_at hl 0 rfl) ?_
  refine lv_iload_n hx hb dJ3_append_1 rfl (lv_at hl 1 rfl) ?_
  refine k_callr (S := mt × mm) (B := fun S r H => r = c ∧ mw E S.1 S.2 H) (va_runSU (hs.2.1.1 10 _ rfl).2 (As := [.int ((nI j))]) (rest := []) ⟨hx, hb, hml, hown, hts⟩ (cmJ2_append l E t M c n k j hB hk hj) (va_cwSU 1 hts (lw_SU q1268 q2092 q358 q1269 q68 q1270) rfl rfl rfl (by decide +kernel) ⟨Nat.le_of_ble_eq_true rfl, Nat.le_of_ble_eq_true rfl⟩) (k_preV hs hm hS (mw.recv hs hm (mt_ne hB.1.1 (by decide)) (ct11 hB.1.1) rfl)) rfl rfl hl.1 rfl (lv_room (Nat.le_of_ble_eq_true rfl)) dJ3_append_2 ⟨Nat.le_of_ble_eq_true rfl, Nat.le_of_ble_eq_true rfl⟩) hS (fun r_1 u_1 H locs hg_1 hm_1 hS => ?_)
  obtain ⟨hr_1, hm⟩ := hm_1
  rw [hr_1]
  refine lv_pop hx hb dJ3_append_5 rfl ?_
  refine lv_aload_n hx hb dJ3_append_6 rfl (lv_at hl 0 rfl) ?_
  exact W.aret (v := _) hx hb hr (Or.inl ⟨_, rfl⟩) (Or.inr ⟨_, rfl⟩) (fun t9 ht9 _ => ⟨⟨u_1, c, rfl, hg_1, rfl, hb9 (B := fun H9 => mw E _ _ H9) ht9 hm⟩, hS.F ht9⟩) hS.2.2 dJ3_append_7
theorem bf_lt {t : mt} {M : mm} {c n k : Nat} {r x : Int32} (hk : k ≤ 60) (hB : sbB t M c n k) (hr : r = CJ3_length t M c) (hx : x = if (60 : Int32) ≤ r then (0 : Int32) else (1 : Int32)) (hc : ¬ x = 0) : k < 60 := by
  rcases Nat.lt_or_ge k 60 with h | h
  · exact h
  · exfalso
    apply hc
    rw [hx, hr, show CJ3_length t M c = nI k from hB.1.2.2.2.1]
    exact if_pos (nI_le (a := 60) h (by omega))
theorem bf_ge {t : mt} {M : mm} {c n k : Nat} {r x : Int32} (hk : k ≤ 60) (hB : sbB t M c n k) (hr : r = CJ3_length t M c) (hx : x = if (60 : Int32) ≤ r then (0 : Int32) else (1 : Int32)) (hc : x = 0) : 60 ≤ k := by
  rcases Nat.lt_or_ge k 60 with h | h
  · exfalso
    rw [hx, hr, show CJ3_length t M c = nI k from hB.1.2.2.2.1, if_neg (show ¬ (60 : Int32) ≤ nI k from fun h9 => absurd ((nI_leI (a := 60) (b := k) (by omega) (by omega)).mp h9) (by omega))] at hc
    exact absurd hc (by decide)
  · exact h
theorem ap_len {t : mt} {M : mm} {c k : Nat} {x r : Int32} {S : mt × mm} (h : apR t M c k x S) (hr : r = CJ3_length S.1 S.2 c) : r = nI (k + 1) := by
  obtain ⟨-, -, -, n', hB, -⟩ := h
  rw [hr]
  exact hB.1.2.2.2.1
set_option maxHeartbeats 4000000 in
theorem cm1_append (l : Launch) (E : mE) (hl9 : l.stackTraces = false) (t : mt) (M : mm) (c n k j : Nat) (hA : layA t c) (hB : sbB t M (c + 197) n k) (hkk : k ≤ 60) (hj : j < 65536) : vx_Met l yX1_append (ws_ yX1_append cX1_append 2 (some .int)) ({ frames := 8, cells := 3, slots := 1006, locals := 179 }) (va_Pc [.ref c, .int (nI j)] (wP E t M)) (va_Qi (fun (r : Int32) (S : mt × mm) => k < 60 ∧ r = nI (k + 1) ∧ apR t M (c + 197) k (nI j) S) (fun S U => mw E S.1 S.2 U.heap) (eA E)) (vx_X (fun (u : mm) => 60 ≤ k ∧ u = M) (fun En q u U => XS E t 5 En q u U.heap) (eA E)) 3 1006 (eA E) := by
  refine vx_ofW (cc := cX1_append) (maxL := 2) (ret := (some .int)) (by decide) rfl ?_
  intro p e s m args below meth c0 s₁ B hml hno hv
  obtain ⟨rfl, hs, hm⟩ := hv
  have hx := B.exec
  have hb := B.bytes
  have hr := B.returns
  have hts := atoms_spec (ws := ws_ yX1_append cX1_append 2 (some .int)) B.pre
  have hts : ∀ w ∈ lw_all, w.before _ s = true := fun w h => hts w (List.mem_cons_of_mem _ h)
  have hown : s.vm.findClass RX1 = some m.cls := findClass_of_methodNamed B.named
  have hlocks := B.notSynchronized
  have hout : ∀ pc : Nat, ∀ x ∈ c0.exceptionTable.toList, covers x pc = false := fun _ x h => (hno x h).elim
  have hS : va_S (eA E) s.heap s.heap [] := va_S.rf
  have hl := lv_entry ([.ref c, .int (nI j)]) (n := 2) (Nat.le_of_ble_eq_true rfl)
  rw [lg_entry_eq]
  generalize (lg_sl ([.ref c, .int (nI j)]) ++ List.replicate (2 - (lg_sl ([.ref c, .int (nI j)])).length) Slot.unset).toArray = ls at hl ⊢
  have hl : lv_has ls 2 [(0, .ref (c)), (1, .int ((nI j)))] := hl
  refine lv_aload_n hx hb dX1_append_0 rfl (lv_at hl 0 rfl) ?_
  refine gf_106 hx hb hts hown hs hm hA.z (hts _ q525) dX1_append_1 ?_
  refine k_calli (va_runV (As := []) (rest := []) ⟨hx, hb, hml, hown, hts⟩ (cmJ3_length l E t M  ((c + 197))  hA.b ) (cwV 0 hts (lw_V q1249 q1250 q1251 q69 q1252) rfl rfl rfl (by decide +kernel) ⟨Nat.le_of_ble_eq_true rfl, Nat.le_of_ble_eq_true rfl⟩) (k_preV hs hm hS (mw.recv hs hm (mt_ne hA.b (by decide)) (ct11 hA.b) rfl)) rfl rfl hl.1 rfl (lv_room (Nat.le_of_ble_eq_true rfl)) dX1_append_4 ⟨Nat.le_of_ble_eq_true rfl, Nat.le_of_ble_eq_true rfl⟩) hS (fun r_1 u_1 H locs hw_1 hm_1 hS => ?_)
  obtain ⟨hr_1, hu_1⟩ := hw_1
  replace hu_1 := hu_1.symm
  subst hu_1
  have hm := hm_1
  refine lv_bipush (v := (60 : Int32)) hx hb dX1_append_7 (by decide) ?_
  refine k_join (fun (x3 : Int32) H locs ls => x3 = (if (60 : Int32) ≤ r_1 then (0 : Int32) else (1 : Int32)) ∧ mw E t (M) H ∧ va_S (eA E) s.heap H locs ∧ lv_has ls 2 [(0, .ref (c)), (1, .int ((nI j)))]) (fun (x3 : Int32) ls => F0 m 17 ls [.int (x3)]) (fun x3 H locs ls hJ => ?_) (fun J3 => ?_)
  · obtain ⟨hX3, hm, hS, hl⟩ := hJ
    refine kx_callv (BX := fun En q u H => XS E t 5 En q u H) (vx_runS (As := [.int (x3)]) (rest := []) ⟨hx, hb, hml, hown, hts⟩ (cm1_checkState l E hl9 t M  (x3) ) (va_cwS 1 hts (lw_S q1256 q1257 q58 q1258) rfl rfl rfl (by decide +kernel) ⟨Nat.le_of_ble_eq_true rfl, Nat.le_of_ble_eq_true rfl⟩) (k_preS hs hm hS) rfl rfl hl.1 rfl (lv_room (Nat.le_of_ble_eq_true rfl)) dX1_append_17 ⟨Nat.le_of_ble_eq_true rfl, Nat.le_of_ble_eq_true rfl⟩) hS (fun En_4 ce_4 q_4 u9_4 H locs hp_4 hB_4 hS h1_4 h2_4 h3_4 => ?_) (fun u_4 H locs hw_4 hm_4 hS => ?_)
    · obtain ⟨c_4, hu9_4⟩ := hp_4
      replace hu9_4 := hu9_4.symm
      subst hu9_4
      exact kx_out (BX := fun En q u H => XS E t 5 En q u H) (u := M) (fun x h => (hno x h).elim) hlocks ⟨bf_ge hkk hB hr_1 hX3 c_4, rfl⟩ hB_4 hS h1_4 h2_4 h3_4 (Nat.le_of_ble_eq_true rfl) (Nat.le_of_ble_eq_true rfl)
    · obtain ⟨c_4, hu_4⟩ := hw_4
      replace hu_4 := hu_4.symm
      subst hu_4
      have hm := hm_4
      refine lv_aload_n hx hb dX1_append_20 rfl (lv_at hl 0 rfl) ?_
      refine gf_106 hx hb hts hown hs hm hA.z (hts _ q525) dX1_append_21 ?_
      refine lv_iload_n hx hb dX1_append_24 rfl (lv_at hl 1 rfl) ?_
      have hk : k < 60 := bf_lt hkk hB hr_1 hX3 c_4
      refine k_callr (S := mt × mm) (B := fun S r H => r = c + 197 ∧ mw E S.1 S.2 H) (va_runV (As := [.int ((nI j))]) (rest := []) ⟨hx, hb, hml, hown, hts⟩ (cmJ3_append l E t M (c + 197) n k j hB hk hj) (cwV 1 hts (lw_V q1264 q1265 q1266 q69 q1267) rfl rfl rfl (by decide +kernel) ⟨Nat.le_of_ble_eq_true rfl, Nat.le_of_ble_eq_true rfl⟩) (k_preV hs hm hS (mw.recv hs hm (mt_ne hA.b (by decide)) (ct11 hA.b) rfl)) rfl rfl hl.1 rfl (lv_room (Nat.le_of_ble_eq_true rfl)) dX1_append_25 ⟨Nat.le_of_ble_eq_true rfl, Nat.le_of_ble_eq_true rfl⟩) hS (fun r_5 u_5 H locs hg_5 hm_5 hS => ?_)
      obtain ⟨hq_5, hm⟩ := hm_5
      rw [hq_5]
      refine lv_pop hx hb dX1_append_28 rfl ?_
      refine lv_aload_n hx hb dX1_append_29 rfl (lv_at hl 0 rfl) ?_
      refine gf_106 hx hb hts hown hs hm (kp hg_5.1 hA.z) (hts _ q525) dX1_append_30 ?_
      refine k_calli (va_runV (As := []) (rest := []) ⟨hx, hb, hml, hown, hts⟩ (cmJ3_length l E u_5.1 u_5.2  ((c + 197))  (kp hg_5.1 hA.b) ) (cwV 0 hts (lw_V q1249 q1250 q1251 q69 q1252) rfl rfl rfl (by decide +kernel) ⟨Nat.le_of_ble_eq_true rfl, Nat.le_of_ble_eq_true rfl⟩) (k_preV hs hm hS (mw.recv hs hm (mt_ne (kp hg_5.1 hA.b) (by decide)) (ct11 (kp hg_5.1 hA.b)) rfl)) rfl rfl hl.1 rfl (lv_room (Nat.le_of_ble_eq_true rfl)) dX1_append_33 ⟨Nat.le_of_ble_eq_true rfl, Nat.le_of_ble_eq_true rfl⟩) hS (fun r_6 u_6 H locs hw_6 hm_6 hS => ?_)
      obtain ⟨hr_6, hu_6⟩ := hw_6
      replace hu_6 := hu_6.symm
      subst hu_6
      have hm := hm_6
      refine vx_ret ?_
      refine W.widen (k := 3) (n := 1006) (Nat.le_of_ble_eq_true rfl) (Nat.le_of_ble_eq_true rfl) ?_
      exact W.iret (v := _) hx hb hr (fun t9 ht9 _ => ⟨⟨_, u_5, rfl, ⟨hk, ap_len hg_5 hr_6, hg_5⟩, hb9 (B := fun H9 => mw E _ _ H9) ht9 hm⟩, hS.F ht9⟩) hS.2.2 dX1_append_36
  · refine lv_icmp_ge (tgt := 16) hx hb dX1_append_9 (by decide) (fun c_2 => ?_) (fun c_2 => ?_)
    · refine lv_iconst (v := (0 : Int32)) hx hb dX1_append_16 (by decide) ?_
      exact J3 ((0 : Int32)) _ _ _ ⟨((if_pos c_2).trans (rfl)).symm, hm, hS, lv_sub hl [0, 1] rfl⟩
    · refine lv_iconst (v := (1 : Int32)) hx hb dX1_append_12 (by decide) ?_
      refine lv_goto (tgt := 17) hx hb dX1_append_13 (by decide) ?_
      exact J3 ((1 : Int32)) _ _ _ ⟨((if_neg c_2).trans (rfl)).symm, hm, hS, lv_sub hl [0, 1] rfl⟩
