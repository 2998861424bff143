set_option maxRecDepth 100000
/-! the reference, method by method: what it computes (T_..), and that it does (tm_..) -/
theorem here_is {v : tw} (h : T_here v = (59 : Int32)) : ¬ t13 v ≤ t19 v := here_lt (by rw [h]; decide)
def stepR (z : tw) (k : Nat) : Int32 × tw :=
  let u_7 := T_readsOrder z (((3 : Int32) * nI k));
  let x9 := if (t20 u_7) = 0 then let r_12 := T_here u_7 ; if r_12 = (59 : Int32) then (1 : Int32) else (0 : Int32) else (0 : Int32);
  let x11 := if x9 = 0 then (0 : Int32) else (1 : Int32);
  (x9, (u19 u_7 ((t19 u_7) + x11)))
def readF : Nat → Nat → Int32 × tw → Nat × tw
  | 0, i, z => (i, z.2)
  | n + 1, i, z => if z.1 = 0 then (i, z.2) else readF n (i + 1) (stepR z.2 i)
  termination_by n => n
theorem readF_e {n i : Nat} {z : Int32 × tw} (h : z.1 = 0) : readF n i z = (i, z.2) := by
  cases n with
  | zero => rw [readF]
  | succ n => rw [readF, if_pos h]
theorem readF_s {n i : Nat} {z : Int32 × tw} (hi : i < n) (h : ¬ z.1 = 0) : readF (n - i) i z = readF (n - (i + 1)) (i + 1) (stepR z.2 i) := by
  rw [show n - i = (n - (i + 1)) + 1 by omega, readF, if_neg h]
/-- what holds ahead of the order i -/
def rdI (y : Nat × Int32 × tw) : Prop := rdK y.2.2 ∧ (¬ y.2.1 = 0 → 2 * y.1 ≤ (t19 y.2.2).toNatClampNeg)
theorem rdI_0 {v : tw} (ht : ix 61 (t13 v)) : rdI (0, 1, (u20 (u19 v (0 : Int32)) (0 : Int32))) := ⟨⟨ht, 0, by decide, rfl⟩, fun _ => Nat.zero_le _⟩
theorem rdI_k {y : Nat × Int32 × tw} (h : rdI y) (c : ¬ y.2.1 = 0) : y.1 < 31 ∧ ix 178 ((3 : Int32) * nI y.1) ∧ rdK y.2.2 := by
  have h1 := h.2 c
  have h2 := (h.1.2.nat (by decide)).1
  refine ⟨by omega, ⟨3 * y.1, by omega, ?_⟩, h.1⟩
  exact pk_mul 3 y.1
theorem stepR_eq (w : tw) (k : Nat) : ∃ (x y : Int32), (x = if t20 (T_readsOrder w ((3 : Int32) * nI k)) = 0 then (if T_here (T_readsOrder w ((3 : Int32) * nI k)) = (59 : Int32) then (1 : Int32) else (0 : Int32)) else (0 : Int32)) ∧ (y = if x = 0 then (0 : Int32) else (1 : Int32)) ∧ stepR w k = (x, u19 (T_readsOrder w ((3 : Int32) * nI k)) (t19 (T_readsOrder w ((3 : Int32) * nI k)) + y)) := ⟨_, _, rfl, rfl, rfl⟩
theorem rdI_s {y : Nat × Int32 × tw} (h : rdI y) (c : ¬ y.2.1 = 0) : rdI (y.1 + 1, stepR y.2.2 y.1) := by
  obtain ⟨x, z, hx, hz, e⟩ := stepR_eq y.2.2 y.1
  have ho := rd_order y.2.2 ((3 : Int32) * nI y.1)
  have h1 := h.2 c
  show rdK (stepR y.2.2 y.1).2 ∧ (¬ (stepR y.2.2 y.1).1 = 0 → 2 * (y.1 + 1) ≤ (t19 (stepR y.2.2 y.1).2).toNatClampNeg)
  rw [e]
  generalize T_readsOrder y.2.2 ((3 : Int32) * nI y.1) = w at *
  have hk := (ho.1 h.1).1
  have hxx : ¬ x = 0 → t20 w = 0 ∧ ¬ t13 w ≤ t19 w := fun hx0 => by
    by_cases h20 : t20 w = 0
    · rw [if_pos h20] at hx
      by_cases h59 : T_here w = (59 : Int32)
      · exact ⟨h20, here_is h59⟩
      · rw [if_neg h59] at hx; exact absurd hx hx0
    · rw [if_neg h20] at hx; exact absurd hx hx0
  by_cases hx0 : x = 0
  · rw [if_pos hx0] at hz
    subst hz
    have ha := adv (x := (0 : Int32)) hk.1 hk.2 (Or.inl rfl)
    exact ⟨⟨hk.1, ha.1⟩, fun h => absurd hx0 h⟩
  · rw [if_neg hx0] at hz
    subst hz
    have ha := adv (x := (1 : Int32)) hk.1 hk.2 (Or.inr ⟨rfl, (hxx hx0).2⟩)
    refine ⟨⟨hk.1, ha.1⟩, fun _ => ?_⟩
    have h3 := ho.2 h.1 (hxx hx0).1
    have h4 : (t19 w + (1 : Int32)).toNatClampNeg = (t19 w).toNatClampNeg + 1 := by
      obtain ⟨j, hj, ej⟩ := hk.2
      rw [ej, show nI j + (1 : Int32) = nI (j + 1) from nI_add j 1, cl_nI (by omega), cl_nI (by omega)]
    show 2 * (y.1 + 1) ≤ (t19 w + (1 : Int32)).toNatClampNeg
    rw [h4]
    omega
def T_readsText (v : tw)  : Int32 × tw :=
  let x3 := if (t20 (readF 61 0 (1, (u20 (u19 v (0 : Int32)) (0 : Int32)))).2) = 0 then if (t13 (readF 61 0 (1, (u20 (u19 v (0 : Int32)) (0 : Int32)))).2) ≤ (t19 (readF 61 0 (1, (u20 (u19 v (0 : Int32)) (0 : Int32)))).2) then (0 : Int32) else (1 : Int32) else (1 : Int32);
  (nI (readF 61 0 (1, (u20 (u19 v (0 : Int32)) (0 : Int32)))).1, (u13 (u20 (readF 61 0 (1, (u20 (u19 v (0 : Int32)) (0 : Int32)))).2 x3) (0 : Int32)))
set_option maxHeartbeats 4000000 in
theorem tm_readsText (l : Launch) (E : mE) (h : Nat) (v : tw)  (ht : ix 61 (t13 v)) : Met l yX10_readsText (ws_ yX10_readsText cX10_readsText 3 (some .int)) ({ frames := 4, cells := 0, slots := 0, locals := 86 }) (va_Pc [.ref h] (tP E h v)) (va_Qi (fun (r : Int32) (u : tw) => r = (T_readsText v ).1 ∧ u = (T_readsText v ).2) (fun u U => tW E h u U.heap) (eA E)) 0 0 (eA E) := by
  refine Met.ofW (cc := cX10_readsText) (maxL := 3) (ret := (some .int)) (by decide) rfl ?_
  intro p e s m args below meth c s₁ B hml hv
  obtain ⟨rfl, hs, hm⟩ := hv
  have hx := B.exec
  have hb := B.bytes
  have hr := B.returns
  have hts := atoms_spec (ws := ws_ yX10_readsText cX10_readsText 3 (some .int)) B.pre
  have hts : ∀ w ∈ lw_all, w.before _ s = true := fun w h => hts w (List.mem_cons_of_mem _ h)
  have hown : s.vm.findClass RX10 = some m.cls := findClass_of_methodNamed B.named
  have hlocks := B.notSynchronized
  have hS : va_S (eA E) s.heap s.heap [] := va_S.rf
  have hl := lv_entry ([.ref h]) (n := 3) (Nat.le_of_ble_eq_true rfl)
  rw [lg_entry_eq]
  generalize (lg_sl ([.ref h]) ++ List.replicate (3 - (lg_sl ([.ref h])).length) Slot.unset).toArray = ls at hl ⊢
  have hl : lv_has ls 3 [(0, .ref (h))] := hl
  refine lv_aload_n hx hb dX10_readsText_0 rfl (lv_at hl 0 rfl) ?_
  refine lv_iconst (v := (0 : Int32)) hx hb dX10_readsText_1 (by decide) ?_
  refine tp_19 hx hb hts hown hs hm hS (hts _ q1693) dX10_readsText_2 (fun H locs hm hS => ?_)
  have hm : tW E h (u19 v (0 : Int32)) H := hm
  refine lv_aload_n hx hb dX10_readsText_5 rfl (lv_at hl 0 rfl) ?_
  refine lv_iconst (v := (0 : Int32)) hx hb dX10_readsText_6 (by decide) ?_
  refine tp_20 hx hb hts hown hs hm hS (hts _ q1694) rfl rfl dX10_readsText_7 (fun H locs hm hS => ?_)
  have hm : tW E h (u20 (u19 v (0 : Int32)) (0 : Int32)) H := hm
  refine lv_iconst (v := (0 : Int32)) hx hb dX10_readsText_10 (by decide) ?_
  refine lv_istore_n (lv' := [(1, _), (0, _)]) hx hb dX10_readsText_11 rfl hl (by decide) rfl (fun ls hl => ?_)
  refine lv_iconst (v := (1 : Int32)) hx hb dX10_readsText_12 (by decide) ?_
  refine lv_istore_n (lv' := [(2, _), (1, _), (0, _)]) hx hb dX10_readsText_13 rfl hl (by decide) rfl (fun ls hl => ?_)
  refine k_join (fun (_ : Unit) H locs ls => tW E h ((readF 61 0 (1, (u20 (u19 v (0 : Int32)) (0 : Int32)))).2) H ∧ va_S (eA E) s.heap H locs ∧ lv_has ls 3 [(1, .int (nI (readF 61 0 (1, (u20 (u19 v (0 : Int32)) (0 : Int32)))).1)), (0, .ref (h))]) (fun (_ : Unit) ls => F0 m 71 ls []) (fun _ H locs ls hJ => ?_) (fun J1 => ?_)
  · obtain ⟨hm, hS, hl⟩ := hJ
    refine lv_aload_n hx hb dX10_readsText_71 rfl (lv_at hl 1 rfl) ?_
    refine lv_aload_n hx hb dX10_readsText_72 rfl (lv_at hl 1 rfl) ?_
    refine tg_20 hx hb hts hown hs hm (hts _ q1694) dX10_readsText_73 ?_
    refine k_join (fun (x3 : Int32) H locs ls => x3 = (if (t20 (readF 61 0 (1, (u20 (u19 v (0 : Int32)) (0 : Int32)))).2) = 0 then if (t13 (readF 61 0 (1, (u20 (u19 v (0 : Int32)) (0 : Int32)))).2) ≤ (t19 (readF 61 0 (1, (u20 (u19 v (0 : Int32)) (0 : Int32)))).2) then (0 : Int32) else (1 : Int32) else (1 : Int32)) ∧ tW E h ((readF 61 0 (1, (u20 (u19 v (0 : Int32)) (0 : Int32)))).2) H ∧ va_S (eA E) s.heap H locs ∧ lv_has ls 3 [(1, .int (nI (readF 61 0 (1, (u20 (u19 v (0 : Int32)) (0 : Int32)))).1)), (0, .ref (h))]) (fun (x3 : Int32) ls => F0 m 95 ls [.int (x3), .ref (h)]) (fun x3 H locs ls hJ => ?_) (fun J3 => ?_)
    · obtain ⟨hX3, hm, hS, hl⟩ := hJ
      refine tp_20 hx hb hts hown hs hm hS (hts _ q1694) (by rw [hX3]; (try dsimp only); (repeat' split) <;> rfl) (by rw [hX3]; (try dsimp only); (repeat' split) <;> rfl) dX10_readsText_95 (fun H locs hm hS => ?_)
      have hm : tW E h (u20 (readF 61 0 (1, (u20 (u19 v (0 : Int32)) (0 : Int32)))).2 x3) H := hm
      refine lv_aload_n hx hb dX10_readsText_98 rfl (lv_at hl 1 rfl) ?_
      refine lv_iconst (v := (0 : Int32)) hx hb dX10_readsText_99 (by decide) ?_
      refine tp_13 hx hb hts hown hs hm hS (hts _ q1687) dX10_readsText_100 (fun H locs hm hS => ?_)
      have hm : tW E h (u13 (u20 (readF 61 0 (1, (u20 (u19 v (0 : Int32)) (0 : Int32)))).2 x3) (0 : Int32)) H := hm
      refine lv_iload_n hx hb dX10_readsText_103 rfl (lv_at hl 0 rfl) ?_
      subst hX3
      exact W.iret (v := _) hx hb hr (fun t9 ht9 _ => ⟨⟨_, _, rfl, pp (rfl), hb9 ht9 hm⟩, hS.F ht9⟩) hS.2.2 dX10_readsText_104
    · refine lv_if_ne (tgt := 90) hx hb dX10_readsText_76 (by decide) (fun c_2 => ?_) (fun c_2 => ?_)
      · refine lv_iconst (v := (1 : Int32)) hx hb dX10_readsText_90 (by decide) ?_
        refine lv_goto (tgt := 95) hx hb dX10_readsText_91 (by decide) ?_
        exact J3 ((1 : Int32)) _ _ _ ⟨((if_neg c_2).trans (rfl)).symm, hm, hS, lv_sub hl [0, 1] rfl⟩
      · refine lv_aload_n hx hb dX10_readsText_79 rfl (lv_at hl 1 rfl) ?_
        refine tg_19 hx hb hts hown hs hm (hts _ q1693) dX10_readsText_80 ?_
        refine lv_aload_n hx hb dX10_readsText_83 rfl (lv_at hl 1 rfl) ?_
        refine tg_13 hx hb hts hown hs hm (hts _ q1687) dX10_readsText_84 ?_
        refine lv_icmp_ge (tgt := 94) hx hb dX10_readsText_87 (by decide) (fun c_4 => ?_) (fun c_4 => ?_)
        · refine lv_iconst (v := (0 : Int32)) hx hb dX10_readsText_94 (by decide) ?_
          exact J3 ((0 : Int32)) _ _ _ ⟨((if_pos c_2).trans ((if_pos c_4).trans (rfl))).symm, hm, hS, lv_sub hl [0, 1] rfl⟩
        · refine lv_iconst (v := (1 : Int32)) hx hb dX10_readsText_90 (by decide) ?_
          refine lv_goto (tgt := 95) hx hb dX10_readsText_91 (by decide) ?_
          exact J3 ((1 : Int32)) _ _ _ ⟨((if_pos c_2).trans ((if_neg c_4).trans (rfl))).symm, hm, hS, lv_sub hl [0, 1] rfl⟩
  · refine k_loop (fun y => 61 - y.1) (fun (y : Nat × Int32 × tw) H locs ls => (readF 61 0 (1, (u20 (u19 v (0 : Int32)) (0 : Int32))) = readF (61 - y.1) y.1 y.2 ∧ rdI y) ∧ tW E h (y.2.2) H ∧ va_S (eA E) s.heap H locs ∧ lv_has ls 3 [(2, .int (y.2.1)), (1, .int (nI y.1)), (0, .ref (h))]) (fun (y : Nat × Int32 × tw) ls => F0 m 14 ls []) (fun y => (0, 0)) (fun y ih_5 H locs ls hP => ?_) ((0, 1, (u20 (u19 v (0 : Int32)) (0 : Int32)))) ⟨⟨rfl, rdI_0 ht⟩, hm, hS, lv_sub hl [0, 1, 2] rfl⟩
    obtain ⟨hI_5, hm, hS, hl⟩ := hP
    refine lv_iload_n hx hb dX10_readsText_14 rfl (lv_at hl 0 rfl) ?_
    refine lv_if_eq (tgt := 71) hx hb dX10_readsText_15 (by decide) (fun c_6 => ?_) (fun c_6 => ?_)
    · have hT := hI_5.1.trans (readF_e c_6)
      exact J1 () _ _ _ ⟨(by rw [hT]; exact hm), hS, (by rw [hT]; exact lv_sub hl [1, 2] rfl)⟩
    · have hc0 := c_6
      refine lv_aload_n hx hb dX10_readsText_18 rfl (lv_at hl 2 rfl) ?_
      refine lv_iconst (v := (3 : Int32)) hx hb dX10_readsText_19 (by decide) ?_
      refine lv_iload_n hx hb dX10_readsText_20 rfl (lv_at hl 1 rfl) ?_
      refine lv_imul hx hb dX10_readsText_21 ?_
      refine k_callv (va_runV (As := [.int (((3 : Int32) * nI y.1))]) (rest := []) ⟨hx, hb, hml, hown, hts⟩ (tm_readsOrder l E h y.2.2 (((3 : Int32) * nI y.1)) (rdI_k hI_5.2 hc0).2.2 (rdI_k hI_5.2 hc0).2.1) (cwV 1 hts (lw_V q2014 q2016 qs49 q80 q2017) rfl rfl rfl (by decide +kernel) ⟨Nat.le_of_ble_eq_true rfl, Nat.le_of_ble_eq_true rfl⟩) (k_preVt hs hm hS) rfl rfl hl.1 rfl (lv_room (Nat.le_of_ble_eq_true rfl)) dX10_readsText_22 ⟨Nat.le_of_ble_eq_true rfl, Nat.le_of_ble_eq_true rfl⟩) hS (fun u_7 H9 locs hw_7 hm_7 hS => ?_)
      have hu_7 := hw_7
      have hm := hm_7
      refine lv_iinc (v := nI (y.1 + 1)) (lv' := [(1, _), (2, _), (0, _)]) hx hb dX10_readsText_25 hl (k := 1) rfl (nI_succ y.1).symm (by decide) rfl (fun ls hl => ?_)
      refine lv_aload_n hx hb dX10_readsText_28 rfl (lv_at hl 2 rfl) ?_
      refine tg_20 hx hb hts hown hs hm (hts _ q1694) dX10_readsText_29 ?_
      refine k_join (fun (x9 : Int32) H locs ls => x9 = (if (t20 u_7) = 0 then let r_12 := T_here u_7 ; if r_12 = (59 : Int32) then (1 : Int32) else (0 : Int32) else (0 : Int32)) ∧ tW E h (u_7) H ∧ va_S (eA E) s.heap H locs ∧ lv_has ls 3 [(1, .int (nI (y.1 + 1))), (2, .int (y.2.1)), (0, .ref (h))]) (fun (x9 : Int32) ls => F0 m 49 ls [.int (x9)]) (fun x9 H locs ls hJ => ?_) (fun J9 => ?_)
      · obtain ⟨hX9, hm, hS, hl⟩ := hJ
        refine lv_istore_n (lv' := [(2, _), (1, _), (0, _)]) hx hb dX10_readsText_49 rfl hl (by decide) rfl (fun ls hl => ?_)
        refine lv_aload_n hx hb dX10_readsText_50 rfl (lv_at hl 2 rfl) ?_
        refine lv_dup hx hb dX10_readsText_51 rfl ?_
        refine tg_19 hx hb hts hown hs hm (hts _ q1693) dX10_readsText_52 ?_
        refine lv_iload_n hx hb dX10_readsText_55 rfl (lv_at hl 0 rfl) ?_
        refine k_join (fun (x11 : Int32) H locs ls => x11 = (if x9 = 0 then (0 : Int32) else (1 : Int32)) ∧ tW E h (u_7) H ∧ va_S (eA E) s.heap H locs ∧ lv_has ls 3 [(2, .int (x9)), (1, .int (nI (y.1 + 1))), (0, .ref (h))]) (fun (x11 : Int32) ls => F0 m 64 ls [.int (x11), .int ((t19 u_7)), .ref (h)]) (fun x11 H locs ls hJ => ?_) (fun J11 => ?_)
        · obtain ⟨hX11, hm, hS, hl⟩ := hJ
          refine lv_iadd hx hb dX10_readsText_64 ?_
          refine tp_19 hx hb hts hown hs hm hS (hts _ q1693) dX10_readsText_65 (fun H locs hm hS => ?_)
          have hm : tW E h (u19 u_7 ((t19 u_7) + x11)) H := hm
          refine lv_goto (tgt := 14) hx hb dX10_readsText_68 (by decide) ?_
          subst hX11
          subst hX9
          subst hu_7
          have hE : stepR y.2.2 y.1 = _ := rfl
          exact ih_5 ((y.1 + 1, stepR y.2.2 y.1)) (by have := (rdI_k hI_5.2 hc0).1; omega) _ _ _ ⟨⟨hI_5.1.trans (readF_s (by have := (rdI_k hI_5.2 hc0).1; omega) hc0), rdI_s hI_5.2 hc0⟩, (by rw [hE]; exact hm), hS, (by rw [hE]; exact lv_sub hl [0, 1, 2] rfl)⟩
        · refine lv_if_eq (tgt := 63) hx hb dX10_readsText_56 (by decide) (fun c_10 => ?_) (fun c_10 => ?_)
          · refine lv_iconst (v := (0 : Int32)) hx hb dX10_readsText_63 (by decide) ?_
            exact J11 ((0 : Int32)) _ _ _ ⟨((if_pos c_10).trans (rfl)).symm, hm, hS, lv_sub hl [0, 1, 2] rfl⟩
          · refine lv_iconst (v := (1 : Int32)) hx hb dX10_readsText_59 (by decide) ?_
            refine lv_goto (tgt := 64) hx hb dX10_readsText_60 (by decide) ?_
            exact J11 ((1 : Int32)) _ _ _ ⟨((if_neg c_10).trans (rfl)).symm, hm, hS, lv_sub hl [0, 1, 2] rfl⟩
      · refine lv_if_ne (tgt := 48) hx hb dX10_readsText_32 (by decide) (fun c_8 => ?_) (fun c_8 => ?_)
        · refine lv_iconst (v := (0 : Int32)) hx hb dX10_readsText_48 (by decide) ?_
          exact J9 ((0 : Int32)) _ _ _ ⟨((if_neg c_8).trans (rfl)).symm, hm, hS, lv_sub hl [0, 1, 2] rfl⟩
        · refine lv_aload_n hx hb dX10_readsText_35 rfl (lv_at hl 2 rfl) ?_
          refine k_calli (va_runV (As := []) (rest := []) ⟨hx, hb, hml, hown, hts⟩ (tm_here l E h u_7  (by rw [hu_7]; exact ((rd_order _ _).1 (rdI_k hI_5.2 hc0).2.2).1.1) (by rw [hu_7]; exact ((rd_order _ _).1 (rdI_k hI_5.2 hc0).2.2).1.2)) (cwV 0 hts (lw_V q2018 q2020 qs50 q80 q2021) rfl rfl rfl (by decide +kernel) ⟨Nat.le_of_ble_eq_true rfl, Nat.le_of_ble_eq_true rfl⟩) (k_preVt hs hm hS) rfl rfl hl.1 rfl (lv_room (Nat.le_of_ble_eq_true rfl)) dX10_readsText_36 ⟨Nat.le_of_ble_eq_true rfl, Nat.le_of_ble_eq_true rfl⟩) hS (fun r_12 u_12 H9 locs hw_12 hm_12 hS => ?_)
          obtain ⟨hr_12, hu_12⟩ := hw_12
          replace hu_12 := hu_12.symm
          subst hu_12
          have hm := hm_12
          refine lv_bipush (v := (59 : Int32)) hx hb dX10_readsText_39 (by decide) ?_
          refine lv_icmp_ne (tgt := 48) hx hb dX10_readsText_41 (by decide) (fun c_13 => ?_) (fun c_13 => ?_)
          · refine lv_iconst (v := (0 : Int32)) hx hb dX10_readsText_48 (by decide) ?_
            subst hr_12
            exact J9 (_) _ _ _ ⟨((if_pos c_8).trans ((if_neg c_13).trans (rfl))).symm, hm, hS, lv_sub hl [0, 1, 2] rfl⟩
          · refine lv_iconst (v := (1 : Int32)) hx hb dX10_readsText_44 (by decide) ?_
            refine lv_goto (tgt := 49) hx hb dX10_readsText_45 (by decide) ?_
            subst hr_12
            exact J9 (_) _ _ _ ⟨((if_pos c_8).trans ((if_pos c_13).trans (rfl))).symm, hm, hS, lv_sub hl [0, 1, 2] rfl⟩
def T_does (v : tw) (x : Int32) : Int32 × tw :=
  if (t21 v (x).toNatClampNeg) = (99 : Int32) then
    let r_2 := (T_counts v ).1;
    let u_2 := (T_counts v ).2;
    (r_2, u_2)
  else
    if (t21 v (x).toNatClampNeg) = (100 : Int32) then
      let r_4 := (T_digs v ((t21 v ((x + (1 : Int32))).toNatClampNeg)) ((t21 v ((x + (2 : Int32))).toNatClampNeg))).1;
      let u_4 := (T_digs v ((t21 v ((x + (1 : Int32))).toNatClampNeg)) ((t21 v ((x + (2 : Int32))).toNatClampNeg))).2;
      (r_4, u_4)
    else
      if (t21 v (x).toNatClampNeg) = (110 : Int32) then
        let r_6 := (T_rains v ((t21 v ((x + (1 : Int32))).toNatClampNeg))).1;
        let u_6 := (T_rains v ((t21 v ((x + (1 : Int32))).toNatClampNeg))).2;
        (r_6, u_6)
      else
        if (t21 v (x).toNatClampNeg) = (114 : Int32) then
          let r_8 := (T_rests v ((t21 v ((x + (1 : Int32))).toNatClampNeg))).1;
          let u_8 := (T_rests v ((t21 v ((x + (1 : Int32))).toNatClampNeg))).2;
          (r_8, u_8)
        else
          if (t21 v (x).toNatClampNeg) = (118 : Int32) then
            if (t21 v ((x + (2 : Int32))).toNatClampNeg) = (1 : Int32) then
              let r_12 := (T_votes v ((t21 v ((x + (1 : Int32))).toNatClampNeg)) ((1 : Int32))).1;
              let u_12 := (T_votes v ((t21 v ((x + (1 : Int32))).toNatClampNeg)) ((1 : Int32))).2;
              (r_12, u_12)
            else
              let r_11 := (T_votes v ((t21 v ((x + (1 : Int32))).toNatClampNeg)) ((0 : Int32))).1;
              let u_11 := (T_votes v ((t21 v ((x + (1 : Int32))).toNatClampNeg)) ((0 : Int32))).2;
              (r_11, u_11)
          else
            if (t21 v (x).toNatClampNeg) = (119 : Int32) then
              let r_14 := (T_blows v ((t21 v ((x + (1 : Int32))).toNatClampNeg))).1;
              let u_14 := (T_blows v ((t21 v ((x + (1 : Int32))).toNatClampNeg))).2;
              (r_14, u_14)
            else
              let r_15 := (T_passes v ((t21 v ((x + (1 : Int32))).toNatClampNeg))).1;
              let u_15 := (T_passes v ((t21 v ((x + (1 : Int32))).toNatClampNeg))).2;
              (r_15, u_15)
set_option maxHeartbeats 4000000 in
theorem tm_does (l : Launch) (E : mE) (h : Nat) (v : tw) (x : Int32) (hw : wf (t0 v) (t1 v)) (hx8 : ix 178 x) : Met l yX10_does (ws_ yX10_does cX10_does 3 (some .int)) ({ frames := 4, cells := 0, slots := 0, locals := 92 }) (va_Pc [.ref h, .int x] (tP E h v)) (va_Qi (fun (r : Int32) (u : tw) => r = (T_does v x).1 ∧ u = (T_does v x).2) (fun u U => tW E h u U.heap) (eA E)) 0 0 (eA E) := by
  refine Met.ofW (cc := cX10_does) (maxL := 3) (ret := (some .int)) (by decide) rfl ?_
  intro p e s m args below meth c s₁ B hml hv
  obtain ⟨rfl, hs, hm⟩ := hv
  have hx := B.exec
  have hb := B.bytes
  have hr := B.returns
  have hts := atoms_spec (ws := ws_ yX10_does cX10_does 3 (some .int)) B.pre
  have hts : ∀ w ∈ lw_all, w.before _ s = true := fun w h => hts w (List.mem_cons_of_mem _ h)
  have hown : s.vm.findClass RX10 = some m.cls := findClass_of_methodNamed B.named
  have hlocks := B.notSynchronized
  have hS : va_S (eA E) s.heap s.heap [] := va_S.rf
  have hl := lv_entry ([.ref h, .int x]) (n := 3) (Nat.le_of_ble_eq_true rfl)
  rw [lg_entry_eq]
  generalize (lg_sl ([.ref h, .int x]) ++ List.replicate (3 - (lg_sl ([.ref h, .int x])).length) Slot.unset).toArray = ls at hl ⊢
  have hl : lv_has ls 3 [(0, .ref (h)), (1, .int (x))] := hl
  refine lv_aload_n hx hb dX10_does_0 rfl (lv_at hl 0 rfl) ?_
  refine tg_21 hx hb hts hown hs hm (hts _ q1695) dX10_does_1 ?_
  refine lv_iload_n hx hb dX10_does_4 rfl (lv_at hl 1 rfl) ?_
  refine lv_iconst (v := (1 : Int32)) hx hb dX10_does_5 (by decide) ?_
  refine lv_iadd hx hb dX10_does_6 ?_
  refine tl_21 hx hb hs hm (ix.addR 1 180 hx8 (by decide) (by decide)) dX10_does_7 ?_
  refine lv_istore_n (lv' := [(2, _), (0, _), (1, _)]) hx hb dX10_does_8 rfl hl (by decide) rfl (fun ls hl => ?_)
  refine lv_aload_n hx hb dX10_does_9 rfl (lv_at hl 1 rfl) ?_
  refine tg_21 hx hb hts hown hs hm (hts _ q1695) dX10_does_10 ?_
  refine lv_iload_n hx hb dX10_does_13 rfl (lv_at hl 2 rfl) ?_
  refine tl_21 hx hb hs hm (ix.at (B := 180) ((hx8).mono (by decide)) (by decide)) dX10_does_14 ?_
  by_cases c_1 : (t21 v (x).toNatClampNeg) = (99 : Int32)
  · refine lv_lookup (off := 112) (tgt := 127) hx hb dX10_does_15 (by decide) (by rw [c_1]; decide) (by decide) ?_
    refine lv_aload_n hx hb dX10_does_127 rfl (lv_at hl 1 rfl) ?_
    refine k_calli (va_runV (As := []) (rest := []) ⟨hx, hb, hml, hown, hts⟩ (tm_counts l E h v  hw) (cwV 0 hts (lw_V q1986 q1988 qs46 q80 q1989) rfl rfl rfl (by decide +kernel) ⟨Nat.le_of_ble_eq_true rfl, Nat.le_of_ble_eq_true rfl⟩) (k_preVt hs hm hS) rfl rfl hl.1 rfl (lv_room (Nat.le_of_ble_eq_true rfl)) dX10_does_128 ⟨Nat.le_of_ble_eq_true rfl, Nat.le_of_ble_eq_true rfl⟩) hS (fun r_2 u_2 H9 locs hw_2 hm_2 hS => ?_)
    obtain ⟨hr_2, hu_2⟩ := hw_2
    have hm := hm_2
    subst hu_2
    subst hr_2
    exact W.iret (v := _) hx hb hr (fun t9 ht9 _ => ⟨⟨_, _, rfl, pp ((if_pos c_1).trans (rfl)), hb9 ht9 hm⟩, hS.F ht9⟩) hS.2.2 dX10_does_131
  · by_cases c_3 : (t21 v (x).toNatClampNeg) = (100 : Int32)
    · refine lv_lookup (off := 57) (tgt := 72) hx hb dX10_does_15 (by decide) (by rw [c_3]; decide) (by decide) ?_
      refine lv_aload_n hx hb dX10_does_72 rfl (lv_at hl 1 rfl) ?_
      refine lv_iload_n hx hb dX10_does_73 rfl (lv_at hl 0 rfl) ?_
      refine lv_aload_n hx hb dX10_does_74 rfl (lv_at hl 1 rfl) ?_
      refine tg_21 hx hb hts hown hs hm (hts _ q1695) dX10_does_75 ?_
      refine lv_iload_n hx hb dX10_does_78 rfl (lv_at hl 2 rfl) ?_
      refine lv_iconst (v := (2 : Int32)) hx hb dX10_does_79 (by decide) ?_
      refine lv_iadd hx hb dX10_does_80 ?_
      refine tl_21 hx hb hs hm (ix.addR 2 180 hx8 (by decide) (by decide)) dX10_does_81 ?_
      refine k_calli (va_runV (As := [.int ((t21 v ((x + (1 : Int32))).toNatClampNeg)), .int ((t21 v ((x + (2 : Int32))).toNatClampNeg))]) (rest := []) ⟨hx, hb, hml, hown, hts⟩ (tm_digs l E h v ((t21 v ((x + (1 : Int32))).toNatClampNeg)) ((t21 v ((x + (2 : Int32))).toNatClampNeg)) hw) (cwV 2 hts (lw_V q1798 q1800 qs28 q80 q1801) rfl rfl rfl (by decide +kernel) ⟨Nat.le_of_ble_eq_true rfl, Nat.le_of_ble_eq_true rfl⟩) (k_preVt hs hm hS) rfl rfl hl.1 rfl (lv_room (Nat.le_of_ble_eq_true rfl)) dX10_does_82 ⟨Nat.le_of_ble_eq_true rfl, Nat.le_of_ble_eq_true rfl⟩) hS (fun r_4 u_4 H9 locs hw_4 hm_4 hS => ?_)
      obtain ⟨hr_4, hu_4⟩ := hw_4
      have hm := hm_4
      subst hu_4
      subst hr_4
      exact W.iret (v := _) hx hb hr (fun t9 ht9 _ => ⟨⟨_, _, rfl, pp ((if_neg c_1).trans ((if_pos c_3).trans (rfl))), hb9 ht9 hm⟩, hS.F ht9⟩) hS.2.2 dX10_does_85
    · by_cases c_5 : (t21 v (x).toNatClampNeg) = (110 : Int32)
      · refine lv_lookup (off := 83) (tgt := 98) hx hb dX10_does_15 (by decide) (by rw [c_5]; decide) (by decide) ?_
        refine lv_aload_n hx hb dX10_does_98 rfl (lv_at hl 1 rfl) ?_
        refine lv_iload_n hx hb dX10_does_99 rfl (lv_at hl 0 rfl) ?_
        refine k_calli (va_runV (As := [.int ((t21 v ((x + (1 : Int32))).toNatClampNeg))]) (rest := []) ⟨hx, hb, hml, hown, hts⟩ (tm_rains l E h v ((t21 v ((x + (1 : Int32))).toNatClampNeg)) ) (cwV 1 hts (lw_V q1782 q1784 qs26 q80 q1785) rfl rfl rfl (by decide +kernel) ⟨Nat.le_of_ble_eq_true rfl, Nat.le_of_ble_eq_true rfl⟩) (k_preVt hs hm hS) rfl rfl hl.1 rfl (lv_room (Nat.le_of_ble_eq_true rfl)) dX10_does_100 ⟨Nat.le_of_ble_eq_true rfl, Nat.le_of_ble_eq_true rfl⟩) hS (fun r_6 u_6 H9 locs hw_6 hm_6 hS => ?_)
        obtain ⟨hr_6, hu_6⟩ := hw_6
        have hm := hm_6
        subst hu_6
        subst hr_6
        exact W.iret (v := _) hx hb hr (fun t9 ht9 _ => ⟨⟨_, _, rfl, pp ((if_neg c_1).trans ((if_neg c_3).trans ((if_pos c_5).trans (rfl)))), hb9 ht9 hm⟩, hS.F ht9⟩) hS.2.2 dX10_does_103
      · by_cases c_7 : (t21 v (x).toNatClampNeg) = (114 : Int32)
        · refine lv_lookup (off := 71) (tgt := 86) hx hb dX10_does_15 (by decide) (by rw [c_7]; decide) (by decide) ?_
          refine lv_aload_n hx hb dX10_does_86 rfl (lv_at hl 1 rfl) ?_
          refine lv_iload_n hx hb dX10_does_87 rfl (lv_at hl 0 rfl) ?_
          refine k_calli (va_runV (As := [.int ((t21 v ((x + (1 : Int32))).toNatClampNeg))]) (rest := []) ⟨hx, hb, hml, hown, hts⟩ (tm_rests l E h v ((t21 v ((x + (1 : Int32))).toNatClampNeg)) hw) (cwV 1 hts (lw_V q1817 q1819 qs31 q80 q1820) rfl rfl rfl (by decide +kernel) ⟨Nat.le_of_ble_eq_true rfl, Nat.le_of_ble_eq_true rfl⟩) (k_preVt hs hm hS) rfl rfl hl.1 rfl (lv_room (Nat.le_of_ble_eq_true rfl)) dX10_does_88 ⟨Nat.le_of_ble_eq_true rfl, Nat.le_of_ble_eq_true rfl⟩) hS (fun r_8 u_8 H9 locs hw_8 hm_8 hS => ?_)
          obtain ⟨hr_8, hu_8⟩ := hw_8
          have hm := hm_8
          subst hu_8
          subst hr_8
          exact W.iret (v := _) hx hb hr (fun t9 ht9 _ => ⟨⟨_, _, rfl, pp ((if_neg c_1).trans ((if_neg c_3).trans ((if_neg c_5).trans ((if_pos c_7).trans (rfl))))), hb9 ht9 hm⟩, hS.F ht9⟩) hS.2.2 dX10_does_91
        · by_cases c_9 : (t21 v (x).toNatClampNeg) = (118 : Int32)
          · refine lv_lookup (off := 89) (tgt := 104) hx hb dX10_does_15 (by decide) (by rw [c_9]; decide) (by decide) ?_
            refine lv_aload_n hx hb dX10_does_104 rfl (lv_at hl 1 rfl) ?_
            refine lv_iload_n hx hb dX10_does_105 rfl (lv_at hl 0 rfl) ?_
            refine lv_aload_n hx hb dX10_does_106 rfl (lv_at hl 1 rfl) ?_
            refine tg_21 hx hb hts hown hs hm (hts _ q1695) dX10_does_107 ?_
            refine lv_iload_n hx hb dX10_does_110 rfl (lv_at hl 2 rfl) ?_
            refine lv_iconst (v := (2 : Int32)) hx hb dX10_does_111 (by decide) ?_
            refine lv_iadd hx hb dX10_does_112 ?_
            refine tl_21 hx hb hs hm (ix.addR 2 180 hx8 (by decide) (by decide)) dX10_does_113 ?_
            refine lv_iconst (v := (1 : Int32)) hx hb dX10_does_114 (by decide) ?_
            refine lv_icmp_ne (tgt := 122) hx hb dX10_does_115 (by decide) (fun c_10 => ?_) (fun c_10 => ?_)
            · refine lv_iconst (v := (0 : Int32)) hx hb dX10_does_122 (by decide) ?_
              refine k_calli (va_runV (As := [.int ((t21 v ((x + (1 : Int32))).toNatClampNeg)), .int ((0 : Int32))]) (rest := []) ⟨hx, hb, hml, hown, hts⟩ (tm_votes l E h v ((t21 v ((x + (1 : Int32))).toNatClampNeg)) ((0 : Int32)) hw) (cwV 2 hts (lw_V q1974 q1976 qs44 q80 q1977) rfl rfl rfl (by decide +kernel) ⟨Nat.le_of_ble_eq_true rfl, Nat.le_of_ble_eq_true rfl⟩) (k_preVt hs hm hS) rfl rfl hl.1 rfl (lv_room (Nat.le_of_ble_eq_true rfl)) dX10_does_123 ⟨Nat.le_of_ble_eq_true rfl, Nat.le_of_ble_eq_true rfl⟩) hS (fun r_11 u_11 H9 locs hw_11 hm_11 hS => ?_)
              obtain ⟨hr_11, hu_11⟩ := hw_11
              have hm := hm_11
              subst hu_11
              subst hr_11
              exact W.iret (v := _) hx hb hr (fun t9 ht9 _ => ⟨⟨_, _, rfl, pp ((if_neg c_1).trans ((if_neg c_3).trans ((if_neg c_5).trans ((if_neg c_7).trans ((if_pos c_9).trans ((if_neg c_10).trans (rfl))))))), hb9 ht9 hm⟩, hS.F ht9⟩) hS.2.2 dX10_does_126
            · refine lv_iconst (v := (1 : Int32)) hx hb dX10_does_118 (by decide) ?_
              refine lv_goto (tgt := 123) hx hb dX10_does_119 (by decide) ?_
              refine k_calli (va_runV (As := [.int ((t21 v ((x + (1 : Int32))).toNatClampNeg)), .int ((1 : Int32))]) (rest := []) ⟨hx, hb, hml, hown, hts⟩ (tm_votes l E h v ((t21 v ((x + (1 : Int32))).toNatClampNeg)) ((1 : Int32)) hw) (cwV 2 hts (lw_V q1974 q1976 qs44 q80 q1977) rfl rfl rfl (by decide +kernel) ⟨Nat.le_of_ble_eq_true rfl, Nat.le_of_ble_eq_true rfl⟩) (k_preVt hs hm hS) rfl rfl hl.1 rfl (lv_room (Nat.le_of_ble_eq_true rfl)) dX10_does_123 ⟨Nat.le_of_ble_eq_true rfl, Nat.le_of_ble_eq_true rfl⟩) hS (fun r_12 u_12 H9 locs hw_12 hm_12 hS => ?_)
              obtain ⟨hr_12, hu_12⟩ := hw_12
              have hm := hm_12
              subst hu_12
              subst hr_12
              exact W.iret (v := _) hx hb hr (fun t9 ht9 _ => ⟨⟨_, _, rfl, pp ((if_neg c_1).trans ((if_neg c_3).trans ((if_neg c_5).trans ((if_neg c_7).trans ((if_pos c_9).trans ((if_pos c_10).trans (rfl))))))), hb9 ht9 hm⟩, hS.F ht9⟩) hS.2.2 dX10_does_126
          · by_cases c_13 : (t21 v (x).toNatClampNeg) = (119 : Int32)
            · refine lv_lookup (off := 77) (tgt := 92) hx hb dX10_does_15 (by decide) (by rw [c_13]; decide) (by decide) ?_
              refine lv_aload_n hx hb dX10_does_92 rfl (lv_at hl 1 rfl) ?_
              refine lv_iload_n hx hb dX10_does_93 rfl (lv_at hl 0 rfl) ?_
              refine k_calli (va_runV (As := [.int ((t21 v ((x + (1 : Int32))).toNatClampNeg))]) (rest := []) ⟨hx, hb, hml, hown, hts⟩ (tm_blows l E h v ((t21 v ((x + (1 : Int32))).toNatClampNeg)) ) (cwV 1 hts (lw_V q1759 q1761 qs22 q80 q1762) rfl rfl rfl (by decide +kernel) ⟨Nat.le_of_ble_eq_true rfl, Nat.le_of_ble_eq_true rfl⟩) (k_preVt hs hm hS) rfl rfl hl.1 rfl (lv_room (Nat.le_of_ble_eq_true rfl)) dX10_does_94 ⟨Nat.le_of_ble_eq_true rfl, Nat.le_of_ble_eq_true rfl⟩) hS (fun r_14 u_14 H9 locs hw_14 hm_14 hS => ?_)
              obtain ⟨hr_14, hu_14⟩ := hw_14
              have hm := hm_14
              subst hu_14
              subst hr_14
              exact W.iret (v := _) hx hb hr (fun t9 ht9 _ => ⟨⟨_, _, rfl, pp ((if_neg c_1).trans ((if_neg c_3).trans ((if_neg c_5).trans ((if_neg c_7).trans ((if_neg c_9).trans ((if_pos c_13).trans (rfl))))))), hb9 ht9 hm⟩, hS.F ht9⟩) hS.2.2 dX10_does_97
            · refine lv_lookup (off := 117) (tgt := 132) hx hb dX10_does_15 (by decide) (lk_c rfl c_1 (lk_c rfl c_3 (lk_c rfl c_5 (lk_c rfl c_7 (lk_c rfl c_9 (lk_c rfl c_13 (rfl))))))) (by decide) ?_
              refine lv_aload_n hx hb dX10_does_132 rfl (lv_at hl 1 rfl) ?_
              refine lv_iload_n hx hb dX10_does_133 rfl (lv_at hl 0 rfl) ?_
              refine k_calli (va_runV (As := [.int ((t21 v ((x + (1 : Int32))).toNatClampNeg))]) (rest := []) ⟨hx, hb, hml, hown, hts⟩ (tm_passes l E h v ((t21 v ((x + (1 : Int32))).toNatClampNeg)) hw) (cwV 1 hts (lw_V q1998 q2000 qs47 q80 q2001) rfl rfl rfl (by decide +kernel) ⟨Nat.le_of_ble_eq_true rfl, Nat.le_of_ble_eq_true rfl⟩) (k_preVt hs hm hS) rfl rfl hl.1 rfl (lv_room (Nat.le_of_ble_eq_true rfl)) dX10_does_134 ⟨Nat.le_of_ble_eq_true rfl, Nat.le_of_ble_eq_true rfl⟩) hS (fun r_15 u_15 H9 locs hw_15 hm_15 hS => ?_)
              obtain ⟨hr_15, hu_15⟩ := hw_15
              have hm := hm_15
              subst hu_15
              subst hr_15
              exact W.iret (v := _) hx hb hr (fun t9 ht9 _ => ⟨⟨_, _, rfl, pp ((if_neg c_1).trans ((if_neg c_3).trans ((if_neg c_5).trans ((if_neg c_7).trans ((if_neg c_9).trans ((if_neg c_13).trans (rfl))))))), hb9 ht9 hm⟩, hS.F ht9⟩) hS.2.2 dX10_does_137
def T_errorPosition (v : tw)  : Int32 × tw :=
  ((t14 v), (u18 v (0 : Int32)))
set_option maxHeartbeats 4000000 in
theorem tm_errorPosition (l : Launch) (E : mE) (h : Nat) (v : tw)   : Met l yX10_errorPosition (ws_ yX10_errorPosition cX10_errorPosition 1 (some .int)) ({ frames := 1, cells := 0, slots := 0, locals := 21 }) (va_Pc [.ref h] (tP E h v)) (va_Qi (fun (r : Int32) (u : tw) => r = (T_errorPosition v ).1 ∧ u = (T_errorPosition v ).2) (fun u U => tW E h u U.heap) (eA E)) 0 0 (eA E) := by
  refine Met.ofW (cc := cX10_errorPosition) (maxL := 1) (ret := (some .int)) (by decide) rfl ?_
  intro p e s m args below meth c s₁ B hml hv
  obtain ⟨rfl, hs, hm⟩ := hv
  have hx := B.exec
  have hb := B.bytes
  have hr := B.returns
  have hts := atoms_spec (ws := ws_ yX10_errorPosition cX10_errorPosition 1 (some .int)) B.pre
  have hts : ∀ w ∈ lw_all, w.before _ s = true := fun w h => hts w (List.mem_cons_of_mem _ h)
  have hown : s.vm.findClass RX10 = some m.cls := findClass_of_methodNamed B.named
  have hlocks := B.notSynchronized
  have hS : va_S (eA E) s.heap s.heap [] := va_S.rf
  have hl := lv_entry ([.ref h]) (n := 1) (Nat.le_of_ble_eq_true rfl)
  rw [lg_entry_eq]
  generalize (lg_sl ([.ref h]) ++ List.replicate (1 - (lg_sl ([.ref h])).length) Slot.unset).toArray = ls at hl ⊢
  have hl : lv_has ls 1 [(0, .ref (h))] := hl
  refine lv_aload_n hx hb dX10_errorPosition_0 rfl (lv_at hl 0 rfl) ?_
  refine lv_aload_n hx hb dX10_errorPosition_1 rfl (lv_at hl 0 rfl) ?_
  refine tg_14 hx hb hts hown hs hm (hts _ q1688) dX10_errorPosition_2 ?_
  refine k_calli (va_runV (As := [.int ((t14 v))]) (rest := []) ⟨hx, hb, hml, hown, hts⟩ (tm_done l E h v ((t14 v)) ) (cwV 1 hts (lw_V q1770 q1772 qs24 q80 q1773) rfl rfl rfl (by decide +kernel) ⟨Nat.le_of_ble_eq_true rfl, Nat.le_of_ble_eq_true rfl⟩) (k_preVt hs hm hS) rfl rfl hl.1 rfl (lv_room (Nat.le_of_ble_eq_true rfl)) dX10_errorPosition_5 ⟨Nat.le_of_ble_eq_true rfl, Nat.le_of_ble_eq_true rfl⟩) hS (fun r_1 u_1 H9 locs hw_1 hm_1 hS => ?_)
  replace hw_1 : r_1 = (t14 v) ∧ u_1 = (u18 v (0 : Int32)) := hw_1
  obtain ⟨hr_1, hw_1⟩ := hw_1
  replace hr_1 := hr_1.symm
  subst hr_1
  replace hw_1 := hw_1.symm
  subst hw_1
  have hm := hm_1
  exact W.iret (v := _) hx hb hr (fun t9 ht9 _ => ⟨⟨_, _, rfl, pp (rfl), hb9 ht9 hm⟩, hS.F ht9⟩) hS.2.2 dX10_errorPosition_8
def T_refusal (v : tw) (x : Int32) : Int32 × tw :=
  if (t15 v) = 0 then
    ((0 : Int32), (T_fails v (1 : Int32)).2)
  else
    if x = 0 then
      ((t15 v), (u18 v (0 : Int32)))
    else
      ((t16 v), (u18 v (0 : Int32)))
set_option maxHeartbeats 4000000 in
theorem tm_refusal (l : Launch) (E : mE) (h : Nat) (v : tw) (x : Int32)  : Met l yX10_refusal (ws_ yX10_refusal cX10_refusal 2 (some .int)) ({ frames := 1, cells := 0, slots := 0, locals := 21 }) (va_Pc [.ref h, .int x] (tP E h v)) (va_Qi (fun (r : Int32) (u : tw) => r = (T_refusal v x).1 ∧ u = (T_refusal v x).2) (fun u U => tW E h u U.heap) (eA E)) 0 0 (eA E) := by
  refine Met.ofW (cc := cX10_refusal) (maxL := 2) (ret := (some .int)) (by decide) rfl ?_
  intro p e s m args below meth c s₁ B hml hv
  obtain ⟨rfl, hs, hm⟩ := hv
  have hx := B.exec
  have hb := B.bytes
  have hr := B.returns
  have hts := atoms_spec (ws := ws_ yX10_refusal cX10_refusal 2 (some .int)) B.pre
  have hts : ∀ w ∈ lw_all, w.before _ s = true := fun w h => hts w (List.mem_cons_of_mem _ h)
  have hown : s.vm.findClass RX10 = some m.cls := findClass_of_methodNamed B.named
  have hlocks := B.notSynchronized
  have hS : va_S (eA E) s.heap s.heap [] := va_S.rf
  have hl := lv_entry ([.ref h, .int x]) (n := 2) (Nat.le_of_ble_eq_true rfl)
  rw [lg_entry_eq]
  generalize (lg_sl ([.ref h, .int x]) ++ List.replicate (2 - (lg_sl ([.ref h, .int x])).length) Slot.unset).toArray = ls at hl ⊢
  have hl : lv_has ls 2 [(0, .ref (h)), (1, .int (x))] := hl
  refine lv_aload_n hx hb dX10_refusal_0 rfl (lv_at hl 0 rfl) ?_
  refine tg_15 hx hb hts hown hs hm (hts _ q1689) dX10_refusal_1 ?_
  refine lv_if_ne (tgt := 15) hx hb dX10_refusal_4 (by decide) (fun c_1 => ?_) (fun c_1 => ?_)
  · refine lv_aload_n hx hb dX10_refusal_15 rfl (lv_at hl 0 rfl) ?_
    refine lv_iload_n hx hb dX10_refusal_16 rfl (lv_at hl 1 rfl) ?_
    refine lv_if_eq (tgt := 27) hx hb dX10_refusal_17 (by decide) (fun c_2 => ?_) (fun c_2 => ?_)
    · refine lv_aload_n hx hb dX10_refusal_27 rfl (lv_at hl 0 rfl) ?_
      refine tg_15 hx hb hts hown hs hm (hts _ q1689) dX10_refusal_28 ?_
      refine k_calli (va_runV (As := [.int ((t15 v))]) (rest := []) ⟨hx, hb, hml, hown, hts⟩ (tm_done l E h v ((t15 v)) ) (cwV 1 hts (lw_V q1770 q1772 qs24 q80 q1773) rfl rfl rfl (by decide +kernel) ⟨Nat.le_of_ble_eq_true rfl, Nat.le_of_ble_eq_true rfl⟩) (k_preVt hs hm hS) rfl rfl hl.1 rfl (lv_room (Nat.le_of_ble_eq_true rfl)) dX10_refusal_31 ⟨Nat.le_of_ble_eq_true rfl, Nat.le_of_ble_eq_true rfl⟩) hS (fun r_3 u_3 H9 locs hw_3 hm_3 hS => ?_)
      replace hw_3 : r_3 = (t15 v) ∧ u_3 = (u18 v (0 : Int32)) := hw_3
      obtain ⟨hr_3, hw_3⟩ := hw_3
      replace hr_3 := hr_3.symm
      subst hr_3
      replace hw_3 := hw_3.symm
      subst hw_3
      have hm := hm_3
      exact W.iret (v := _) hx hb hr (fun t9 ht9 _ => ⟨⟨_, _, rfl, pp ((if_neg c_1).trans ((if_pos c_2).trans (rfl))), hb9 ht9 hm⟩, hS.F ht9⟩) hS.2.2 dX10_refusal_34
    · refine lv_aload_n hx hb dX10_refusal_20 rfl (lv_at hl 0 rfl) ?_
      refine tg_16 hx hb hts hown hs hm (hts _ q1690) dX10_refusal_21 ?_
      refine lv_goto (tgt := 31) hx hb dX10_refusal_24 (by decide) ?_
      refine k_calli (va_runV (As := [.int ((t16 v))]) (rest := []) ⟨hx, hb, hml, hown, hts⟩ (tm_done l E h v ((t16 v)) ) (cwV 1 hts (lw_V q1770 q1772 qs24 q80 q1773) rfl rfl rfl (by decide +kernel) ⟨Nat.le_of_ble_eq_true rfl, Nat.le_of_ble_eq_true rfl⟩) (k_preVt hs hm hS) rfl rfl hl.1 rfl (lv_room (Nat.le_of_ble_eq_true rfl)) dX10_refusal_31 ⟨Nat.le_of_ble_eq_true rfl, Nat.le_of_ble_eq_true rfl⟩) hS (fun r_4 u_4 H9 locs hw_4 hm_4 hS => ?_)
      replace hw_4 : r_4 = (t16 v) ∧ u_4 = (u18 v (0 : Int32)) := hw_4
      obtain ⟨hr_4, hw_4⟩ := hw_4
      replace hr_4 := hr_4.symm
      subst hr_4
      replace hw_4 := hw_4.symm
      subst hw_4
      have hm := hm_4
      exact W.iret (v := _) hx hb hr (fun t9 ht9 _ => ⟨⟨_, _, rfl, pp ((if_neg c_1).trans ((if_neg c_2).trans (rfl))), hb9 ht9 hm⟩, hS.F ht9⟩) hS.2.2 dX10_refusal_34
  · refine lv_aload_n hx hb dX10_refusal_7 rfl (lv_at hl 0 rfl) ?_
    refine lv_iconst (v := (1 : Int32)) hx hb dX10_refusal_8 (by decide) ?_
    refine k_calli (va_runV (As := [.int ((1 : Int32))]) (rest := []) ⟨hx, hb, hml, hown, hts⟩ (tm_fails l E h v ((1 : Int32)) ) (cwV 1 hts (lw_V q1766 q1768 qs23 q80 q1769) rfl rfl rfl (by decide +kernel) ⟨Nat.le_of_ble_eq_true rfl, Nat.le_of_ble_eq_true rfl⟩) (k_preVt hs hm hS) rfl rfl hl.1 rfl (lv_room (Nat.le_of_ble_eq_true rfl)) dX10_refusal_9 ⟨Nat.le_of_ble_eq_true rfl, Nat.le_of_ble_eq_true rfl⟩) hS (fun r_5 u_5 H9 locs hw_5 hm_5 hS => ?_)
    replace hw_5 : r_5 = (0 : Int32) ∧ u_5 = (T_fails v (1 : Int32)).2 := hw_5
    obtain ⟨hr_5, hw_5⟩ := hw_5
    replace hr_5 := hr_5.symm
    subst hr_5
    replace hw_5 := hw_5.symm
    subst hw_5
    have hm := hm_5
    refine lv_goto (tgt := 34) hx hb dX10_refusal_12 (by decide) ?_
    exact W.iret (v := _) hx hb hr (fun t9 ht9 _ => ⟨⟨_, _, rfl, pp ((if_pos c_1).trans (rfl)), hb9 ht9 hm⟩, hS.F ht9⟩) hS.2.2 dX10_refusal_34
