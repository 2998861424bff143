set_option maxRecDepth 100000
/-! the reference, method by method: what it computes (T_..), and that it does (tm_..) -/
def shL {α : Type} (a : Nat → α) (n k : Nat) : Nat → α := fun j => if j < k then a (j + n) else a j
theorem shL_0 {α : Type} (a : Nat → α) (n : Nat) : shL a n 0 = a := by funext j; unfold shL; rw [if_neg (Nat.not_lt_zero _)]
theorem shL_s (a : Nat → Int32) (n k : Nat) (hn : 0 < n) : shL a n (k + 1) = upd (shL a n k) k (shL a n k (k + n)) := by
  funext j
  unfold shL upd
  dsimp only
  by_cases h : j = k
  · subst h; rw [if_pos rfl, if_pos (by omega), if_neg (by omega)]
  · rw [if_neg h]
    by_cases h2 : j < k
    · rw [if_pos h2, if_pos (by omega)]
    · rw [if_neg h2, if_neg (by omega)]
theorem shL_sf (a : Nat → UInt32) (n k : Nat) (hn : 0 < n) : shL a n (k + 1) = vf_upd (shL a n k) k (shL a n k (k + n)) := by
  funext j
  unfold shL vf_upd
  dsimp only
  by_cases h : j = k
  · subst h; rw [if_pos rfl, if_pos (by omega), if_neg (by omega)]
  · rw [if_neg h]
    by_cases h2 : j < k
    · rw [if_pos h2, if_pos (by omega)]
    · rw [if_neg h2, if_neg (by omega)]
theorem ix.addR {B : Nat} {x : Int32} (K n : Nat) (h : ix B x) (hn : K + B ≤ n) (hN : n ≤ 2 ^ 30) : vp_in (x + nI K) n := by
  obtain ⟨k, h1, rfl⟩ := h
  rw [nI_add]
  exact vp_in_nI (by omega) (by omega)
theorem cl_addR {k : Nat} (K : Nat) (h : k + K < 2 ^ 31) : (nI k + nI K).toNatClampNeg = k + K := by rw [nI_add, nI_clamp h]
theorem kept_l1 (v : tw) (k : Nat) (hk : k < 784) : u4 v (shL (t4 v) 112 (k + 1)) = u4 (u4 v (shL (t4 v) 112 k)) (upd (t4 (u4 v (shL (t4 v) 112 k))) (nI k).toNatClampNeg (t4 (u4 v (shL (t4 v) 112 k)) ((nI k + (112 : Int32))).toNatClampNeg)) := by
  rw [show (nI k).toNatClampNeg = k from cl_nI (by omega), show (nI k + (112 : Int32)).toNatClampNeg = k + 112 from cl_addR 112 (by omega), shL_s _ _ _ (by decide)]
  rfl
theorem kept_l2 (v : tw) (k : Nat) (hk : k < 231) : u5 v (shL (t5 v) 33 (k + 1)) = u5 (u5 v (shL (t5 v) 33 k)) (vf_upd (t5 (u5 v (shL (t5 v) 33 k))) (nI k).toNatClampNeg (t5 (u5 v (shL (t5 v) 33 k)) ((nI k + (33 : Int32))).toNatClampNeg)) := by
  rw [show (nI k).toNatClampNeg = k from cl_nI (by omega), show (nI k + (33 : Int32)).toNatClampNeg = k + 33 from cl_addR 33 (by omega), shL_sf _ _ _ (by decide)]
  rfl
theorem kept_ix {v w X : tw} (h9 : ix 9 (t6 v)) (hX : (if t6 v = 8 then u6 w (t6 w - (1 : Int32)) else v) = X) (hw : t6 w = t6 v) : ix 8 (t6 X) := by
  subst hX
  by_cases h : t6 v = 8
  · rw [if_pos h]
    show ix 8 (t6 w - 1)
    rw [hw, h]
    exact ⟨7, by decide, by decide⟩
  · rw [if_neg h]
    obtain ⟨k, h1, h2⟩ := h9
    refine ⟨k, ?_, h2⟩
    rcases Nat.lt_or_ge k 8 with h3 | h3
    · exact h3
    · exact absurd (by rw [h2, show k = 8 by omega]; rfl) h
theorem hist_fr {m : MethodId} {pc : Nat} {ls : Array Slot} {x : Int32} {n : Nat} (hx : ix 8 x) (hn : n < 2 ^ 20) (f : Int32 → List Value) : F0 m pc ls (f (x * nI n)) = F0 m pc ls (f (nI (x.toNatClampNeg * n))) := by
  obtain ⟨k, hk, rfl⟩ := hx
  rw [cl_nI (by omega), pk_mul]

def T_kept (v : tw) (x : Int32) : Int32 × tw :=
  if (t18 v) = 0 then
    let x3 := if (t6 v) = (8 : Int32) then (u6 (u5 (u4 v (shL (t4 v) 112 784)) (shL (t5 (u4 v (shL (t4 v) 112 784))) 33 231)) ((t6 v) - (1 : Int32))) else v;
    (x, (u6 (u5 (u4 x3 (va_cpy (t2 x3) (t4 x3) (0) ((t6 x3).toNatClampNeg * 112) 112)) (va_cpy (t3 x3) (t5 x3) (0) ((t6 x3).toNatClampNeg * 33) 33)) ((t6 x3) + (1 : Int32))))
  else
    ((0 : Int32), (u1 (u0 v (va_cpy (t2 v) (t0 v) (0) (0) 112)) (va_cpy (t3 v) (t1 v) (0) (0) 33)))
set_option maxHeartbeats 4000000 in
theorem tm_kept (l : Launch) (E : mE) (h : Nat) (v : tw) (x : Int32) (h9 : ix 9 (t6 v)) : Met l yX10_kept (ws_ yX10_kept cX10_kept 3 (some .int)) ({ frames := 1, cells := 0, slots := 0, locals := 24 }) (va_Pc [.ref h, .int x] (tP E h v)) (va_Qi (fun (r : Int32) (u : tw) => r = (T_kept v x).1 ∧ u = (T_kept v x).2) (fun u U => tW E h u U.heap) (eA E)) 0 0 (eA E) := by
  refine Met.ofW (cc := cX10_kept) (maxL := 3) (ret := (some .int)) (by decide) rfl ?_
  intro p e s m args below meth c s₁ B hml hv
  obtain ⟨rfl, hs, hm⟩ := hv
  have hx := B.exec
  have hb := B.bytes
  have hr := B.returns
  have hts := atoms_spec (ws := ws_ yX10_kept cX10_kept 3 (some .int)) B.pre
  have hts : ∀ w ∈ lw_all, w.before _ s = true := fun w h => hts w (List.mem_cons_of_mem _ h)
  have hown : s.vm.findClass RX10 = some m.cls := findClass_of_methodNamed B.named
  have hlocks := B.notSynchronized
  have hS : va_S (eA E) s.heap s.heap [] := va_S.rf
  have hl := lv_entry ([.ref h, .int x]) (n := 3) (Nat.le_of_ble_eq_true rfl)
  rw [lg_entry_eq]
  generalize (lg_sl ([.ref h, .int x]) ++ List.replicate (3 - (lg_sl ([.ref h, .int x])).length) Slot.unset).toArray = ls at hl ⊢
  have hl : lv_has ls 3 [(0, .ref (h)), (1, .int (x))] := hl
  refine lv_aload_n hx hb dX10_kept_0 rfl (lv_at hl 0 rfl) ?_
  refine tg_18 hx hb hts hown hs hm (hts _ q1692) dX10_kept_1 ?_
  refine lv_if_eq (tgt := 35) hx hb dX10_kept_4 (by decide) (fun c_1 => ?_) (fun c_1 => ?_)
  · refine lv_aload_n hx hb dX10_kept_35 rfl (lv_at hl 0 rfl) ?_
    refine tg_6 hx hb hts hown hs hm (hts _ q1680) dX10_kept_36 ?_
    refine lv_bipush (v := (8 : Int32)) hx hb dX10_kept_39 (by decide) ?_
    refine k_join (fun (x3 : tw) H locs ls => x3 = (if (t6 v) = (8 : Int32) then (u6 (u5 (u4 v (shL (t4 v) 112 784)) (shL (t5 (u4 v (shL (t4 v) 112 784))) 33 231)) ((t6 v) - (1 : Int32))) else v) ∧ tW E h (x3) H ∧ va_S (eA E) s.heap H locs ∧ lv_has ls 3 [(0, .ref (h)), (1, .int (x))]) (fun (x3 : tw) ls => F0 m 114 ls []) (fun x3 H locs ls hJ => ?_) (fun J3 => ?_)
    · obtain ⟨hX3, hm, hS, hl⟩ := hJ
      have h8 := kept_ix (w := u5 (u4 v (shL (t4 v) 112 784)) (shL (t5 (u4 v (shL (t4 v) 112 784))) 33 231)) h9 (hX3).symm rfl
      obtain ⟨h8a, h8b⟩ := h8.nat (by decide)
      refine lv_aload_n hx hb dX10_kept_114 rfl (lv_at hl 0 rfl) ?_
      refine tg_2 hx hb hts hown hs hm (hts _ q1676) dX10_kept_115 ?_
      refine lv_iconst (v := (0 : Int32)) hx hb dX10_kept_118 (by decide) ?_
      refine lv_aload_n hx hb dX10_kept_119 rfl (lv_at hl 0 rfl) ?_
      refine tg_4 hx hb hts hown hs hm (hts _ q1678) dX10_kept_120 ?_
      refine lv_aload_n hx hb dX10_kept_123 rfl (lv_at hl 0 rfl) ?_
      refine tg_6 hx hb hts hown hs hm (hts _ q1680) dX10_kept_124 ?_
      refine lv_bipush (v := (112 : Int32)) hx hb dX10_kept_127 (by decide) ?_
      refine lv_imul hx hb dX10_kept_129 ?_
      refine W.eq (g2 := F0 m 130 ls ([.int (nI ((t6 x3).toNatClampNeg * 112)), .ref (h + 5), .int (nI (0)), .ref (h + 3)] ++ [])) (hist_fr h8 (by decide) (fun z => [.int z, .ref (h + 5), .int (0 : Int32), .ref (h + 3)])) ?_
      refine k_call2 3 5 hm rfl rfl (va_runS (As := [.ref (h + 3), .int (nI (0)), .ref (h + 5), .int (nI ((t6 x3).toNatClampNeg * 112))]) (rest := []) ⟨hx, hb, hml, hown, hts⟩ (tm_copy l E _ _ _ _ _ _ (0) ((t6 x3).toNatClampNeg * 112) (by decide) (by have := h8a; omega) (by decide) (by decide)) (va_cwS 4 hts (lw_S q1753 q1754 q80 q1755) rfl rfl rfl (by decide +kernel) ⟨Nat.le_of_ble_eq_true rfl, Nat.le_of_ble_eq_true rfl⟩) (k_pre2 (qa := 3) (qb := 5) hs hm rfl rfl (by decide)) rfl rfl hl.1 rfl (lv_room (Nat.le_of_ble_eq_true rfl)) dX10_kept_130 ⟨Nat.le_of_ble_eq_true rfl, Nat.le_of_ble_eq_true rfl⟩) hS (fun H locs hm hS => ?_)
      have hm := tW_set_4 hm
      have hm : tW E h (u4 x3 (va_cpy (t2 x3) (t4 x3) (0) ((t6 x3).toNatClampNeg * 112) 112)) H := hm
      refine lv_aload_n hx hb dX10_kept_133 rfl (lv_at hl 0 rfl) ?_
      refine tg_3 hx hb hts hown hs hm (hts _ q1677) dX10_kept_134 ?_
      refine lv_iconst (v := (0 : Int32)) hx hb dX10_kept_137 (by decide) ?_
      refine lv_aload_n hx hb dX10_kept_138 rfl (lv_at hl 0 rfl) ?_
      refine tg_5 hx hb hts hown hs hm (hts _ q1679) dX10_kept_139 ?_
      refine lv_aload_n hx hb dX10_kept_142 rfl (lv_at hl 0 rfl) ?_
      refine tg_6 hx hb hts hown hs hm (hts _ q1680) dX10_kept_143 ?_
      refine lv_bipush (v := (33 : Int32)) hx hb dX10_kept_146 (by decide) ?_
      refine lv_imul hx hb dX10_kept_148 ?_
      refine W.eq (g2 := F0 m 149 ls ([.int (nI ((t6 x3).toNatClampNeg * 33)), .ref (h + 6), .int (nI (0)), .ref (h + 4)] ++ [])) (hist_fr h8 (by decide) (fun z => [.int z, .ref (h + 6), .int (0 : Int32), .ref (h + 4)])) ?_
      refine k_call2 4 6 hm rfl rfl (va_runS (As := [.ref (h + 4), .int (nI (0)), .ref (h + 6), .int (nI ((t6 x3).toNatClampNeg * 33))]) (rest := []) ⟨hx, hb, hml, hown, hts⟩ (tm_copyFloats l E _ _ _ _ _ _ (0) ((t6 x3).toNatClampNeg * 33) (by decide) (by have := h8a; omega) (by decide) (by decide)) (va_cwS 4 hts (lw_S q1756 q1757 q80 q1758) rfl rfl rfl (by decide +kernel) ⟨Nat.le_of_ble_eq_true rfl, Nat.le_of_ble_eq_true rfl⟩) (k_pre2 (qa := 4) (qb := 6) hs hm rfl rfl (by decide)) rfl rfl hl.1 rfl (lv_room (Nat.le_of_ble_eq_true rfl)) dX10_kept_149 ⟨Nat.le_of_ble_eq_true rfl, Nat.le_of_ble_eq_true rfl⟩) hS (fun H locs hm hS => ?_)
      have hm := tW_set_5 hm
      have hm : tW E h (u5 (u4 x3 (va_cpy (t2 x3) (t4 x3) (0) ((t6 x3).toNatClampNeg * 112) 112)) (va_cpy (t3 x3) (t5 x3) (0) ((t6 x3).toNatClampNeg * 33) 33)) H := hm
      refine lv_aload_n hx hb dX10_kept_152 rfl (lv_at hl 0 rfl) ?_
      refine lv_dup hx hb dX10_kept_153 rfl ?_
      refine tg_6 hx hb hts hown hs hm (hts _ q1680) dX10_kept_154 ?_
      refine lv_iconst (v := (1 : Int32)) hx hb dX10_kept_157 (by decide) ?_
      refine lv_iadd hx hb dX10_kept_158 ?_
      refine tp_6 hx hb hts hown hs hm hS (hts _ q1680) dX10_kept_159 (fun H locs hm hS => ?_)
      have hm : tW E h (u6 (u5 (u4 x3 (va_cpy (t2 x3) (t4 x3) (0) ((t6 x3).toNatClampNeg * 112) 112)) (va_cpy (t3 x3) (t5 x3) (0) ((t6 x3).toNatClampNeg * 33) 33)) ((t6 x3) + (1 : Int32))) H := hm
      refine lv_iload_n hx hb dX10_kept_162 rfl (lv_at hl 1 rfl) ?_
      subst hX3
      exact W.iret (v := _) hx hb hr (fun t9 ht9 _ => ⟨⟨_, _, rfl, pp ((if_pos c_1).trans (rfl)), hb9 ht9 hm⟩, hS.F ht9⟩) hS.2.2 dX10_kept_163
    · refine lv_icmp_ne (tgt := 114) hx hb dX10_kept_41 (by decide) (fun c_2 => ?_) (fun c_2 => ?_)
      · exact J3 (v) _ _ _ ⟨((if_neg c_2).trans (rfl)).symm, hm, hS, lv_sub hl [0, 1] rfl⟩
      · refine lv_iconst (v := (0 : Int32)) hx hb dX10_kept_44 (by decide) ?_
        refine lv_istore_n (lv' := [(2, _), (0, _), (1, _)]) hx hb dX10_kept_45 rfl hl (by decide) rfl (fun ls hl => ?_)
        refine k_loop (fun k => 784 - k) (fun (k : Nat) H locs ls => (k ≤ 784) ∧ tW E h ((u4 v (shL (t4 v) 112 k))) H ∧ va_S (eA E) s.heap H locs ∧ lv_has ls 3 [(2, .int (nI k)), (0, .ref (h)), (1, .int (x))]) (fun (k : Nat) ls => F0 m 46 ls []) (fun k => (0, 0)) (fun k ih_6 H locs ls hP => ?_) (0) ⟨(Nat.zero_le _), (by rw [shL_0]; exact hm), hS, lv_sub hl [0, 1, 2] rfl⟩
        obtain ⟨hI_6, hm, hS, hl⟩ := hP
        refine lv_iload_n hx hb dX10_kept_46 rfl (lv_at hl 0 rfl) ?_
        refine lv_sipush (v := (784 : Int32)) hx hb dX10_kept_47 (by decide) ?_
        refine lv_icmp_ge (tgt := 74) hx hb dX10_kept_50 (by decide) (fun c_7 => ?_) (fun c_7 => ?_)
        · have hkN : k = 784 := lp_ge (by decide) hI_6 c_7
          replace hkN := hkN.symm
          subst hkN
          refine lv_iconst (v := (0 : Int32)) hx hb dX10_kept_74 (by decide) ?_
          refine lv_istore_n (lv' := [(2, _), (0, _), (1, _)]) hx hb dX10_kept_75 rfl hl (by decide) rfl (fun ls hl => ?_)
          refine k_loop (fun k => 231 - k) (fun (k : Nat) H locs ls => (k ≤ 231) ∧ tW E h ((u5 (u4 v (shL (t4 v) 112 784)) (shL (t5 (u4 v (shL (t4 v) 112 784))) 33 k))) H ∧ va_S (eA E) s.heap H locs ∧ lv_has ls 3 [(2, .int (nI k)), (0, .ref (h)), (1, .int (x))]) (fun (k : Nat) ls => F0 m 76 ls []) (fun k => (0, 0)) (fun k ih_8 H locs ls hP => ?_) (0) ⟨(Nat.zero_le _), (by rw [shL_0]; exact hm), hS, lv_sub hl [0, 1, 2] rfl⟩
          obtain ⟨hI_8, hm, hS, hl⟩ := hP
          refine lv_iload_n hx hb dX10_kept_76 rfl (lv_at hl 0 rfl) ?_
          refine lv_sipush (v := (231 : Int32)) hx hb dX10_kept_77 (by decide) ?_
          refine lv_icmp_ge (tgt := 104) hx hb dX10_kept_80 (by decide) (fun c_9 => ?_) (fun c_9 => ?_)
          · have hkN : k = 231 := lp_ge (by decide) hI_8 c_9
            replace hkN := hkN.symm
            subst hkN
            refine lv_aload_n hx hb dX10_kept_104 rfl (lv_at hl 1 rfl) ?_
            refine lv_dup hx hb dX10_kept_105 rfl ?_
            refine tg_6 hx hb hts hown hs hm (hts _ q1680) dX10_kept_106 ?_
            refine lv_iconst (v := (1 : Int32)) hx hb dX10_kept_109 (by decide) ?_
            refine lv_isub hx hb dX10_kept_110 ?_
            refine tp_6 hx hb hts hown hs hm hS (hts _ q1680) dX10_kept_111 (fun H locs hm hS => ?_)
            have hm : tW E h (u6 (u5 (u4 v (shL (t4 v) 112 784)) (shL (t5 (u4 v (shL (t4 v) 112 784))) 33 231)) ((t6 v) - (1 : Int32))) H := hm
            exact J3 ((u6 (u5 (u4 v (shL (t4 v) 112 784)) (shL (t5 (u4 v (shL (t4 v) 112 784))) 33 231)) ((t6 v) - (1 : Int32)))) _ _ _ ⟨((if_pos c_2).trans (rfl)).symm, hm, hS, lv_sub hl [1, 2] rfl⟩
          · have hk : k < 231 := lp_lt (by decide) hI_8 c_9
            refine lv_aload_n hx hb dX10_kept_83 rfl (lv_at hl 1 rfl) ?_
            refine tg_5 hx hb hts hown hs hm (hts _ q1679) dX10_kept_84 ?_
            refine lv_iload_n hx hb dX10_kept_87 rfl (lv_at hl 0 rfl) ?_
            refine lv_aload_n hx hb dX10_kept_88 rfl (lv_at hl 1 rfl) ?_
            refine tg_5 hx hb hts hown hs hm (hts _ q1679) dX10_kept_89 ?_
            refine lv_iload_n hx hb dX10_kept_92 rfl (lv_at hl 0 rfl) ?_
            refine lv_bipush (v := (33 : Int32)) hx hb dX10_kept_93 (by decide) ?_
            refine lv_iadd hx hb dX10_kept_95 ?_
            refine tl_5 hx hb hs hm (ix.addR 33 264 ⟨k, hk, rfl⟩ (by decide) (by decide)) dX10_kept_96 ?_
            refine ts_5 hx hb hs hm hS (vi k (by omega) (by decide)) dX10_kept_97 (fun H locs hm hS => ?_)
            have hm : tW E h (u5 (u4 v (shL (t4 v) 112 784)) (vf_upd (shL (t5 (u4 v (shL (t4 v) 112 784))) 33 k) (nI k).toNatClampNeg ((shL (t5 (u4 v (shL (t4 v) 112 784))) 33 k) ((nI k + (33 : Int32))).toNatClampNeg))) H := hm
            refine lv_iinc (v := nI (k + 1)) (lv' := [(2, _), (0, _), (1, _)]) hx hb dX10_kept_98 hl (k := 0) rfl (nI_succ k).symm (by decide) rfl (fun ls hl => ?_)
            refine lv_goto (tgt := 76) hx hb dX10_kept_101 (by decide) ?_
            exact ih_8 (k + 1) (by omega) _ _ _ ⟨(by omega), (by rw [kept_l2 (u4 v (shL (t4 v) 112 784)) k hk]; exact hm), hS, lv_sub hl [0, 1, 2] rfl⟩
        · have hk : k < 784 := lp_lt (by decide) hI_6 c_7
          refine lv_aload_n hx hb dX10_kept_53 rfl (lv_at hl 1 rfl) ?_
          refine tg_4 hx hb hts hown hs hm (hts _ q1678) dX10_kept_54 ?_
          refine lv_iload_n hx hb dX10_kept_57 rfl (lv_at hl 0 rfl) ?_
          refine lv_aload_n hx hb dX10_kept_58 rfl (lv_at hl 1 rfl) ?_
          refine tg_4 hx hb hts hown hs hm (hts _ q1678) dX10_kept_59 ?_
          refine lv_iload_n hx hb dX10_kept_62 rfl (lv_at hl 0 rfl) ?_
          refine lv_bipush (v := (112 : Int32)) hx hb dX10_kept_63 (by decide) ?_
          refine lv_iadd hx hb dX10_kept_65 ?_
          refine tl_4 hx hb hs hm (ix.addR 112 896 ⟨k, hk, rfl⟩ (by decide) (by decide)) dX10_kept_66 ?_
          refine ts_4 hx hb hs hm hS (vi k (by omega) (by decide)) dX10_kept_67 (fun H locs hm hS => ?_)
          have hm : tW E h (u4 v (upd (shL (t4 v) 112 k) (nI k).toNatClampNeg ((shL (t4 v) 112 k) ((nI k + (112 : Int32))).toNatClampNeg))) H := hm
          refine lv_iinc (v := nI (k + 1)) (lv' := [(2, _), (0, _), (1, _)]) hx hb dX10_kept_68 hl (k := 0) rfl (nI_succ k).symm (by decide) rfl (fun ls hl => ?_)
          refine lv_goto (tgt := 46) hx hb dX10_kept_71 (by decide) ?_
          exact ih_6 (k + 1) (by omega) _ _ _ ⟨(by omega), (by rw [kept_l1 v k hk]; exact hm), hS, lv_sub hl [0, 1, 2] rfl⟩
  · refine lv_aload_n hx hb dX10_kept_7 rfl (lv_at hl 0 rfl) ?_
    refine tg_2 hx hb hts hown hs hm (hts _ q1676) dX10_kept_8 ?_
    refine lv_iconst (v := (0 : Int32)) hx hb dX10_kept_11 (by decide) ?_
    refine lv_aload_n hx hb dX10_kept_12 rfl (lv_at hl 0 rfl) ?_
    refine tg_0 hx hb hts hown hs hm (hts _ q1674) dX10_kept_13 ?_
    refine lv_iconst (v := (0 : Int32)) hx hb dX10_kept_16 (by decide) ?_
    refine k_call2 3 1 hm rfl rfl (va_runS (As := [.ref (h + 3), .int (nI (0)), .ref (h + 1), .int (nI (0))]) (rest := []) ⟨hx, hb, hml, hown, hts⟩ (tm_copy l E _ _ _ _ _ _ (0) (0) (by decide) (by decide) (by decide) (by decide)) (va_cwS 4 hts (lw_S q1753 q1754 q80 q1755) rfl rfl rfl (by decide +kernel) ⟨Nat.le_of_ble_eq_true rfl, Nat.le_of_ble_eq_true rfl⟩) (k_pre2 (qa := 3) (qb := 1) hs hm rfl rfl (by decide)) rfl rfl hl.1 rfl (lv_room (Nat.le_of_ble_eq_true rfl)) dX10_kept_17 ⟨Nat.le_of_ble_eq_true rfl, Nat.le_of_ble_eq_true rfl⟩) hS (fun H locs hm hS => ?_)
    have hm := tW_set_0 hm
    have hm : tW E h (u0 v (va_cpy (t2 v) (t0 v) (0) (0) 112)) H := hm
    refine lv_aload_n hx hb dX10_kept_20 rfl (lv_at hl 0 rfl) ?_
    refine tg_3 hx hb hts hown hs hm (hts _ q1677) dX10_kept_21 ?_
    refine lv_iconst (v := (0 : Int32)) hx hb dX10_kept_24 (by decide) ?_
    refine lv_aload_n hx hb dX10_kept_25 rfl (lv_at hl 0 rfl) ?_
    refine tg_1 hx hb hts hown hs hm (hts _ q1675) dX10_kept_26 ?_
    refine lv_iconst (v := (0 : Int32)) hx hb dX10_kept_29 (by decide) ?_
    refine k_call2 4 2 hm rfl rfl (va_runS (As := [.ref (h + 4), .int (nI (0)), .ref (h + 2), .int (nI (0))]) (rest := []) ⟨hx, hb, hml, hown, hts⟩ (tm_copyFloats l E _ _ _ _ _ _ (0) (0) (by decide) (by decide) (by decide) (by decide)) (va_cwS 4 hts (lw_S q1756 q1757 q80 q1758) rfl rfl rfl (by decide +kernel) ⟨Nat.le_of_ble_eq_true rfl, Nat.le_of_ble_eq_true rfl⟩) (k_pre2 (qa := 4) (qb := 2) hs hm rfl rfl (by decide)) rfl rfl hl.1 rfl (lv_room (Nat.le_of_ble_eq_true rfl)) dX10_kept_30 ⟨Nat.le_of_ble_eq_true rfl, Nat.le_of_ble_eq_true rfl⟩) hS (fun H locs hm hS => ?_)
    have hm := tW_set_1 hm
    have hm : tW E h (u1 (u0 v (va_cpy (t2 v) (t0 v) (0) (0) 112)) (va_cpy (t3 v) (t1 v) (0) (0) 33)) H := hm
    refine lv_iconst (v := (0 : Int32)) hx hb dX10_kept_33 (by decide) ?_
    exact W.iret (v := _) hx hb hr (fun t9 ht9 _ => ⟨⟨_, _, rfl, pp ((if_neg c_1).trans (rfl)), hb9 ht9 hm⟩, hS.F ht9⟩) hS.2.2 dX10_kept_34
theorem i9_u0 {v : tw} {x : (Nat → Int32)} (h : ix 9 (t6 v)) : ix 9 (t6 (u0 v x)) := h
theorem i9_u1 {v : tw} {x : (Nat → UInt32)} (h : ix 9 (t6 v)) : ix 9 (t6 (u1 v x)) := h
theorem i9_u2 {v : tw} {x : (Nat → Int32)} (h : ix 9 (t6 v)) : ix 9 (t6 (u2 v x)) := h
theorem i9_u3 {v : tw} {x : (Nat → UInt32)} (h : ix 9 (t6 v)) : ix 9 (t6 (u3 v x)) := h
theorem i9_u4 {v : tw} {x : (Nat → Int32)} (h : ix 9 (t6 v)) : ix 9 (t6 (u4 v x)) := h
theorem i9_u5 {v : tw} {x : (Nat → UInt32)} (h : ix 9 (t6 v)) : ix 9 (t6 (u5 v x)) := h
theorem i9_u7 {v : tw} {x : (Nat → Int32)} (h : ix 9 (t6 v)) : ix 9 (t6 (u7 v x)) := h
theorem i9_u8 {v : tw} {x : (Nat → UInt32)} (h : ix 9 (t6 v)) : ix 9 (t6 (u8 v x)) := h
theorem i9_u9 {v : tw} {x : Int32} (h : ix 9 (t6 v)) : ix 9 (t6 (u9 v x)) := h
theorem i9_u10 {v : tw} {x : (Nat → Int32)} (h : ix 9 (t6 v)) : ix 9 (t6 (u10 v x)) := h
theorem i9_u11 {v : tw} {x : (Nat → UInt32)} (h : ix 9 (t6 v)) : ix 9 (t6 (u11 v x)) := h
theorem i9_u12 {v : tw} {x : (Nat → Int32)} (h : ix 9 (t6 v)) : ix 9 (t6 (u12 v x)) := h
theorem i9_u13 {v : tw} {x : Int32} (h : ix 9 (t6 v)) : ix 9 (t6 (u13 v x)) := h
theorem i9_u14 {v : tw} {x : Int32} (h : ix 9 (t6 v)) : ix 9 (t6 (u14 v x)) := h
theorem i9_u15 {v : tw} {x : Int32} (h : ix 9 (t6 v)) : ix 9 (t6 (u15 v x)) := h
theorem i9_u16 {v : tw} {x : Int32} (h : ix 9 (t6 v)) : ix 9 (t6 (u16 v x)) := h
theorem i9_u17 {v : tw} {x : Int32} (h : ix 9 (t6 v)) : ix 9 (t6 (u17 v x)) := h
theorem i9_u18 {v : tw} {x : Int32} (h : ix 9 (t6 v)) : ix 9 (t6 (u18 v x)) := h
theorem i9_u19 {v : tw} {x : Int32} (h : ix 9 (t6 v)) : ix 9 (t6 (u19 v x)) := h
theorem i9_u20 {v : tw} {x : Int32} (h : ix 9 (t6 v)) : ix 9 (t6 (u20 v x)) := h
theorem i9_u21 {v : tw} {x : (Nat → Int32)} (h : ix 9 (t6 v)) : ix 9 (t6 (u21 v x)) := h
theorem i9_looksBack {v : tw} (h : ix 9 (t6 v)) : ix 9 (t6 (T_looksBack v)) := h
theorem i9_laysAside {v : tw} (h : ix 9 (t6 v)) : ix 9 (t6 (T_laysAside v)) := h
theorem i9_laysBack {v : tw} (h : ix 9 (t6 v)) : ix 9 (t6 (T_laysBack v)) := h
