set_option maxRecDepth 100000
/-! the reference, method by method: what it computes (T_..), and that it does (tm_..) -/
def placeF (f : Nat → UInt32) (w : UInt32) : Nat → Nat
  | 0 => 0
  | k + 1 => if 0 ≤ Op.cmpValue (FP.fcmp (f ((((28 : Int32) + nI (k + 1)) - (1 : Int32))).toNatClampNeg) w) .g then k + 1 else placeF f w k
theorem placeF_le (f : Nat → UInt32) (w : UInt32) : ∀ k, placeF f w k ≤ k
  | 0 => Nat.le_refl _
  | k + 1 => by
    unfold placeF
    split
    · exact Nat.le_refl _
    · exact Nat.le_trans (placeF_le f w k) (Nat.le_succ k)
theorem place_e {f : Nat → UInt32} {w : UInt32} {k n : Nat} (h : k ≤ 5 ∧ placeF f w n = placeF f w k) (c : nI k ≤ 0 ∨ (¬ nI k ≤ 0 ∧ 0 ≤ Op.cmpValue (FP.fcmp (f ((((28 : Int32) + nI k) - (1 : Int32))).toNatClampNeg) w) .g)) : nI (placeF f w n) = nI k := by
  rw [h.2]
  rcases c with c | ⟨c, c2⟩
  · rw [mv_ge (by omega) c]
    rfl
  · have := mv_lt (by omega) c
    obtain ⟨j, rfl⟩ : ∃ j, k = j + 1 := ⟨k - 1, by omega⟩
    rw [show placeF f w (j + 1) = j + 1 from if_pos c2]
theorem place_s {f : Nat → UInt32} {w : UInt32} {k n : Nat} (h : k ≤ 5 ∧ placeF f w n = placeF f w k) (c : ¬ nI k ≤ 0) (c2 : ¬ 0 ≤ Op.cmpValue (FP.fcmp (f ((((28 : Int32) + nI k) - (1 : Int32))).toNatClampNeg) w) .g) : k - 1 ≤ 5 ∧ placeF f w n = placeF f w (k - 1) := by
  refine ⟨by omega, ?_⟩
  have := mv_lt (by omega) c
  obtain ⟨j, rfl⟩ : ∃ j, k = j + 1 := ⟨k - 1, by omega⟩
  rw [h.2, show placeF f w (j + 1) = placeF f w j from if_neg c2]
  rfl
def shG (k top : Nat) (g : Nat → Int32) : Nat → Int32 := fun j => if (97 + k < j ∧ j ≤ 97 + top) ∨ (102 + k < j ∧ j ≤ 102 + top) ∨ (107 + k < j ∧ j ≤ 107 + top) then g (j - 1) else g j
def shP (k top : Nat) (f : Nat → UInt32) : Nat → UInt32 := fun j => if 28 + k < j ∧ j ≤ 28 + top then f (j - 1) else f j
theorem shG_0 (k : Nat) (g : Nat → Int32) : shG k k g = g := by funext j; unfold shG; rw [if_neg (by omega)]
theorem shP_0 (k : Nat) (f : Nat → UInt32) : shP k k f = f := by funext j; unfold shP; rw [if_neg (by omega)]
theorem cl_pred {k : Nat} (K : Nat) (hk : 0 < k) (h : K + k < 2 ^ 30) : ((nI K + nI k) - (1 : Int32)).toNatClampNeg = K + (k - 1) := by
  rw [nI_add, show K + k = (K + (k - 1)) + 1 by omega, show nI (K + (k - 1) + 1) - (1 : Int32) = nI (K + (k - 1)) from nI_pred _, cl_nI (by omega)]
theorem shP_s (f : Nat → UInt32) (k top : Nat) (hk : 0 < k) (hk2 : k ≤ top) (ht : top ≤ 4) : shP (k - 1) top f = vf_upd (shP k top f) (((28 : Int32) + nI k)).toNatClampNeg (shP k top f ((((28 : Int32) + nI k) - (1 : Int32))).toNatClampNeg) := by
  rw [show ((28 : Int32) + nI k).toNatClampNeg = 28 + k from cl_add 28 (by omega), show (((28 : Int32) + nI k) - (1 : Int32)).toNatClampNeg = 28 + (k - 1) from cl_pred 28 hk (by omega)]
  funext j
  unfold shP vf_upd
  dsimp only
  by_cases h : j = 28 + k
  · rw [if_pos h, if_pos (by omega), if_neg (by omega), h, show 28 + k - 1 = 28 + (k - 1) by omega]
  · rw [if_neg h]
    by_cases h2 : 28 + k < j ∧ j ≤ 28 + top
    · rw [if_pos h2, if_pos (by omega)]
    · rw [if_neg h2, if_neg (by omega)]
theorem shG_s (g : Nat → Int32) (k top : Nat) (hk : 0 < k) (hk2 : k ≤ top) (ht : top ≤ 4) : shG (k - 1) top g = upd (upd (upd (shG k top g) (((97 : Int32) + nI k)).toNatClampNeg (shG k top g ((((97 : Int32) + nI k) - (1 : Int32))).toNatClampNeg)) (((102 : Int32) + nI k)).toNatClampNeg ((upd (shG k top g) (((97 : Int32) + nI k)).toNatClampNeg (shG k top g ((((97 : Int32) + nI k) - (1 : Int32))).toNatClampNeg)) ((((102 : Int32) + nI k) - (1 : Int32))).toNatClampNeg)) (((107 : Int32) + nI k)).toNatClampNeg ((upd (upd (shG k top g) (((97 : Int32) + nI k)).toNatClampNeg (shG k top g ((((97 : Int32) + nI k) - (1 : Int32))).toNatClampNeg)) (((102 : Int32) + nI k)).toNatClampNeg ((upd (shG k top g) (((97 : Int32) + nI k)).toNatClampNeg (shG k top g ((((97 : Int32) + nI k) - (1 : Int32))).toNatClampNeg)) ((((102 : Int32) + nI k) - (1 : Int32))).toNatClampNeg)) ((((107 : Int32) + nI k) - (1 : Int32))).toNatClampNeg) := by
  rw [show ((97 : Int32) + nI k).toNatClampNeg = 97 + k from cl_add 97 (by omega), show (((97 : Int32) + nI k) - (1 : Int32)).toNatClampNeg = 97 + (k - 1) from cl_pred 97 hk (by omega),
    show ((102 : Int32) + nI k).toNatClampNeg = 102 + k from cl_add 102 (by omega), show (((102 : Int32) + nI k) - (1 : Int32)).toNatClampNeg = 102 + (k - 1) from cl_pred 102 hk (by omega),
    show ((107 : Int32) + nI k).toNatClampNeg = 107 + k from cl_add 107 (by omega), show (((107 : Int32) + nI k) - (1 : Int32)).toNatClampNeg = 107 + (k - 1) from cl_pred 107 hk (by omega)]
  have a1 : ∀ x : Int32, upd (shG k top g) (97 + k) x (102 + (k - 1)) = shG k top g (102 + (k - 1)) := fun x => upd_off (by omega)
  have a2 : ∀ x y : Int32, upd (upd (shG k top g) (97 + k) x) (102 + k) y (107 + (k - 1)) = shG k top g (107 + (k - 1)) := fun x y => by rw [upd_off (by omega), upd_off (by omega)]
  rw [a1, a2]
  have b1 : shG k top g (97 + (k - 1)) = g (97 + (k - 1)) := if_neg (by omega)
  have b2 : shG k top g (102 + (k - 1)) = g (102 + (k - 1)) := if_neg (by omega)
  have b3 : shG k top g (107 + (k - 1)) = g (107 + (k - 1)) := if_neg (by omega)
  rw [b1, b2, b3]
  funext j
  by_cases h3 : j = 107 + k
  · subst h3
    rw [show upd _ (107 + k) _ (107 + k) = _ from if_pos rfl]
    unfold shG
    rw [if_pos (by omega), show 107 + k - 1 = 107 + (k - 1) by omega]
  · rw [show upd _ (107 + k) _ j = _ from if_neg h3]
    by_cases h2 : j = 102 + k
    · subst h2
      rw [show upd _ (102 + k) _ (102 + k) = _ from if_pos rfl]
      unfold shG
      rw [if_pos (by omega), show 102 + k - 1 = 102 + (k - 1) by omega]
    · rw [show upd _ (102 + k) _ j = _ from if_neg h2]
      by_cases h1 : j = 97 + k
      · subst h1
        rw [show upd _ (97 + k) _ (97 + k) = _ from if_pos rfl]
        unfold shG
        rw [if_pos (by omega), show 97 + k - 1 = 97 + (k - 1) by omega]
      · rw [show upd _ (97 + k) _ j = _ from if_neg h1]
        unfold shG
        by_cases h4 : (97 + k < j ∧ j ≤ 97 + top) ∨ (102 + k < j ∧ j ≤ 102 + top) ∨ (107 + k < j ∧ j ≤ 107 + top)
        · rw [if_pos h4, if_pos (by omega)]
        · rw [if_neg h4, if_neg (by omega)]
/-- how many are in the list then, less one -/
def topN (n : Int32) : Nat := min n.toNatClampNeg 4
theorem top_eq {g : Nat → Int32} {x : Int32} (h : ix 6 (g ((96 : Int32)).toNatClampNeg)) (hx : x = if (5 : Int32) ≤ g ((96 : Int32)).toNatClampNeg then (0 : Int32) else (1 : Int32)) : nI (topN (g ((96 : Int32)).toNatClampNeg)) = (upd g ((96 : Int32)).toNatClampNeg (g ((96 : Int32)).toNatClampNeg + x)) ((96 : Int32)).toNatClampNeg - (1 : Int32) := by
  subst hx
  rw [show upd g ((96 : Int32)).toNatClampNeg _ ((96 : Int32)).toNatClampNeg = _ from if_pos rfl]
  obtain ⟨k, hk, e⟩ := h
  rw [e]
  match k, hk with
  | 0, _ => decide
  | 1, _ => decide
  | 2, _ => decide
  | 3, _ => decide
  | 4, _ => decide
  | 5, _ => decide
theorem nI_inj {a b : Nat} (ha : a < 2 ^ 31) (hb : b < 2 ^ 31) (h : nI a = nI b) : a = b := by
  rw [← cl_nI ha, ← cl_nI hb, h]
theorem down_ge {k P : Nat} (hP : P ≤ 100) (hk : k ≤ 100) (h : P ≤ k) (c : nI k ≤ nI P) : k = P := by
  have := (nI_leI (by omega) (by omega)).mp c
  omega
theorem down_lt {k P : Nat} (hP : P ≤ 100) (hk : k ≤ 100) (c : ¬ nI k ≤ nI P) : P < k := by
  rcases Nat.lt_or_ge P k with h | h
  · exact h
  · exact absurd (nI_le h (by omega)) c
def T_lists (v : tw) (x : Int32) (y : Int32) (z : UInt32) : tw :=
  if (nI (placeF (t1 v) z (t0 v ((96 : Int32)).toNatClampNeg).toNatClampNeg)) = (5 : Int32) then
    v
  else
    let x4 := if (5 : Int32) ≤ (t0 v ((96 : Int32)).toNatClampNeg) then (0 : Int32) else (1 : Int32);
    (u1 (u0 v (upd (upd (upd (shG ((placeF (t1 v) z (t0 v ((96 : Int32)).toNatClampNeg).toNatClampNeg)) (topN (t0 v ((96 : Int32)).toNatClampNeg)) (upd (t0 v) ((96 : Int32)).toNatClampNeg ((t0 v ((96 : Int32)).toNatClampNeg) + x4))) (((97 : Int32) + (nI (placeF (t1 v) z (t0 v ((96 : Int32)).toNatClampNeg).toNatClampNeg)))).toNatClampNeg x) (((102 : Int32) + (nI (placeF (t1 v) z (t0 v ((96 : Int32)).toNatClampNeg).toNatClampNeg)))).toNatClampNeg y) (((107 : Int32) + (nI (placeF (t1 v) z (t0 v ((96 : Int32)).toNatClampNeg).toNatClampNeg)))).toNatClampNeg ((upd (upd (shG ((placeF (t1 v) z (t0 v ((96 : Int32)).toNatClampNeg).toNatClampNeg)) (topN (t0 v ((96 : Int32)).toNatClampNeg)) (upd (t0 v) ((96 : Int32)).toNatClampNeg ((t0 v ((96 : Int32)).toNatClampNeg) + x4))) (((97 : Int32) + (nI (placeF (t1 v) z (t0 v ((96 : Int32)).toNatClampNeg).toNatClampNeg)))).toNatClampNeg x) (((102 : Int32) + (nI (placeF (t1 v) z (t0 v ((96 : Int32)).toNatClampNeg).toNatClampNeg)))).toNatClampNeg y) ((0 : Int32)).toNatClampNeg))) (vf_upd (shP ((placeF (t1 v) z (t0 v ((96 : Int32)).toNatClampNeg).toNatClampNeg)) (topN (t0 v ((96 : Int32)).toNatClampNeg)) (t1 v)) (((28 : Int32) + (nI (placeF (t1 v) z (t0 v ((96 : Int32)).toNatClampNeg).toNatClampNeg)))).toNatClampNeg z))
set_option maxHeartbeats 4000000 in
theorem tm_lists (l : Launch) (E : mE) (h : Nat) (v : tw) (x : Int32) (y : Int32) (z : UInt32) (hw : wf (t0 v) (t1 v)) : Met l yX10_lists (ws_ yX10_lists cX10_lists 6 none) ({ frames := 0, cells := 0, slots := 0, locals := 0 }) (va_Pc [.ref h, .int x, .int y, .float z] (tP E h v)) (va_Qv (fun (u : tw) => u = T_lists v x y z) (fun u U => tW E h u U.heap) (eA E)) 0 0 (eA E) := by
  refine Met.ofW (cc := cX10_lists) (maxL := 6) (ret := none) (by decide) rfl ?_
  intro p e s m args below meth c s₁ B hml hv
  obtain ⟨rfl, hs, hm⟩ := hv
  have hx := B.exec
  have hb := B.bytes
  have hr := B.returns
  have hts := atoms_spec (ws := ws_ yX10_lists cX10_lists 6 none) B.pre
  have hts : ∀ w ∈ lw_all, w.before _ s = true := fun w h => hts w (List.mem_cons_of_mem _ h)
  have hown : s.vm.findClass RX10 = some m.cls := findClass_of_methodNamed B.named
  have hlocks := B.notSynchronized
  have hS : va_S (eA E) s.heap s.heap [] := va_S.rf
  have hl := lv_entry ([.ref h, .int x, .int y, .float z]) (n := 6) (Nat.le_of_ble_eq_true rfl)
  rw [lg_entry_eq]
  generalize (lg_sl ([.ref h, .int x, .int y, .float z]) ++ List.replicate (6 - (lg_sl ([.ref h, .int x, .int y, .float z])).length) Slot.unset).toArray = ls at hl ⊢
  have hl : lv_has ls 6 [(0, .ref (h)), (1, .int (x)), (2, .int (y)), (3, .float (z))] := hl
  refine lv_aload_n hx hb dX10_lists_0 rfl (lv_at hl 0 rfl) ?_
  refine tg_0 hx hb hts hown hs hm (hts _ q1674) dX10_lists_1 ?_
  refine lv_bipush (v := (96 : Int32)) hx hb dX10_lists_4 (by decide) ?_
  refine tl_0 hx hb hs hm (vi 96 (by decide) (by decide)) dX10_lists_6 ?_
  refine lv_istore (lv' := [(4, _), (0, _), (1, _), (2, _), (3, _)]) hx hb dX10_lists_7 hl (by decide) rfl (fun ls hl => ?_)
  refine k_join (fun (_ : Unit) H locs ls => tW E h (v) H ∧ va_S (eA E) s.heap H locs ∧ lv_has ls 6 [(4, .int ((nI (placeF (t1 v) z (t0 v ((96 : Int32)).toNatClampNeg).toNatClampNeg)))), (0, .ref (h)), (1, .int (x)), (2, .int (y)), (3, .float (z))]) (fun (_ : Unit) ls => F0 m 37 ls []) (fun _ H locs ls hJ => ?_) (fun J1 => ?_)
  · obtain ⟨hm, hS, hl⟩ := hJ
    have hP6 : (placeF (t1 v) z (t0 v ((96 : Int32)).toNatClampNeg).toNatClampNeg) ≤ 5 := Nat.le_trans (placeF_le _ _ _) (Nat.le_of_lt_succ (hw.prz.nat (by decide)).1)
    refine lv_iload hx hb dX10_lists_37 (lv_at hl 0 rfl) ?_
    refine lv_iconst (v := (5 : Int32)) hx hb dX10_lists_39 (by decide) ?_
    refine lv_icmp_ne (tgt := 44) hx hb dX10_lists_40 (by decide) (fun c_2 => ?_) (fun c_2 => ?_)
    · have hP5 : (placeF (t1 v) z (t0 v ((96 : Int32)).toNatClampNeg).toNatClampNeg) < 5 := Nat.lt_of_le_of_ne hP6 (fun h => c_2 (by rw [h]; rfl))
      refine lv_aload_n hx hb dX10_lists_44 rfl (lv_at hl 1 rfl) ?_
      refine tg_0 hx hb hts hown hs hm (hts _ q1674) dX10_lists_45 ?_
      refine lv_bipush (v := (96 : Int32)) hx hb dX10_lists_48 (by decide) ?_
      refine lv_dup2_11 hx hb dX10_lists_50 rfl rfl ?_
      refine tl_0 hx hb hs hm (vi 96 (by decide) (by decide)) dX10_lists_51 ?_
      refine lv_aload_n hx hb dX10_lists_52 rfl (lv_at hl 1 rfl) ?_
      refine tg_0 hx hb hts hown hs hm (hts _ q1674) dX10_lists_53 ?_
      refine lv_bipush (v := (96 : Int32)) hx hb dX10_lists_56 (by decide) ?_
      refine tl_0 hx hb hs hm (vi 96 (by decide) (by decide)) dX10_lists_58 ?_
      refine lv_iconst (v := (5 : Int32)) hx hb dX10_lists_59 (by decide) ?_
      refine k_join (fun (x4 : Int32) H locs ls => x4 = (if (5 : Int32) ≤ (t0 v ((96 : Int32)).toNatClampNeg) then (0 : Int32) else (1 : Int32)) ∧ tW E h (v) H ∧ va_S (eA E) s.heap H locs ∧ lv_has ls 6 [(4, .int ((nI (placeF (t1 v) z (t0 v ((96 : Int32)).toNatClampNeg).toNatClampNeg)))), (0, .ref (h)), (1, .int (x)), (2, .int (y)), (3, .float (z))]) (fun (x4 : Int32) ls => F0 m 68 ls [.int (x4), .int ((t0 v ((96 : Int32)).toNatClampNeg)), .int ((96 : Int32)), .ref (h + 1)]) (fun x4 H locs ls hJ => ?_) (fun J4 => ?_)
      · obtain ⟨hX4, hm, hS, hl⟩ := hJ
        refine lv_iadd hx hb dX10_lists_68 ?_
        refine ts_0 hx hb hs hm hS (vi 96 (by decide) (by decide)) dX10_lists_69 (fun H locs hm hS => ?_)
        have hm : tW E h (u0 v (upd (t0 v) ((96 : Int32)).toNatClampNeg ((t0 v ((96 : Int32)).toNatClampNeg) + x4))) H := hm
        refine lv_aload_n hx hb dX10_lists_70 rfl (lv_at hl 1 rfl) ?_
        refine tg_0 hx hb hts hown hs hm (hts _ q1674) dX10_lists_71 ?_
        refine lv_bipush (v := (96 : Int32)) hx hb dX10_lists_74 (by decide) ?_
        refine tl_0 hx hb hs hm (vi 96 (by decide) (by decide)) dX10_lists_76 ?_
        refine lv_iconst (v := (1 : Int32)) hx hb dX10_lists_77 (by decide) ?_
        refine lv_isub hx hb dX10_lists_78 ?_
        have htop : (topN (t0 v ((96 : Int32)).toNatClampNeg)) ≤ 4 := Nat.min_le_right _ _
        have hPt : (placeF (t1 v) z (t0 v ((96 : Int32)).toNatClampNeg).toNatClampNeg) ≤ (topN (t0 v ((96 : Int32)).toNatClampNeg)) := Nat.le_min.mpr ⟨placeF_le _ _ _, Nat.le_of_lt_succ hP5⟩
        refine lv_istore (lv' := [(5, _), (4, _), (0, _), (1, _), (2, _), (3, _)]) hx hb dX10_lists_79 hl (by decide) rfl (fun ls hl => ?_)
        refine k_loop (fun k => k) (fun (k : Nat) H locs ls => ((placeF (t1 v) z (t0 v ((96 : Int32)).toNatClampNeg).toNatClampNeg) ≤ k ∧ k ≤ (topN (t0 v ((96 : Int32)).toNatClampNeg))) ∧ tW E h ((u1 (u0 v (shG k (topN (t0 v ((96 : Int32)).toNatClampNeg)) (upd (t0 v) ((96 : Int32)).toNatClampNeg ((t0 v ((96 : Int32)).toNatClampNeg) + x4)))) (shP k (topN (t0 v ((96 : Int32)).toNatClampNeg)) (t1 v)))) H ∧ va_S (eA E) s.heap H locs ∧ lv_has ls 6 [(5, .int (nI k)), (4, .int ((nI (placeF (t1 v) z (t0 v ((96 : Int32)).toNatClampNeg).toNatClampNeg)))), (0, .ref (h)), (1, .int (x)), (2, .int (y)), (3, .float (z))]) (fun (k : Nat) ls => F0 m 81 ls []) (fun k => (0, 0)) (fun k ih_5 H locs ls hP => ?_) ((topN (t0 v ((96 : Int32)).toNatClampNeg))) ⟨⟨hPt, Nat.le_refl _⟩, (by rw [shG_0, shP_0]; exact hm), hS, (by rw [top_eq hw.prz hX4]; exact lv_sub hl [0, 1, 2, 3, 4, 5] rfl)⟩
        obtain ⟨hI_5, hm, hS, hl⟩ := hP
        refine lv_iload hx hb dX10_lists_81 (lv_at hl 0 rfl) ?_
        refine lv_iload hx hb dX10_lists_83 (lv_at hl 1 rfl) ?_
        refine lv_icmp_le (tgt := 182) hx hb dX10_lists_85 (by decide) (fun c_6 => ?_) (fun c_6 => ?_)
        · have hkN : k = (placeF (t1 v) z (t0 v ((96 : Int32)).toNatClampNeg).toNatClampNeg) := down_ge (by omega) (by omega) hI_5.1 c_6
          replace hkN := hkN.symm
          subst hkN
          refine lv_aload_n hx hb dX10_lists_182 rfl (lv_at hl 2 rfl) ?_
          refine tg_0 hx hb hts hown hs hm (hts _ q1674) dX10_lists_183 ?_
          refine lv_bipush (v := (97 : Int32)) hx hb dX10_lists_186 (by decide) ?_
          refine lv_iload hx hb dX10_lists_188 (lv_at hl 1 rfl) ?_
          refine lv_iadd hx hb dX10_lists_190 ?_
          refine lv_iload_n hx hb dX10_lists_191 rfl (lv_at hl 3 rfl) ?_
          refine ts_0 hx hb hs hm hS (ix.add 97 112 (⟨_, hP5, rfl⟩) (by decide) (by decide)) dX10_lists_192 (fun H locs hm hS => ?_)
          have hm : tW E h (u0 (u1 v (shP ((placeF (t1 v) z (t0 v ((96 : Int32)).toNatClampNeg).toNatClampNeg)) (topN (t0 v ((96 : Int32)).toNatClampNeg)) (t1 v))) (upd (shG ((placeF (t1 v) z (t0 v ((96 : Int32)).toNatClampNeg).toNatClampNeg)) (topN (t0 v ((96 : Int32)).toNatClampNeg)) (upd (t0 v) ((96 : Int32)).toNatClampNeg ((t0 v ((96 : Int32)).toNatClampNeg) + x4))) (((97 : Int32) + (nI (placeF (t1 v) z (t0 v ((96 : Int32)).toNatClampNeg).toNatClampNeg)))).toNatClampNeg x)) H := hm
          refine lv_aload_n hx hb dX10_lists_193 rfl (lv_at hl 2 rfl) ?_
          refine tg_0 hx hb hts hown hs hm (hts _ q1674) dX10_lists_194 ?_
          refine lv_bipush (v := (102 : Int32)) hx hb dX10_lists_197 (by decide) ?_
          refine lv_iload hx hb dX10_lists_199 (lv_at hl 1 rfl) ?_
          refine lv_iadd hx hb dX10_lists_201 ?_
          refine lv_iload_n hx hb dX10_lists_202 rfl (lv_at hl 4 rfl) ?_
          refine ts_0 hx hb hs hm hS (ix.add 102 112 (⟨_, hP5, rfl⟩) (by decide) (by decide)) dX10_lists_203 (fun H locs hm hS => ?_)
          have hm : tW E h (u0 (u1 v (shP ((placeF (t1 v) z (t0 v ((96 : Int32)).toNatClampNeg).toNatClampNeg)) (topN (t0 v ((96 : Int32)).toNatClampNeg)) (t1 v))) (upd (upd (shG ((placeF (t1 v) z (t0 v ((96 : Int32)).toNatClampNeg).toNatClampNeg)) (topN (t0 v ((96 : Int32)).toNatClampNeg)) (upd (t0 v) ((96 : Int32)).toNatClampNeg ((t0 v ((96 : Int32)).toNatClampNeg) + x4))) (((97 : Int32) + (nI (placeF (t1 v) z (t0 v ((96 : Int32)).toNatClampNeg).toNatClampNeg)))).toNatClampNeg x) (((102 : Int32) + (nI (placeF (t1 v) z (t0 v ((96 : Int32)).toNatClampNeg).toNatClampNeg)))).toNatClampNeg y)) H := hm
          refine lv_aload_n hx hb dX10_lists_204 rfl (lv_at hl 2 rfl) ?_
          refine tg_0 hx hb hts hown hs hm (hts _ q1674) dX10_lists_205 ?_
          refine lv_bipush (v := (107 : Int32)) hx hb dX10_lists_208 (by decide) ?_
          refine lv_iload hx hb dX10_lists_210 (lv_at hl 1 rfl) ?_
          refine lv_iadd hx hb dX10_lists_212 ?_
          refine lv_aload_n hx hb dX10_lists_213 rfl (lv_at hl 2 rfl) ?_
          refine tg_0 hx hb hts hown hs hm (hts _ q1674) dX10_lists_214 ?_
          refine lv_iconst (v := (0 : Int32)) hx hb dX10_lists_217 (by decide) ?_
          refine tl_0 hx hb hs hm (vi 0 (by decide) (by decide)) dX10_lists_218 ?_
          refine ts_0 hx hb hs hm hS (ix.add 107 112 (⟨_, hP5, rfl⟩) (by decide) (by decide)) dX10_lists_219 (fun H locs hm hS => ?_)
          have hm : tW E h (u0 (u1 v (shP ((placeF (t1 v) z (t0 v ((96 : Int32)).toNatClampNeg).toNatClampNeg)) (topN (t0 v ((96 : Int32)).toNatClampNeg)) (t1 v))) (upd (upd (upd (shG ((placeF (t1 v) z (t0 v ((96 : Int32)).toNatClampNeg).toNatClampNeg)) (topN (t0 v ((96 : Int32)).toNatClampNeg)) (upd (t0 v) ((96 : Int32)).toNatClampNeg ((t0 v ((96 : Int32)).toNatClampNeg) + x4))) (((97 : Int32) + (nI (placeF (t1 v) z (t0 v ((96 : Int32)).toNatClampNeg).toNatClampNeg)))).toNatClampNeg x) (((102 : Int32) + (nI (placeF (t1 v) z (t0 v ((96 : Int32)).toNatClampNeg).toNatClampNeg)))).toNatClampNeg y) (((107 : Int32) + (nI (placeF (t1 v) z (t0 v ((96 : Int32)).toNatClampNeg).toNatClampNeg)))).toNatClampNeg ((upd (upd (shG ((placeF (t1 v) z (t0 v ((96 : Int32)).toNatClampNeg).toNatClampNeg)) (topN (t0 v ((96 : Int32)).toNatClampNeg)) (upd (t0 v) ((96 : Int32)).toNatClampNeg ((t0 v ((96 : Int32)).toNatClampNeg) + x4))) (((97 : Int32) + (nI (placeF (t1 v) z (t0 v ((96 : Int32)).toNatClampNeg).toNatClampNeg)))).toNatClampNeg x) (((102 : Int32) + (nI (placeF (t1 v) z (t0 v ((96 : Int32)).toNatClampNeg).toNatClampNeg)))).toNatClampNeg y) ((0 : Int32)).toNatClampNeg))) H := hm
          refine lv_aload_n hx hb dX10_lists_220 rfl (lv_at hl 2 rfl) ?_
          refine tg_1 hx hb hts hown hs hm (hts _ q1675) dX10_lists_221 ?_
          refine lv_bipush (v := (28 : Int32)) hx hb dX10_lists_224 (by decide) ?_
          refine lv_iload hx hb dX10_lists_226 (lv_at hl 1 rfl) ?_
          refine lv_iadd hx hb dX10_lists_228 ?_
          refine lv_fload_n hx hb dX10_lists_229 rfl (lv_at hl 5 rfl) ?_
          refine ts_1 hx hb hs hm hS (ix.add 28 33 (⟨_, hP5, rfl⟩) (by decide) (by decide)) dX10_lists_230 (fun H locs hm hS => ?_)
          have hm : tW E h (u1 (u0 v (upd (upd (upd (shG ((placeF (t1 v) z (t0 v ((96 : Int32)).toNatClampNeg).toNatClampNeg)) (topN (t0 v ((96 : Int32)).toNatClampNeg)) (upd (t0 v) ((96 : Int32)).toNatClampNeg ((t0 v ((96 : Int32)).toNatClampNeg) + x4))) (((97 : Int32) + (nI (placeF (t1 v) z (t0 v ((96 : Int32)).toNatClampNeg).toNatClampNeg)))).toNatClampNeg x) (((102 : Int32) + (nI (placeF (t1 v) z (t0 v ((96 : Int32)).toNatClampNeg).toNatClampNeg)))).toNatClampNeg y) (((107 : Int32) + (nI (placeF (t1 v) z (t0 v ((96 : Int32)).toNatClampNeg).toNatClampNeg)))).toNatClampNeg ((upd (upd (shG ((placeF (t1 v) z (t0 v ((96 : Int32)).toNatClampNeg).toNatClampNeg)) (topN (t0 v ((96 : Int32)).toNatClampNeg)) (upd (t0 v) ((96 : Int32)).toNatClampNeg ((t0 v ((96 : Int32)).toNatClampNeg) + x4))) (((97 : Int32) + (nI (placeF (t1 v) z (t0 v ((96 : Int32)).toNatClampNeg).toNatClampNeg)))).toNatClampNeg x) (((102 : Int32) + (nI (placeF (t1 v) z (t0 v ((96 : Int32)).toNatClampNeg).toNatClampNeg)))).toNatClampNeg y) ((0 : Int32)).toNatClampNeg))) (vf_upd (shP ((placeF (t1 v) z (t0 v ((96 : Int32)).toNatClampNeg).toNatClampNeg)) (topN (t0 v ((96 : Int32)).toNatClampNeg)) (t1 v)) (((28 : Int32) + (nI (placeF (t1 v) z (t0 v ((96 : Int32)).toNatClampNeg).toNatClampNeg)))).toNatClampNeg z)) H := hm
          subst hX4
          exact W.vret hx hb hr (fun t9 ht9 _ => ⟨⟨_, rfl, ((if_neg c_2).trans (rfl)).symm, hb9 ht9 hm⟩, hS.F ht9⟩) hS.2.2 dX10_lists_231
        · have hk : (placeF (t1 v) z (t0 v ((96 : Int32)).toNatClampNeg).toNatClampNeg) < k := down_lt (by omega) (by omega) c_6
          have hk0 : 0 < k := by omega
          refine lv_aload_n hx hb dX10_lists_88 rfl (lv_at hl 2 rfl) ?_
          refine tg_0 hx hb hts hown hs hm (hts _ q1674) dX10_lists_89 ?_
          refine lv_bipush (v := (97 : Int32)) hx hb dX10_lists_92 (by decide) ?_
          refine lv_iload hx hb dX10_lists_94 (lv_at hl 0 rfl) ?_
          refine lv_iadd hx hb dX10_lists_96 ?_
          refine lv_aload_n hx hb dX10_lists_97 rfl (lv_at hl 2 rfl) ?_
          refine tg_0 hx hb hts hown hs hm (hts _ q1674) dX10_lists_98 ?_
          refine lv_bipush (v := (97 : Int32)) hx hb dX10_lists_101 (by decide) ?_
          refine lv_iload hx hb dX10_lists_103 (lv_at hl 0 rfl) ?_
          refine lv_iadd hx hb dX10_lists_105 ?_
          refine lv_iconst (v := (1 : Int32)) hx hb dX10_lists_106 (by decide) ?_
          refine lv_isub hx hb dX10_lists_107 ?_
          refine tl_0 hx hb hs hm (mv_in 97 112 hk0 (by omega) (by decide)) dX10_lists_108 ?_
          refine ts_0 hx hb hs hm hS (ix.add 97 112 (⟨k, (by omega : k < 5), rfl⟩) (by decide) (by decide)) dX10_lists_109 (fun H locs hm hS => ?_)
          have hm : tW E h (u0 (u1 v (shP k (topN (t0 v ((96 : Int32)).toNatClampNeg)) (t1 v))) (upd (shG k (topN (t0 v ((96 : Int32)).toNatClampNeg)) (upd (t0 v) ((96 : Int32)).toNatClampNeg ((t0 v ((96 : Int32)).toNatClampNeg) + x4))) (((97 : Int32) + nI k)).toNatClampNeg ((shG k (topN (t0 v ((96 : Int32)).toNatClampNeg)) (upd (t0 v) ((96 : Int32)).toNatClampNeg ((t0 v ((96 : Int32)).toNatClampNeg) + x4))) ((((97 : Int32) + nI k) - (1 : Int32))).toNatClampNeg))) H := hm
          refine lv_aload_n hx hb dX10_lists_110 rfl (lv_at hl 2 rfl) ?_
          refine tg_0 hx hb hts hown hs hm (hts _ q1674) dX10_lists_111 ?_
          refine lv_bipush (v := (102 : Int32)) hx hb dX10_lists_114 (by decide) ?_
          refine lv_iload hx hb dX10_lists_116 (lv_at hl 0 rfl) ?_
          refine lv_iadd hx hb dX10_lists_118 ?_
          refine lv_aload_n hx hb dX10_lists_119 rfl (lv_at hl 2 rfl) ?_
          refine tg_0 hx hb hts hown hs hm (hts _ q1674) dX10_lists_120 ?_
          refine lv_bipush (v := (102 : Int32)) hx hb dX10_lists_123 (by decide) ?_
          refine lv_iload hx hb dX10_lists_125 (lv_at hl 0 rfl) ?_
          refine lv_iadd hx hb dX10_lists_127 ?_
          refine lv_iconst (v := (1 : Int32)) hx hb dX10_lists_128 (by decide) ?_
          refine lv_isub hx hb dX10_lists_129 ?_
          refine tl_0 hx hb hs hm (mv_in 102 112 hk0 (by omega) (by decide)) dX10_lists_130 ?_
          refine ts_0 hx hb hs hm hS (ix.add 102 112 (⟨k, (by omega : k < 5), rfl⟩) (by decide) (by decide)) dX10_lists_131 (fun H locs hm hS => ?_)
          have hm : tW E h (u0 (u1 v (shP k (topN (t0 v ((96 : Int32)).toNatClampNeg)) (t1 v))) (upd (upd (shG k (topN (t0 v ((96 : Int32)).toNatClampNeg)) (upd (t0 v) ((96 : Int32)).toNatClampNeg ((t0 v ((96 : Int32)).toNatClampNeg) + x4))) (((97 : Int32) + nI k)).toNatClampNeg ((shG k (topN (t0 v ((96 : Int32)).toNatClampNeg)) (upd (t0 v) ((96 : Int32)).toNatClampNeg ((t0 v ((96 : Int32)).toNatClampNeg) + x4))) ((((97 : Int32) + nI k) - (1 : Int32))).toNatClampNeg)) (((102 : Int32) + nI k)).toNatClampNeg ((upd (shG k (topN (t0 v ((96 : Int32)).toNatClampNeg)) (upd (t0 v) ((96 : Int32)).toNatClampNeg ((t0 v ((96 : Int32)).toNatClampNeg) + x4))) (((97 : Int32) + nI k)).toNatClampNeg ((shG k (topN (t0 v ((96 : Int32)).toNatClampNeg)) (upd (t0 v) ((96 : Int32)).toNatClampNeg ((t0 v ((96 : Int32)).toNatClampNeg) + x4))) ((((97 : Int32) + nI k) - (1 : Int32))).toNatClampNeg)) ((((102 : Int32) + nI k) - (1 : Int32))).toNatClampNeg))) H := hm
          refine lv_aload_n hx hb dX10_lists_132 rfl (lv_at hl 2 rfl) ?_
          refine tg_0 hx hb hts hown hs hm (hts _ q1674) dX10_lists_133 ?_
          refine lv_bipush (v := (107 : Int32)) hx hb dX10_lists_136 (by decide) ?_
          refine lv_iload hx hb dX10_lists_138 (lv_at hl 0 rfl) ?_
          refine lv_iadd hx hb dX10_lists_140 ?_
          refine lv_aload_n hx hb dX10_lists_141 rfl (lv_at hl 2 rfl) ?_
          refine tg_0 hx hb hts hown hs hm (hts _ q1674) dX10_lists_142 ?_
          refine lv_bipush (v := (107 : Int32)) hx hb dX10_lists_145 (by decide) ?_
          refine lv_iload hx hb dX10_lists_147 (lv_at hl 0 rfl) ?_
          refine lv_iadd hx hb dX10_lists_149 ?_
          refine lv_iconst (v := (1 : Int32)) hx hb dX10_lists_150 (by decide) ?_
          refine lv_isub hx hb dX10_lists_151 ?_
          refine tl_0 hx hb hs hm (mv_in 107 112 hk0 (by omega) (by decide)) dX10_lists_152 ?_
          refine ts_0 hx hb hs hm hS (ix.add 107 112 (⟨k, (by omega : k < 5), rfl⟩) (by decide) (by decide)) dX10_lists_153 (fun H locs hm hS => ?_)
          have hm : tW E h (u0 (u1 v (shP k (topN (t0 v ((96 : Int32)).toNatClampNeg)) (t1 v))) (upd (upd (upd (shG k (topN (t0 v ((96 : Int32)).toNatClampNeg)) (upd (t0 v) ((96 : Int32)).toNatClampNeg ((t0 v ((96 : Int32)).toNatClampNeg) + x4))) (((97 : Int32) + nI k)).toNatClampNeg ((shG k (topN (t0 v ((96 : Int32)).toNatClampNeg)) (upd (t0 v) ((96 : Int32)).toNatClampNeg ((t0 v ((96 : Int32)).toNatClampNeg) + x4))) ((((97 : Int32) + nI k) - (1 : Int32))).toNatClampNeg)) (((102 : Int32) + nI k)).toNatClampNeg ((upd (shG k (topN (t0 v ((96 : Int32)).toNatClampNeg)) (upd (t0 v) ((96 : Int32)).toNatClampNeg ((t0 v ((96 : Int32)).toNatClampNeg) + x4))) (((97 : Int32) + nI k)).toNatClampNeg ((shG k (topN (t0 v ((96 : Int32)).toNatClampNeg)) (upd (t0 v) ((96 : Int32)).toNatClampNeg ((t0 v ((96 : Int32)).toNatClampNeg) + x4))) ((((97 : Int32) + nI k) - (1 : Int32))).toNatClampNeg)) ((((102 : Int32) + nI k) - (1 : Int32))).toNatClampNeg)) (((107 : Int32) + nI k)).toNatClampNeg ((upd (upd (shG k (topN (t0 v ((96 : Int32)).toNatClampNeg)) (upd (t0 v) ((96 : Int32)).toNatClampNeg ((t0 v ((96 : Int32)).toNatClampNeg) + x4))) (((97 : Int32) + nI k)).toNatClampNeg ((shG k (topN (t0 v ((96 : Int32)).toNatClampNeg)) (upd (t0 v) ((96 : Int32)).toNatClampNeg ((t0 v ((96 : Int32)).toNatClampNeg) + x4))) ((((97 : Int32) + nI k) - (1 : Int32))).toNatClampNeg)) (((102 : Int32) + nI k)).toNatClampNeg ((upd (shG k (topN (t0 v ((96 : Int32)).toNatClampNeg)) (upd (t0 v) ((96 : Int32)).toNatClampNeg ((t0 v ((96 : Int32)).toNatClampNeg) + x4))) (((97 : Int32) + nI k)).toNatClampNeg ((shG k (topN (t0 v ((96 : Int32)).toNatClampNeg)) (upd (t0 v) ((96 : Int32)).toNatClampNeg ((t0 v ((96 : Int32)).toNatClampNeg) + x4))) ((((97 : Int32) + nI k) - (1 : Int32))).toNatClampNeg)) ((((102 : Int32) + nI k) - (1 : Int32))).toNatClampNeg)) ((((107 : Int32) + nI k) - (1 : Int32))).toNatClampNeg))) H := hm
          refine lv_aload_n hx hb dX10_lists_154 rfl (lv_at hl 2 rfl) ?_
          refine tg_1 hx hb hts hown hs hm (hts _ q1675) dX10_lists_155 ?_
          refine lv_bipush (v := (28 : Int32)) hx hb dX10_lists_158 (by decide) ?_
          refine lv_iload hx hb dX10_lists_160 (lv_at hl 0 rfl) ?_
          refine lv_iadd hx hb dX10_lists_162 ?_
          refine lv_aload_n hx hb dX10_lists_163 rfl (lv_at hl 2 rfl) ?_
          refine tg_1 hx hb hts hown hs hm (hts _ q1675) dX10_lists_164 ?_
          refine lv_bipush (v := (28 : Int32)) hx hb dX10_lists_167 (by decide) ?_
          refine lv_iload hx hb dX10_lists_169 (lv_at hl 0 rfl) ?_
          refine lv_iadd hx hb dX10_lists_171 ?_
          refine lv_iconst (v := (1 : Int32)) hx hb dX10_lists_172 (by decide) ?_
          refine lv_isub hx hb dX10_lists_173 ?_
          refine tl_1 hx hb hs hm (mv_in 28 33 hk0 (by omega) (by decide)) dX10_lists_174 ?_
          refine ts_1 hx hb hs hm hS (ix.add 28 33 (⟨k, (by omega : k < 5), rfl⟩) (by decide) (by decide)) dX10_lists_175 (fun H locs hm hS => ?_)
          have hm : tW E h (u1 (u0 v (upd (upd (upd (shG k (topN (t0 v ((96 : Int32)).toNatClampNeg)) (upd (t0 v) ((96 : Int32)).toNatClampNeg ((t0 v ((96 : Int32)).toNatClampNeg) + x4))) (((97 : Int32) + nI k)).toNatClampNeg ((shG k (topN (t0 v ((96 : Int32)).toNatClampNeg)) (upd (t0 v) ((96 : Int32)).toNatClampNeg ((t0 v ((96 : Int32)).toNatClampNeg) + x4))) ((((97 : Int32) + nI k) - (1 : Int32))).toNatClampNeg)) (((102 : Int32) + nI k)).toNatClampNeg ((upd (shG k (topN (t0 v ((96 : Int32)).toNatClampNeg)) (upd (t0 v) ((96 : Int32)).toNatClampNeg ((t0 v ((96 : Int32)).toNatClampNeg) + x4))) (((97 : Int32) + nI k)).toNatClampNeg ((shG k (topN (t0 v ((96 : Int32)).toNatClampNeg)) (upd (t0 v) ((96 : Int32)).toNatClampNeg ((t0 v ((96 : Int32)).toNatClampNeg) + x4))) ((((97 : Int32) + nI k) - (1 : Int32))).toNatClampNeg)) ((((102 : Int32) + nI k) - (1 : Int32))).toNatClampNeg)) (((107 : Int32) + nI k)).toNatClampNeg ((upd (upd (shG k (topN (t0 v ((96 : Int32)).toNatClampNeg)) (upd (t0 v) ((96 : Int32)).toNatClampNeg ((t0 v ((96 : Int32)).toNatClampNeg) + x4))) (((97 : Int32) + nI k)).toNatClampNeg ((shG k (topN (t0 v ((96 : Int32)).toNatClampNeg)) (upd (t0 v) ((96 : Int32)).toNatClampNeg ((t0 v ((96 : Int32)).toNatClampNeg) + x4))) ((((97 : Int32) + nI k) - (1 : Int32))).toNatClampNeg)) (((102 : Int32) + nI k)).toNatClampNeg ((upd (shG k (topN (t0 v ((96 : Int32)).toNatClampNeg)) (upd (t0 v) ((96 : Int32)).toNatClampNeg ((t0 v ((96 : Int32)).toNatClampNeg) + x4))) (((97 : Int32) + nI k)).toNatClampNeg ((shG k (topN (t0 v ((96 : Int32)).toNatClampNeg)) (upd (t0 v) ((96 : Int32)).toNatClampNeg ((t0 v ((96 : Int32)).toNatClampNeg) + x4))) ((((97 : Int32) + nI k) - (1 : Int32))).toNatClampNeg)) ((((102 : Int32) + nI k) - (1 : Int32))).toNatClampNeg)) ((((107 : Int32) + nI k) - (1 : Int32))).toNatClampNeg))) (vf_upd (shP k (topN (t0 v ((96 : Int32)).toNatClampNeg)) (t1 v)) (((28 : Int32) + nI k)).toNatClampNeg ((shP k (topN (t0 v ((96 : Int32)).toNatClampNeg)) (t1 v)) ((((28 : Int32) + nI k) - (1 : Int32))).toNatClampNeg))) H := hm
          refine lv_iinc (v := nI (k - 1)) (lv' := [(5, _), (4, _), (0, _), (1, _), (2, _), (3, _)]) hx hb dX10_lists_176 hl (k := 0) rfl (mv_pred hk0) (by decide) rfl (fun ls hl => ?_)
          refine lv_goto (tgt := 81) hx hb dX10_lists_179 (by decide) ?_
          exact ih_5 (k - 1) (by omega) _ _ _ ⟨(by omega), (by rw [shG_s _ k _ (by omega) hI_5.2 htop, shP_s _ k _ (by omega) hI_5.2 htop]; exact hm), hS, lv_sub hl [0, 1, 2, 3, 4, 5] rfl⟩
      · refine lv_icmp_ge (tgt := 67) hx hb dX10_lists_60 (by decide) (fun c_3 => ?_) (fun c_3 => ?_)
        · refine lv_iconst (v := (0 : Int32)) hx hb dX10_lists_67 (by decide) ?_
          exact J4 ((0 : Int32)) _ _ _ ⟨((if_pos c_3).trans (rfl)).symm, hm, hS, lv_sub hl [0, 1, 2, 3, 4] rfl⟩
        · refine lv_iconst (v := (1 : Int32)) hx hb dX10_lists_63 (by decide) ?_
          refine lv_goto (tgt := 68) hx hb dX10_lists_64 (by decide) ?_
          exact J4 ((1 : Int32)) _ _ _ ⟨((if_neg c_3).trans (rfl)).symm, hm, hS, lv_sub hl [0, 1, 2, 3, 4] rfl⟩
    · exact W.vret hx hb hr (fun t9 ht9 _ => ⟨⟨_, rfl, ((if_pos c_2).trans (rfl)).symm, hb9 ht9 hm⟩, hS.F ht9⟩) hS.2.2 dX10_lists_43
  · refine k_loop (fun k => k) (fun (k : Nat) H locs ls => (k ≤ 5 ∧ placeF (t1 v) z (t0 v ((96 : Int32)).toNatClampNeg).toNatClampNeg = placeF (t1 v) z k) ∧ tW E h (v) H ∧ va_S (eA E) s.heap H locs ∧ lv_has ls 6 [(4, .int (nI k)), (0, .ref (h)), (1, .int (x)), (2, .int (y)), (3, .float (z))]) (fun (k : Nat) ls => F0 m 9 ls []) (fun k => (0, 0)) (fun k ih_7 H locs ls hP => ?_) ((t0 v ((96 : Int32)).toNatClampNeg).toNatClampNeg) ⟨⟨Nat.le_of_lt_succ (hw.prz.nat (by decide)).1, rfl⟩, hm, hS, (by rw [← (show (t0 v ((96 : Int32)).toNatClampNeg) = nI (t0 v ((96 : Int32)).toNatClampNeg).toNatClampNeg from (hw.prz.nat (by decide)).2)]; exact lv_sub hl [0, 1, 2, 3, 4] rfl)⟩
    obtain ⟨hI_7, hm, hS, hl⟩ := hP
    refine lv_iload hx hb dX10_lists_9 (lv_at hl 0 rfl) ?_
    refine lv_if_le (tgt := 37) hx hb dX10_lists_11 (by decide) (fun c_8 => ?_) (fun c_8 => ?_)
    · have hT := place_e hI_7 (by first | exact Or.inl c_8 | exact Or.inr ⟨trivial, c_8⟩)
      exact J1 () _ _ _ ⟨hm, hS, (by rw [hT]; exact lv_sub hl [0, 1, 2, 3, 4] rfl)⟩
    · have hk : 0 < k := mv_lt (by omega) c_8
      refine lv_aload_n hx hb dX10_lists_14 rfl (lv_at hl 1 rfl) ?_
      refine tg_1 hx hb hts hown hs hm (hts _ q1675) dX10_lists_15 ?_
      refine lv_bipush (v := (28 : Int32)) hx hb dX10_lists_18 (by decide) ?_
      refine lv_iload hx hb dX10_lists_20 (lv_at hl 0 rfl) ?_
      refine lv_iadd hx hb dX10_lists_22 ?_
      refine lv_iconst (v := (1 : Int32)) hx hb dX10_lists_23 (by decide) ?_
      refine lv_isub hx hb dX10_lists_24 ?_
      refine tl_1 hx hb hs hm (mv_in 28 33 hk (by omega) (by decide)) dX10_lists_25 ?_
      refine lv_fload_n hx hb dX10_lists_26 rfl (lv_at hl 4 rfl) ?_
      refine lv_fcmp hx hb dX10_lists_27 ?_
      refine lv_if_ge (tgt := 37) hx hb dX10_lists_28 (by decide) (fun c_9 => ?_) (fun c_9 => ?_)
      · have hT := place_e hI_7 (by first | exact Or.inl c_9 | exact Or.inr ⟨c_8, c_9⟩)
        exact J1 () _ _ _ ⟨hm, hS, (by rw [hT]; exact lv_sub hl [0, 1, 2, 3, 4] rfl)⟩
      · refine lv_iinc (v := nI (k - 1)) (lv' := [(4, _), (0, _), (1, _), (2, _), (3, _)]) hx hb dX10_lists_31 hl (k := 0) rfl (mv_pred hk) (by decide) rfl (fun ls hl => ?_)
        refine lv_goto (tgt := 9) hx hb dX10_lists_34 (by decide) ?_
        exact ih_7 (k - 1) (by omega) _ _ _ ⟨place_s hI_7 c_8 c_9, hm, hS, lv_sub hl [0, 1, 2, 3, 4] rfl⟩
theorem t6_lists (v : tw) (x y : Int32) (z : UInt32) : t6 (T_lists v x y z) = t6 v := by
  unfold T_lists
  dsimp only
  (repeat' split) <;> rfl
def T_harvest (v : tw) (x : Int32) : Int32 × tw :=
  let r_1 := T_isMember v (x);
  if r_1 = 0 then
    ((0 : Int32), (T_fails v (1 : Int32)).2)
  else
    if (t0 v (((52 : Int32) + x)).toNatClampNeg) = (-1 : Int32) then
      ((0 : Int32), (T_refused v (4 : Int32) x (2 : Int32)).2)
    else
      if (t0 v (((27 : Int32) + (t0 v (((52 : Int32) + x)).toNatClampNeg))).toNatClampNeg) = (-1 : Int32) then
        ((0 : Int32), (T_refused v (8 : Int32) (t0 v (((52 : Int32) + x)).toNatClampNeg) (2 : Int32)).2)
      else
        let u_6 := T_lists (T_looksBack v) ((t0 v (((27 : Int32) + (t0 v (((52 : Int32) + x)).toNatClampNeg))).toNatClampNeg)) (x) ((t1 v (((12 : Int32) + (t0 v (((52 : Int32) + x)).toNatClampNeg))).toNatClampNeg));
        let r_7 := T_fbits ((t1 v (((12 : Int32) + (t0 v (((52 : Int32) + x)).toNatClampNeg))).toNatClampNeg));
        let r_9 := (T_kept (u18 (u0 (u1 u_6 (vf_upd (t1 u_6) (((12 : Int32) + (t0 v (((52 : Int32) + x)).toNatClampNeg))).toNatClampNeg FP.fconst0)) (upd (upd (upd (t0 u_6) (((27 : Int32) + (t0 v (((52 : Int32) + x)).toNatClampNeg))).toNatClampNeg (-1 : Int32)) (((64 : Int32) + x)).toNatClampNeg (((upd (t0 u_6) (((27 : Int32) + (t0 v (((52 : Int32) + x)).toNatClampNeg))).toNatClampNeg (-1 : Int32)) (((64 : Int32) + x)).toNatClampNeg) + (1 : Int32))) ((94 : Int32)).toNatClampNeg (((upd (upd (t0 u_6) (((27 : Int32) + (t0 v (((52 : Int32) + x)).toNatClampNeg))).toNatClampNeg (-1 : Int32)) (((64 : Int32) + x)).toNatClampNeg (((upd (t0 u_6) (((27 : Int32) + (t0 v (((52 : Int32) + x)).toNatClampNeg))).toNatClampNeg (-1 : Int32)) (((64 : Int32) + x)).toNatClampNeg) + (1 : Int32))) ((94 : Int32)).toNatClampNeg) + (1 : Int32)))) (0 : Int32)) (r_7)).1;
        let u_9 := (T_kept (u18 (u0 (u1 u_6 (vf_upd (t1 u_6) (((12 : Int32) + (t0 v (((52 : Int32) + x)).toNatClampNeg))).toNatClampNeg FP.fconst0)) (upd (upd (upd (t0 u_6) (((27 : Int32) + (t0 v (((52 : Int32) + x)).toNatClampNeg))).toNatClampNeg (-1 : Int32)) (((64 : Int32) + x)).toNatClampNeg (((upd (t0 u_6) (((27 : Int32) + (t0 v (((52 : Int32) + x)).toNatClampNeg))).toNatClampNeg (-1 : Int32)) (((64 : Int32) + x)).toNatClampNeg) + (1 : Int32))) ((94 : Int32)).toNatClampNeg (((upd (upd (t0 u_6) (((27 : Int32) + (t0 v (((52 : Int32) + x)).toNatClampNeg))).toNatClampNeg (-1 : Int32)) (((64 : Int32) + x)).toNatClampNeg (((upd (t0 u_6) (((27 : Int32) + (t0 v (((52 : Int32) + x)).toNatClampNeg))).toNatClampNeg (-1 : Int32)) (((64 : Int32) + x)).toNatClampNeg) + (1 : Int32))) ((94 : Int32)).toNatClampNeg) + (1 : Int32)))) (0 : Int32)) (r_7)).2;
        (r_9, u_9)
set_option maxHeartbeats 4000000 in
theorem tm_harvest (l : Launch) (E : mE) (h : Nat) (v : tw) (x : Int32) (hw : wf (t0 v) (t1 v)) (h9 : ix 9 (t6 v)) : Met l yX10_harvest (ws_ yX10_harvest cX10_harvest 4 (some .int)) ({ frames := 2, cells := 0, slots := 0, locals := 60 }) (va_Pc [.ref h, .int x] (tP E h v)) (va_Qi (fun (r : Int32) (u : tw) => r = (T_harvest v x).1 ∧ u = (T_harvest v x).2) (fun u U => tW E h u U.heap) (eA E)) 0 0 (eA E) := by
  refine Met.ofW (cc := cX10_harvest) (maxL := 4) (ret := (some .int)) (by decide) rfl ?_
  intro p e s m args below meth c s₁ B hml hv
  obtain ⟨rfl, hs, hm⟩ := hv
  have hx := B.exec
  have hb := B.bytes
  have hr := B.returns
  have hts := atoms_spec (ws := ws_ yX10_harvest cX10_harvest 4 (some .int)) B.pre
  have hts : ∀ w ∈ lw_all, w.before _ s = true := fun w h => hts w (List.mem_cons_of_mem _ h)
  have hown : s.vm.findClass RX10 = some m.cls := findClass_of_methodNamed B.named
  have hlocks := B.notSynchronized
  have hS : va_S (eA E) s.heap s.heap [] := va_S.rf
  have hl := lv_entry ([.ref h, .int x]) (n := 4) (Nat.le_of_ble_eq_true rfl)
  rw [lg_entry_eq]
  generalize (lg_sl ([.ref h, .int x]) ++ List.replicate (4 - (lg_sl ([.ref h, .int x])).length) Slot.unset).toArray = ls at hl ⊢
  have hl : lv_has ls 4 [(0, .ref (h)), (1, .int (x))] := hl
  refine lv_aload_n hx hb dX10_harvest_0 rfl (lv_at hl 0 rfl) ?_
  refine lv_iload_n hx hb dX10_harvest_1 rfl (lv_at hl 1 rfl) ?_
  refine k_calli (va_runV (As := [.int (x)]) (rest := []) ⟨hx, hb, hml, hown, hts⟩ (tm_isMember l E h v (x) ) (cwV 1 hts (lw_V q1802 q1804 qs29 q80 q1805) rfl rfl rfl (by decide +kernel) ⟨Nat.le_of_ble_eq_true rfl, Nat.le_of_ble_eq_true rfl⟩) (k_preVt hs hm hS) rfl rfl hl.1 rfl (lv_room (Nat.le_of_ble_eq_true rfl)) dX10_harvest_2 ⟨Nat.le_of_ble_eq_true rfl, Nat.le_of_ble_eq_true rfl⟩) hS (fun r_1 u_1 H9 locs hw_1 hm_1 hS => ?_)
  obtain ⟨hr_1, hu_1⟩ := hw_1
  replace hu_1 := hu_1.symm
  subst hu_1
  have hm := hm_1
  refine lv_if_ne (tgt := 14) hx hb dX10_harvest_5 (by decide) (fun c_2 => ?_) (fun c_2 => ?_)
  · have hx6 := mem_ix hr_1 c_2 hw
    refine lv_aload_n hx hb dX10_harvest_14 rfl (lv_at hl 0 rfl) ?_
    refine tg_0 hx hb hts hown hs hm (hts _ q1674) dX10_harvest_15 ?_
    refine lv_bipush (v := (52 : Int32)) hx hb dX10_harvest_18 (by decide) ?_
    refine lv_iload_n hx hb dX10_harvest_20 rfl (lv_at hl 1 rfl) ?_
    refine lv_iadd hx hb dX10_harvest_21 ?_
    refine tl_0 hx hb hs hm (ix.add 52 112 (hx6) (by decide) (by decide)) dX10_harvest_22 ?_
    refine lv_istore_n (lv' := [(2, _), (0, _), (1, _)]) hx hb dX10_harvest_23 rfl hl (by decide) rfl (fun ls hl => ?_)
    refine lv_iload_n hx hb dX10_harvest_24 rfl (lv_at hl 0 rfl) ?_
    refine lv_iconst (v := (-1 : Int32)) hx hb dX10_harvest_25 (by decide) ?_
    refine lv_icmp_ne (tgt := 37) hx hb dX10_harvest_26 (by decide) (fun c_3 => ?_) (fun c_3 => ?_)
    · have hp12 := hw.plot hx6 c_3
      refine lv_aload_n hx hb dX10_harvest_37 rfl (lv_at hl 1 rfl) ?_
      refine tg_0 hx hb hts hown hs hm (hts _ q1674) dX10_harvest_38 ?_
      refine lv_bipush (v := (27 : Int32)) hx hb dX10_harvest_41 (by decide) ?_
      refine lv_iload_n hx hb dX10_harvest_43 rfl (lv_at hl 0 rfl) ?_
      refine lv_iadd hx hb dX10_harvest_44 ?_
      refine tl_0 hx hb hs hm (ix.add 27 112 (hp12) (by decide) (by decide)) dX10_harvest_45 ?_
      refine lv_iconst (v := (-1 : Int32)) hx hb dX10_harvest_46 (by decide) ?_
      refine lv_icmp_ne (tgt := 59) hx hb dX10_harvest_47 (by decide) (fun c_4 => ?_) (fun c_4 => ?_)
      · refine lv_aload_n hx hb dX10_harvest_59 rfl (lv_at hl 1 rfl) ?_
        refine k_callv (va_runV (As := []) (rest := []) ⟨hx, hb, hml, hown, hts⟩ (tm_looksBack l E h v  ) (cwV 0 hts (lw_V q1749 q1751 qs21 q80 q1752) rfl rfl rfl (by decide +kernel) ⟨Nat.le_of_ble_eq_true rfl, Nat.le_of_ble_eq_true rfl⟩) (k_preVt hs hm hS) rfl rfl hl.1 rfl (lv_room (Nat.le_of_ble_eq_true rfl)) dX10_harvest_60 ⟨Nat.le_of_ble_eq_true rfl, Nat.le_of_ble_eq_true rfl⟩) hS (fun u_5 H9 locs hw_5 hm_5 hS => ?_)
        replace hw_5 : u_5 = (T_looksBack v) := hw_5
        replace hw_5 := hw_5.symm
        subst hw_5
        have hm := hm_5
        refine lv_aload_n hx hb dX10_harvest_63 rfl (lv_at hl 1 rfl) ?_
        refine tg_1 hx hb hts hown hs hm (hts _ q1675) dX10_harvest_64 ?_
        refine lv_bipush (v := (12 : Int32)) hx hb dX10_harvest_67 (by decide) ?_
        refine lv_iload_n hx hb dX10_harvest_69 rfl (lv_at hl 0 rfl) ?_
        refine lv_iadd hx hb dX10_harvest_70 ?_
        refine tl_1 hx hb hs hm (ix.add 12 33 (hp12) (by decide) (by decide)) dX10_harvest_71 ?_
        refine lv_fstore_n (lv' := [(3, _), (2, _), (0, _), (1, _)]) hx hb dX10_harvest_72 rfl hl (by decide) rfl (fun ls hl => ?_)
        refine lv_aload_n hx hb dX10_harvest_73 rfl (lv_at hl 2 rfl) ?_
        refine lv_aload_n hx hb dX10_harvest_74 rfl (lv_at hl 2 rfl) ?_
        refine tg_0 hx hb hts hown hs hm (hts _ q1674) dX10_harvest_75 ?_
        refine lv_bipush (v := (27 : Int32)) hx hb dX10_harvest_78 (by decide) ?_
        refine lv_iload_n hx hb dX10_harvest_80 rfl (lv_at hl 1 rfl) ?_
        refine lv_iadd hx hb dX10_harvest_81 ?_
        refine tl_0 hx hb hs hm (ix.add 27 112 (hp12) (by decide) (by decide)) dX10_harvest_82 ?_
        refine lv_iload_n hx hb dX10_harvest_83 rfl (lv_at hl 3 rfl) ?_
        refine lv_fload_n hx hb dX10_harvest_84 rfl (lv_at hl 0 rfl) ?_
        refine k_callv (va_runV (As := [.int ((t0 v (((27 : Int32) + (t0 v (((52 : Int32) + x)).toNatClampNeg))).toNatClampNeg)), .int (x), .float ((t1 v (((12 : Int32) + (t0 v (((52 : Int32) + x)).toNatClampNeg))).toNatClampNeg))]) (rest := []) ⟨hx, hb, hml, hown, hts⟩ (tm_lists l E h (T_looksBack v) ((t0 v (((27 : Int32) + (t0 v (((52 : Int32) + x)).toNatClampNeg))).toNatClampNeg)) (x) ((t1 v (((12 : Int32) + (t0 v (((52 : Int32) + x)).toNatClampNeg))).toNatClampNeg)) hw) (cwV 3 hts (lw_V q1930 q1932 qs41 q80 q1933) rfl rfl rfl (by decide +kernel) ⟨Nat.le_of_ble_eq_true rfl, Nat.le_of_ble_eq_true rfl⟩) (k_preVt hs hm hS) rfl rfl hl.1 rfl (lv_room (Nat.le_of_ble_eq_true rfl)) dX10_harvest_85 ⟨Nat.le_of_ble_eq_true rfl, Nat.le_of_ble_eq_true rfl⟩) hS (fun u_6 H9 locs hw_6 hm_6 hS => ?_)
        have hu_6 := hw_6
        have hm := hm_6
        refine lv_aload_n hx hb dX10_harvest_88 rfl (lv_at hl 2 rfl) ?_
        refine tg_0 hx hb hts hown hs hm (hts _ q1674) dX10_harvest_89 ?_
        refine lv_bipush (v := (27 : Int32)) hx hb dX10_harvest_92 (by decide) ?_
        refine lv_iload_n hx hb dX10_harvest_94 rfl (lv_at hl 1 rfl) ?_
        refine lv_iadd hx hb dX10_harvest_95 ?_
        refine lv_iconst (v := (-1 : Int32)) hx hb dX10_harvest_96 (by decide) ?_
        refine ts_0 hx hb hs hm hS (ix.add 27 112 (hp12) (by decide) (by decide)) dX10_harvest_97 (fun H locs hm hS => ?_)
        have hm : tW E h (u0 u_6 (upd (t0 u_6) (((27 : Int32) + (t0 v (((52 : Int32) + x)).toNatClampNeg))).toNatClampNeg (-1 : Int32))) H := hm
        refine lv_aload_n hx hb dX10_harvest_98 rfl (lv_at hl 2 rfl) ?_
        refine tg_1 hx hb hts hown hs hm (hts _ q1675) dX10_harvest_99 ?_
        refine lv_bipush (v := (12 : Int32)) hx hb dX10_harvest_102 (by decide) ?_
        refine lv_iload_n hx hb dX10_harvest_104 rfl (lv_at hl 1 rfl) ?_
        refine lv_iadd hx hb dX10_harvest_105 ?_
        refine lv_fconst0 hx hb dX10_harvest_106 ?_
        refine ts_1 hx hb hs hm hS (ix.add 12 33 (hp12) (by decide) (by decide)) dX10_harvest_107 (fun H locs hm hS => ?_)
        have hm : tW E h (u1 (u0 u_6 (upd (t0 u_6) (((27 : Int32) + (t0 v (((52 : Int32) + x)).toNatClampNeg))).toNatClampNeg (-1 : Int32))) (vf_upd (t1 u_6) (((12 : Int32) + (t0 v (((52 : Int32) + x)).toNatClampNeg))).toNatClampNeg FP.fconst0)) H := hm
        refine lv_aload_n hx hb dX10_harvest_108 rfl (lv_at hl 2 rfl) ?_
        refine tg_0 hx hb hts hown hs hm (hts _ q1674) dX10_harvest_109 ?_
        refine lv_bipush (v := (64 : Int32)) hx hb dX10_harvest_112 (by decide) ?_
        refine lv_iload_n hx hb dX10_harvest_114 rfl (lv_at hl 3 rfl) ?_
        refine lv_iadd hx hb dX10_harvest_115 ?_
        refine lv_dup2_11 hx hb dX10_harvest_116 rfl rfl ?_
        refine tl_0 hx hb hs hm (ix.add 64 112 (hx6) (by decide) (by decide)) dX10_harvest_117 ?_
        refine lv_iconst (v := (1 : Int32)) hx hb dX10_harvest_118 (by decide) ?_
        refine lv_iadd hx hb dX10_harvest_119 ?_
        refine ts_0 hx hb hs hm hS (ix.add 64 112 (hx6) (by decide) (by decide)) dX10_harvest_120 (fun H locs hm hS => ?_)
        have hm : tW E h (u0 (u1 u_6 (vf_upd (t1 u_6) (((12 : Int32) + (t0 v (((52 : Int32) + x)).toNatClampNeg))).toNatClampNeg FP.fconst0)) (upd (upd (t0 u_6) (((27 : Int32) + (t0 v (((52 : Int32) + x)).toNatClampNeg))).toNatClampNeg (-1 : Int32)) (((64 : Int32) + x)).toNatClampNeg (((upd (t0 u_6) (((27 : Int32) + (t0 v (((52 : Int32) + x)).toNatClampNeg))).toNatClampNeg (-1 : Int32)) (((64 : Int32) + x)).toNatClampNeg) + (1 : Int32)))) H := hm
        refine lv_aload_n hx hb dX10_harvest_121 rfl (lv_at hl 2 rfl) ?_
        refine tg_0 hx hb hts hown hs hm (hts _ q1674) dX10_harvest_122 ?_
        refine lv_bipush (v := (94 : Int32)) hx hb dX10_harvest_125 (by decide) ?_
        refine lv_dup2_11 hx hb dX10_harvest_127 rfl rfl ?_
        refine tl_0 hx hb hs hm (vi 94 (by decide) (by decide)) dX10_harvest_128 ?_
        refine lv_iconst (v := (1 : Int32)) hx hb dX10_harvest_129 (by decide) ?_
        refine lv_iadd hx hb dX10_harvest_130 ?_
        refine ts_0 hx hb hs hm hS (vi 94 (by decide) (by decide)) dX10_harvest_131 (fun H locs hm hS => ?_)
        have hm : tW E h (u0 (u1 u_6 (vf_upd (t1 u_6) (((12 : Int32) + (t0 v (((52 : Int32) + x)).toNatClampNeg))).toNatClampNeg FP.fconst0)) (upd (upd (upd (t0 u_6) (((27 : Int32) + (t0 v (((52 : Int32) + x)).toNatClampNeg))).toNatClampNeg (-1 : Int32)) (((64 : Int32) + x)).toNatClampNeg (((upd (t0 u_6) (((27 : Int32) + (t0 v (((52 : Int32) + x)).toNatClampNeg))).toNatClampNeg (-1 : Int32)) (((64 : Int32) + x)).toNatClampNeg) + (1 : Int32))) ((94 : Int32)).toNatClampNeg (((upd (upd (t0 u_6) (((27 : Int32) + (t0 v (((52 : Int32) + x)).toNatClampNeg))).toNatClampNeg (-1 : Int32)) (((64 : Int32) + x)).toNatClampNeg (((upd (t0 u_6) (((27 : Int32) + (t0 v (((52 : Int32) + x)).toNatClampNeg))).toNatClampNeg (-1 : Int32)) (((64 : Int32) + x)).toNatClampNeg) + (1 : Int32))) ((94 : Int32)).toNatClampNeg) + (1 : Int32)))) H := hm
        refine lv_aload_n hx hb dX10_harvest_132 rfl (lv_at hl 2 rfl) ?_
        refine lv_aload_n hx hb dX10_harvest_133 rfl (lv_at hl 2 rfl) ?_
        refine lv_fload_n hx hb dX10_harvest_134 rfl (lv_at hl 0 rfl) ?_
        refine k_calli (va_runS (As := [.float ((t1 v (((12 : Int32) + (t0 v (((52 : Int32) + x)).toNatClampNeg))).toNatClampNeg))]) (rest := [.ref (h), .ref (h)]) ⟨hx, hb, hml, hown, hts⟩ (jm_J16_floatToIntBits l E ((t1 v (((12 : Int32) + (t0 v (((52 : Int32) + x)).toNatClampNeg))).toNatClampNeg)) _) (va_cwS 1 hts (lw_S q1855 q931 q87 q932) rfl rfl rfl (by decide +kernel) ⟨Nat.le_of_ble_eq_true rfl, Nat.le_of_ble_eq_true rfl⟩) (k_pure hs hS) rfl rfl hl.1 rfl (lv_room (Nat.le_of_ble_eq_true rfl)) dX10_harvest_135 ⟨Nat.le_of_ble_eq_true rfl, Nat.le_of_ble_eq_true rfl⟩) hS (fun r_7 u_7 H9 locs hw_7 hm_7 hS => ?_)
        replace hm_7 : _ = H9 := Eq.symm hm_7
        subst hm_7
        have hr_7 := hw_7
        refine k_calli (va_runV (As := [.int (r_7)]) (rest := [.ref (h)]) ⟨hx, hb, hml, hown, hts⟩ (tm_done l E h (u0 (u1 u_6 (vf_upd (t1 u_6) (((12 : Int32) + (t0 v (((52 : Int32) + x)).toNatClampNeg))).toNatClampNeg FP.fconst0)) (upd (upd (upd (t0 u_6) (((27 : Int32) + (t0 v (((52 : Int32) + x)).toNatClampNeg))).toNatClampNeg (-1 : Int32)) (((64 : Int32) + x)).toNatClampNeg (((upd (t0 u_6) (((27 : Int32) + (t0 v (((52 : Int32) + x)).toNatClampNeg))).toNatClampNeg (-1 : Int32)) (((64 : Int32) + x)).toNatClampNeg) + (1 : Int32))) ((94 : Int32)).toNatClampNeg (((upd (upd (t0 u_6) (((27 : Int32) + (t0 v (((52 : Int32) + x)).toNatClampNeg))).toNatClampNeg (-1 : Int32)) (((64 : Int32) + x)).toNatClampNeg (((upd (t0 u_6) (((27 : Int32) + (t0 v (((52 : Int32) + x)).toNatClampNeg))).toNatClampNeg (-1 : Int32)) (((64 : Int32) + x)).toNatClampNeg) + (1 : Int32))) ((94 : Int32)).toNatClampNeg) + (1 : Int32)))) (r_7) ) (cwV 1 hts (lw_V q1770 q1772 qs24 q80 q1773) rfl rfl rfl (by decide +kernel) ⟨Nat.le_of_ble_eq_true rfl, Nat.le_of_ble_eq_true rfl⟩) (k_preVt hs hm hS) rfl rfl hl.1 rfl (lv_room (Nat.le_of_ble_eq_true rfl)) dX10_harvest_138 ⟨Nat.le_of_ble_eq_true rfl, Nat.le_of_ble_eq_true rfl⟩) hS (fun r_8 u_8 H9 locs hw_8 hm_8 hS => ?_)
        replace hw_8 : r_8 = r_7 ∧ u_8 = (u18 (u0 (u1 u_6 (vf_upd (t1 u_6) (((12 : Int32) + (t0 v (((52 : Int32) + x)).toNatClampNeg))).toNatClampNeg FP.fconst0)) (upd (upd (upd (t0 u_6) (((27 : Int32) + (t0 v (((52 : Int32) + x)).toNatClampNeg))).toNatClampNeg (-1 : Int32)) (((64 : Int32) + x)).toNatClampNeg (((upd (t0 u_6) (((27 : Int32) + (t0 v (((52 : Int32) + x)).toNatClampNeg))).toNatClampNeg (-1 : Int32)) (((64 : Int32) + x)).toNatClampNeg) + (1 : Int32))) ((94 : Int32)).toNatClampNeg (((upd (upd (t0 u_6) (((27 : Int32) + (t0 v (((52 : Int32) + x)).toNatClampNeg))).toNatClampNeg (-1 : Int32)) (((64 : Int32) + x)).toNatClampNeg (((upd (t0 u_6) (((27 : Int32) + (t0 v (((52 : Int32) + x)).toNatClampNeg))).toNatClampNeg (-1 : Int32)) (((64 : Int32) + x)).toNatClampNeg) + (1 : Int32))) ((94 : Int32)).toNatClampNeg) + (1 : Int32)))) (0 : Int32)) := hw_8
        obtain ⟨hr_8, hw_8⟩ := hw_8
        replace hr_8 := hr_8.symm
        subst hr_8
        replace hw_8 := hw_8.symm
        subst hw_8
        have hm := hm_8
        refine k_calli (va_runV (As := [.int (r_7)]) (rest := []) ⟨hx, hb, hml, hown, hts⟩ (tm_kept l E h (u18 (u0 (u1 u_6 (vf_upd (t1 u_6) (((12 : Int32) + (t0 v (((52 : Int32) + x)).toNatClampNeg))).toNatClampNeg FP.fconst0)) (upd (upd (upd (t0 u_6) (((27 : Int32) + (t0 v (((52 : Int32) + x)).toNatClampNeg))).toNatClampNeg (-1 : Int32)) (((64 : Int32) + x)).toNatClampNeg (((upd (t0 u_6) (((27 : Int32) + (t0 v (((52 : Int32) + x)).toNatClampNeg))).toNatClampNeg (-1 : Int32)) (((64 : Int32) + x)).toNatClampNeg) + (1 : Int32))) ((94 : Int32)).toNatClampNeg (((upd (upd (t0 u_6) (((27 : Int32) + (t0 v (((52 : Int32) + x)).toNatClampNeg))).toNatClampNeg (-1 : Int32)) (((64 : Int32) + x)).toNatClampNeg (((upd (t0 u_6) (((27 : Int32) + (t0 v (((52 : Int32) + x)).toNatClampNeg))).toNatClampNeg (-1 : Int32)) (((64 : Int32) + x)).toNatClampNeg) + (1 : Int32))) ((94 : Int32)).toNatClampNeg) + (1 : Int32)))) (0 : Int32)) (r_7) (i9_u18 (i9_u0 (i9_u1 (by rw [hu_6, t6_lists]; exact i9_looksBack h9))))) (cwV 1 hts (lw_V q1774 q1776 qs25 q80 q1777) rfl rfl rfl (by decide +kernel) ⟨Nat.le_of_ble_eq_true rfl, Nat.le_of_ble_eq_true rfl⟩) (k_preVt hs hm hS) rfl rfl hl.1 rfl (lv_room (Nat.le_of_ble_eq_true rfl)) dX10_harvest_141 ⟨Nat.le_of_ble_eq_true rfl, Nat.le_of_ble_eq_true rfl⟩) hS (fun r_9 u_9 H9 locs hw_9 hm_9 hS => ?_)
        obtain ⟨hr_9, hu_9⟩ := hw_9
        have hm := hm_9
        subst hu_9
        subst hr_9
        subst hr_7
        subst hu_6
        subst hr_1
        exact W.iret (v := _) hx hb hr (fun t9 ht9 _ => ⟨⟨_, _, rfl, pp ((if_neg c_2).trans ((if_neg c_3).trans ((if_neg c_4).trans (rfl)))), hb9 ht9 hm⟩, hS.F ht9⟩) hS.2.2 dX10_harvest_144
      · refine lv_aload_n hx hb dX10_harvest_50 rfl (lv_at hl 1 rfl) ?_
        refine lv_bipush (v := (8 : Int32)) hx hb dX10_harvest_51 (by decide) ?_
        refine lv_iload_n hx hb dX10_harvest_53 rfl (lv_at hl 0 rfl) ?_
        refine lv_iconst (v := (2 : Int32)) hx hb dX10_harvest_54 (by decide) ?_
        refine k_calli (va_runV (As := [.int ((8 : Int32)), .int ((t0 v (((52 : Int32) + x)).toNatClampNeg)), .int ((2 : Int32))]) (rest := []) ⟨hx, hb, hml, hown, hts⟩ (tm_refused l E h v ((8 : Int32)) ((t0 v (((52 : Int32) + x)).toNatClampNeg)) ((2 : Int32)) ) (cwV 3 hts (lw_V q1790 q1792 qs27 q80 q1793) rfl rfl rfl (by decide +kernel) ⟨Nat.le_of_ble_eq_true rfl, Nat.le_of_ble_eq_true rfl⟩) (k_preVt hs hm hS) rfl rfl hl.1 rfl (lv_room (Nat.le_of_ble_eq_true rfl)) dX10_harvest_55 ⟨Nat.le_of_ble_eq_true rfl, Nat.le_of_ble_eq_true rfl⟩) hS (fun r_10 u_10 H9 locs hw_10 hm_10 hS => ?_)
        replace hw_10 : r_10 = (0 : Int32) ∧ u_10 = (T_refused v (8 : Int32) (t0 v (((52 : Int32) + x)).toNatClampNeg) (2 : Int32)).2 := hw_10
        obtain ⟨hr_10, hw_10⟩ := hw_10
        replace hr_10 := hr_10.symm
        subst hr_10
        replace hw_10 := hw_10.symm
        subst hw_10
        have hm := hm_10
        subst hr_1
        exact W.iret (v := _) hx hb hr (fun t9 ht9 _ => ⟨⟨_, _, rfl, pp ((if_neg c_2).trans ((if_neg c_3).trans ((if_pos c_4).trans (rfl)))), hb9 ht9 hm⟩, hS.F ht9⟩) hS.2.2 dX10_harvest_58
    · refine lv_aload_n hx hb dX10_harvest_29 rfl (lv_at hl 1 rfl) ?_
      refine lv_iconst (v := (4 : Int32)) hx hb dX10_harvest_30 (by decide) ?_
      refine lv_iload_n hx hb dX10_harvest_31 rfl (lv_at hl 2 rfl) ?_
      refine lv_iconst (v := (2 : Int32)) hx hb dX10_harvest_32 (by decide) ?_
      refine k_calli (va_runV (As := [.int ((4 : Int32)), .int (x), .int ((2 : Int32))]) (rest := []) ⟨hx, hb, hml, hown, hts⟩ (tm_refused l E h v ((4 : Int32)) (x) ((2 : Int32)) ) (cwV 3 hts (lw_V q1790 q1792 qs27 q80 q1793) rfl rfl rfl (by decide +kernel) ⟨Nat.le_of_ble_eq_true rfl, Nat.le_of_ble_eq_true rfl⟩) (k_preVt hs hm hS) rfl rfl hl.1 rfl (lv_room (Nat.le_of_ble_eq_true rfl)) dX10_harvest_33 ⟨Nat.le_of_ble_eq_true rfl, Nat.le_of_ble_eq_true rfl⟩) hS (fun r_11 u_11 H9 locs hw_11 hm_11 hS => ?_)
      replace hw_11 : r_11 = (0 : Int32) ∧ u_11 = (T_refused v (4 : Int32) x (2 : Int32)).2 := hw_11
      obtain ⟨hr_11, hw_11⟩ := hw_11
      replace hr_11 := hr_11.symm
      subst hr_11
      replace hw_11 := hw_11.symm
      subst hw_11
      have hm := hm_11
      subst hr_1
      exact W.iret (v := _) hx hb hr (fun t9 ht9 _ => ⟨⟨_, _, rfl, pp ((if_neg c_2).trans ((if_pos c_3).trans (rfl))), hb9 ht9 hm⟩, hS.F ht9⟩) hS.2.2 dX10_harvest_36
  · refine lv_aload_n hx hb dX10_harvest_8 rfl (lv_at hl 0 rfl) ?_
    refine lv_iconst (v := (1 : Int32)) hx hb dX10_harvest_9 (by decide) ?_
    refine k_calli (va_runV (As := [.int ((1 : Int32))]) (rest := []) ⟨hx, hb, hml, hown, hts⟩ (tm_fails l E h v ((1 : Int32)) ) (cwV 1 hts (lw_V q1766 q1768 qs23 q80 q1769) rfl rfl rfl (by decide +kernel) ⟨Nat.le_of_ble_eq_true rfl, Nat.le_of_ble_eq_true rfl⟩) (k_preVt hs hm hS) rfl rfl hl.1 rfl (lv_room (Nat.le_of_ble_eq_true rfl)) dX10_harvest_10 ⟨Nat.le_of_ble_eq_true rfl, Nat.le_of_ble_eq_true rfl⟩) hS (fun r_12 u_12 H9 locs hw_12 hm_12 hS => ?_)
    replace hw_12 : r_12 = (0 : Int32) ∧ u_12 = (T_fails v (1 : Int32)).2 := hw_12
    obtain ⟨hr_12, hw_12⟩ := hw_12
    replace hr_12 := hr_12.symm
    subst hr_12
    replace hw_12 := hw_12.symm
    subst hw_12
    have hm := hm_12
    subst hr_1
    exact W.iret (v := _) hx hb hr (fun t9 ht9 _ => ⟨⟨_, _, rfl, pp ((if_pos c_2).trans (rfl)), hb9 ht9 hm⟩, hS.F ht9⟩) hS.2.2 dX10_harvest_13
