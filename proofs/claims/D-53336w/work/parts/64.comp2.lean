set_option maxHeartbeats 4000000 in
set_option maxRecDepth 100000 in
theorem met_J10_min_2 (l : Launch) (a : Int64) (b : Int64) : Met l yJ10_min_2 (ws_ yJ10_min_2 cJ10_min_2 4 (some .long)) (rmL 1 0 0) (va_Pc [.long a, .long b] (fun _ => True)) (vp_Sl (fun (r : Int64) => r = jminl a b)) 0 0 (fun _ => False) := by
  refine Met.ofWF (cc := cJ10_min_2) (maxL := 4) (ret := (some .long)) (by decide +kernel) rfl ?_
  intro p e s m args below meth c s₁ Bd hml hv
  obtain ⟨rfl, -⟩ := hv
  have hx := Bd.exec
  have hb := Bd.bytes
  have hr := Bd.returns
  have hts := atoms_spec (ws := (ws_ yJ10_min_2 cJ10_min_2 4 (some .long))) Bd.pre
  have hts : ∀ w ∈ lw_all, w.before _ s = true := fun w h => hts w (List.mem_cons_of_mem _ h)
  have hown : s.vm.findClass RJ10 = some m.cls := findClass_of_methodNamed Bd.named
  have hlocks := Bd.notSynchronized
  have hl := lv_entry ([.long a, .long b]) (n := 4) (Nat.le_of_ble_eq_true rfl)
  rw [lg_entry_eq]
  generalize (lg_sl ([.long a, .long b]) ++ List.replicate (4 - (lg_sl ([.long a, .long b])).length) Slot.unset).toArray = ls at hl ⊢
  have hl : lv_has ls 4 [(0, .long a), (2, .long b)] := hl
  refine lv_lload_n hx hb dJ10_min_2_0 rfl (lv_at hl 0 rfl) ?_
  refine lv_lload_n hx hb dJ10_min_2_1 rfl (lv_at hl 1 rfl) ?_
  refine W.lcmp hx hb dJ10_min_2_2 ?_
  refine lv_if_gt (tgt := 10) hx hb dJ10_min_2_3 (by decide) (fun c3_b_1 => ?_) (fun c3_b_1 => ?_)
  · skip
    refine lv_lload_n hx hb dJ10_min_2_10 rfl (lv_at hl 1 rfl) ?_
    exact W.lret hx hb hr (fun t ht hW => ⟨_, rfl, (by simp [jminl, ← Int32.not_lt, c3_b_1]), ht⟩) (fun _ h => absurd h List.not_mem_nil) dJ10_min_2_11
  · skip
    refine lv_lload_n hx hb dJ10_min_2_6 rfl (lv_at hl 0 rfl) ?_
    refine lv_goto (tgt := 11) hx hb dJ10_min_2_7 (by decide) ?_
    exact W.lret hx hb hr (fun t ht hW => ⟨_, rfl, (by simp [jminl, ← Int32.not_lt, c3_b_1]), ht⟩) (fun _ h => absurd h List.not_mem_nil) dJ10_min_2_11

set_option maxHeartbeats 4000000 in
set_option maxRecDepth 100000 in
theorem met_X5_sell (l : Launch) (D : va_G) (cA : Nat → ClassId) (Z : Nat → Nat) (F : Nat → Prop) (H : Heap) {a : Nat} {pr we stk mk bx so bo : Int32} {n : Int32} (ha : va_at D vwCl (a, .inr (5, [.int pr, .int we, .int stk, .int mk, .int bx, .int so, .int bo])) H) (hFa : F a) (hmk : ¬ mk = 0) (hwe : ¬ we = 0) : Met l yX5_sell (ws_ yX5_sell cX5_sell 4 none) (rmL 2 0 0) (cP D cA Z F H [.ref a, .int n]) (va_Qv (fun (H1 : Heap) => va_at D vwCl (a, .inr (5, [.int pr, .int we, .int (tk_stk (stk - n) ((so + n * we) / mk) (bx / we)), .int mk, .int bx, .int (so + n * we - (so + n * we) / mk * mk), .int (bo + (so + n * we) / mk)])) H1) (fun (H1 : Heap) (t : State) => t.heap = H1) F) 0 0 F := by
  refine Met.ofW (cc := cX5_sell) (maxL := 4) (ret := none) (by decide) rfl ?_
  intro p e s m args below meth c s₁ Bd hml hv
  obtain ⟨rfl, hh, hK, hE, hZn⟩ := hv
  subst hh
  have hx := Bd.exec
  have hb := Bd.bytes
  have hr := Bd.returns
  have hts := atoms_spec (ws := (ws_ yX5_sell cX5_sell 4 none)) Bd.pre
  have hts : ∀ w ∈ lw_all, w.before _ s = true := fun w h => hts w (List.mem_cons_of_mem _ h)
  have hown : s.vm.findClass RX5 = some m.cls := findClass_of_methodNamed Bd.named
  have hlocks := Bd.notSynchronized
  have hS : va_S F s.heap s.heap [] := va_S.rf
  have hl := lv_entry ([.ref a, .int n]) (n := 4) (Nat.le_of_ble_eq_true rfl)
  rw [lg_entry_eq]
  generalize (lg_sl ([.ref a, .int n]) ++ List.replicate (4 - (lg_sl ([.ref a, .int n])).length) Slot.unset).toArray = ls at hl ⊢
  have hl : lv_has ls 4 [(0, .ref a), (1, .int n)] := hl
  refine W.gq fun Q0 hQe => ?_
  refine lv_aload_n hx hb dX5_sell_0 rfl (lv_at hl 0 rfl) ?_
  refine lv_dup hx hb dX5_sell_1 rfl ?_
  refine r_get (C := RX5) (T := TX5) (N := 7) hx hb hts in_X5 hown hK ha rfl 2 (by decide) (hts _ q454) (fun _ h => h) (v := .int stk) rfl dX5_sell_2 ?_
  refine lv_iload_n hx hb dX5_sell_5 rfl (lv_at hl 1 rfl) ?_
  refine lv_isub hx hb dX5_sell_6 ?_
  refine r_put (C := RX5) (T := TX5) (N := 7) hx hb hts in_X5 tyX5 tyX5_ok nmX5 hown hK hS ha hFa rfl 2 (by decide) (hts _ q454) (fun _ h => h) rfl rfl rfl (Nat.le_of_ble_eq_true rfl) dX5_sell_7 (fun H_2 locs hs_1 hS => ?_)
  have h_3 : va_at D vwCl (a, .inr (5, [.int pr, .int we, .int (stk - n), .int mk, .int bx, .int so, .int bo])) H_2 := hs_1.1
  refine lv_aload_n hx hb dX5_sell_10 rfl (lv_at hl 0 rfl) ?_
  refine lv_dup hx hb dX5_sell_11 rfl ?_
  refine r_get (C := RX5) (T := TX5) (N := 7) hx hb hts in_X5 hown hK h_3 rfl 5 (by decide) (hts _ q459) (fun _ h => h) (v := .int so) rfl dX5_sell_12 ?_
  refine lv_iload_n hx hb dX5_sell_15 rfl (lv_at hl 1 rfl) ?_
  refine lv_aload_n hx hb dX5_sell_16 rfl (lv_at hl 0 rfl) ?_
  refine r_get (C := RX5) (T := TX5) (N := 7) hx hb hts in_X5 hown hK h_3 rfl 1 (by decide) (hts _ q452) (fun _ h => h) (v := .int we) rfl dX5_sell_17 ?_
  refine lv_imul hx hb dX5_sell_20 ?_
  refine lv_iadd hx hb dX5_sell_21 ?_
  refine r_put (C := RX5) (T := TX5) (N := 7) hx hb hts in_X5 tyX5 tyX5_ok nmX5 hown hK hS h_3 hFa rfl 5 (by decide) (hts _ q459) (fun _ h => h) rfl rfl rfl (Nat.le_of_ble_eq_true rfl) dX5_sell_22 (fun H_5 locs hs_4 hS => ?_)
  have h_6 : va_at D vwCl (a, .inr (5, [.int pr, .int we, .int (stk - n), .int mk, .int bx, .int (so + (n * we)), .int bo])) H_5 := hs_4.1
  refine lv_aload_n hx hb dX5_sell_25 rfl (lv_at hl 0 rfl) ?_
  refine r_get (C := RX5) (T := TX5) (N := 7) hx hb hts in_X5 hown hK h_6 rfl 5 (by decide) (hts _ q459) (fun _ h => h) (v := .int (so + (n * we))) rfl dX5_sell_26 ?_
  refine lv_aload_n hx hb dX5_sell_29 rfl (lv_at hl 0 rfl) ?_
  refine r_get (C := RX5) (T := TX5) (N := 7) hx hb hts in_X5 hown hK h_6 rfl 3 (by decide) (hts _ q457) (fun _ h => h) (v := .int mk) rfl dX5_sell_30 ?_
  refine lv_idiv hx hb dX5_sell_33 (by assumption) ?_
  refine lv_i2l hx hb dX5_sell_34 rfl ?_
  refine lv_lstore_n (lv' := [(2, .long (((so + (n * we)) / mk)).toInt64), (0, .ref a), (1, .int n)]) hx hb dX5_sell_35 rfl hl (by decide) rfl (fun ls hl => ?_)
  refine lv_aload_n hx hb dX5_sell_36 rfl (lv_at hl 1 rfl) ?_
  refine lv_dup hx hb dX5_sell_37 rfl ?_
  refine r_get (C := RX5) (T := TX5) (N := 7) hx hb hts in_X5 hown hK h_6 rfl 5 (by decide) (hts _ q459) (fun _ h => h) (v := .int (so + (n * we))) rfl dX5_sell_38 ?_
  refine lv_aload_n hx hb dX5_sell_41 rfl (lv_at hl 1 rfl) ?_
  refine r_get (C := RX5) (T := TX5) (N := 7) hx hb hts in_X5 hown hK h_6 rfl 3 (by decide) (hts _ q457) (fun _ h => h) (v := .int mk) rfl dX5_sell_42 ?_
  refine lv_irem hx hb dX5_sell_45 (by assumption) ?_
  refine r_put (C := RX5) (T := TX5) (N := 7) hx hb hts in_X5 tyX5 tyX5_ok nmX5 hown hK hS h_6 hFa rfl 5 (by decide) (hts _ q459) (fun _ h => h) rfl rfl rfl (Nat.le_of_ble_eq_true rfl) dX5_sell_46 (fun H_8 locs hs_7 hS => ?_)
  have h_9 : va_at D vwCl (a, .inr (5, [.int pr, .int we, .int (stk - n), .int mk, .int bx, .int ((so + (n * we)) - (so + (n * we)) / mk * mk), .int bo])) H_8 := hs_7.1
  refine lv_aload_n hx hb dX5_sell_49 rfl (lv_at hl 1 rfl) ?_
  refine lv_dup hx hb dX5_sell_50 rfl ?_
  refine r_get (C := RX5) (T := TX5) (N := 7) hx hb hts in_X5 hown hK h_9 rfl 6 (by decide) (hts _ q460) (fun _ h => h) (v := .int bo) rfl dX5_sell_51 ?_
  refine lv_lload_n hx hb dX5_sell_54 rfl (lv_at hl 0 rfl) ?_
  refine lv_l2i hx hb dX5_sell_55 rfl ?_
  refine lv_iadd hx hb dX5_sell_56 ?_
  refine r_put (C := RX5) (T := TX5) (N := 7) hx hb hts in_X5 tyX5 tyX5_ok nmX5 hown hK hS h_9 hFa rfl 6 (by decide) (hts _ q460) (fun _ h => h) rfl rfl rfl (Nat.le_of_ble_eq_true rfl) dX5_sell_57 (fun H_11 locs hs_10 hS => ?_)
  have h_12 : va_at D vwCl (a, .inr (5, [.int pr, .int we, .int (stk - n), .int mk, .int bx, .int ((so + (n * we)) - (so + (n * we)) / mk * mk), .int (bo + ((((so + (n * we)) / mk)).toInt64).toInt32)])) H_11 := hs_10.1
  refine lv_aload_n hx hb dX5_sell_60 rfl (lv_at hl 1 rfl) ?_
  refine lv_ldc2 (v := 99) hx hb hown (hts _ q848) dX5_sell_61 ?_
  refine lv_aload_n hx hb dX5_sell_64 rfl (lv_at hl 1 rfl) ?_
  refine r_get (C := RX5) (T := TX5) (N := 7) hx hb hts in_X5 hown hK h_12 rfl 2 (by decide) (hts _ q454) (fun _ h => h) (v := .int (stk - n)) rfl dX5_sell_65 ?_
  refine lv_i2l hx hb dX5_sell_68 rfl ?_
  refine lv_lload_n hx hb dX5_sell_69 rfl (lv_at hl 0 rfl) ?_
  refine lv_aload_n hx hb dX5_sell_70 rfl (lv_at hl 1 rfl) ?_
  refine r_get (C := RX5) (T := TX5) (N := 7) hx hb hts in_X5 hown hK h_12 rfl 4 (by decide) (hts _ q458) (fun _ h => h) (v := .int bx) rfl dX5_sell_71 ?_
  refine lv_aload_n hx hb dX5_sell_74 rfl (lv_at hl 1 rfl) ?_
  refine r_get (C := RX5) (T := TX5) (N := 7) hx hb hts in_X5 hown hK h_12 rfl 1 (by decide) (hts _ q452) (fun _ h => h) (v := .int we) rfl dX5_sell_75 ?_
  refine lv_idiv hx hb dX5_sell_78 (by assumption) ?_
  refine lv_i2l hx hb dX5_sell_79 rfl ?_
  refine lv_lmul hx hb dX5_sell_80 ?_
  refine lv_ladd hx hb dX5_sell_81 ?_
  refine vp_callSl (W.runS (As := [.long (99 : Int64), .long (((stk - n)).toInt64 + ((((so + (n * we)) / mk)).toInt64 * ((bx / we)).toInt64))]) (rest := [.ref a]) ⟨hx, hb, hml, hown, hts⟩ (met_J10_min_2 l (99 : Int64) (((stk - n)).toInt64 + ((((so + (n * we)) / mk)).toInt64 * ((bx / we)).toInt64))) (va_cwS 2 hts (lw_S q849 q850 q76 q851) rfl rfl rfl (by decide +kernel) ⟨Nat.le_of_ble_eq_true rfl, Nat.le_of_ble_eq_true rfl⟩) ⟨fun a U g mk q => q, fun U hU hW => ⟨rfl, trivial⟩⟩ rfl rfl hl.1 rfl (lv_room (Nat.le_of_ble_eq_true rfl)) dX5_sell_82 ⟨Nat.le_of_ble_eq_true rfl, Nat.le_of_ble_eq_true rfl⟩) (fun r_13 hr_13 => ?_)
  subst hr_13
  refine lv_l2i hx hb dX5_sell_85 rfl ?_
  refine r_put (C := RX5) (T := TX5) (N := 7) hx hb hts in_X5 tyX5 tyX5_ok nmX5 hown hK hS h_12 hFa rfl 2 (by decide) (hts _ q454) (fun _ h => h) rfl rfl rfl (Nat.le_of_ble_eq_true rfl) dX5_sell_86 (fun H_15 locs hs_14 hS => ?_)
  have h_16 : va_at D vwCl (a, .inr (5, [.int pr, .int we, .int ((jminl (99 : Int64) (((stk - n)).toInt64 + ((((so + (n * we)) / mk)).toInt64 * ((bx / we)).toInt64)))).toInt32, .int mk, .int bx, .int ((so + (n * we)) - (so + (n * we)) / mk * mk), .int (bo + ((((so + (n * we)) / mk)).toInt64).toInt32)])) H_15 := hs_14.1
  subst hQe
  refine W.widen (k := 0) (n := 0) (by first | decide | omega) (by first | decide | omega) ?_
  exact W.vret hx hb hr (fun t ht hW => ⟨⟨H_15, rfl, (by have hq := h_16; rw [jml, jlii] at hq; exact hq), ht⟩, hS.F ht⟩) hS.2.2 dX5_sell_89

set_option maxHeartbeats 4000000 in
set_option maxRecDepth 100000 in
theorem met_X5_soldOut (l : Launch) (D : va_G) (cA : Nat → ClassId) (Z : Nat → Nat) (F : Nat → Prop) (H : Heap) {a : Nat} {pr we stk mk bx so bo : Int32} (ha : va_at D vwCl (a, .inr (5, [.int pr, .int we, .int stk, .int mk, .int bx, .int so, .int bo])) H) (hF : ∀ q, H.size ≤ q → F q) (hmk : ¬ mk = 0) (hwe : ¬ we = 0) : Met l yX5_soldOut (ws_ yX5_soldOut cX5_soldOut 3 (some .int)) (rmL 3 1 7) (cP D cA Z F H [.ref a]) (va_Qi (fun (r : Int32) (H1 : Heap) => r = tk_so we mk (bx / we) 1000 0 stk so) (fun (H1 : Heap) (t : State) => t.heap = H1) F) 1 7 F := by
  refine Met.ofW (cc := cX5_soldOut) (maxL := 3) (ret := (some .int)) (by decide) rfl ?_
  intro p e s m args below meth c s₁ Bd hml hv
  obtain ⟨rfl, hh, hK, hE, hZn⟩ := hv
  subst hh
  have hx := Bd.exec
  have hb := Bd.bytes
  have hr := Bd.returns
  have hts := atoms_spec (ws := (ws_ yX5_soldOut cX5_soldOut 3 (some .int))) Bd.pre
  have hts : ∀ w ∈ lw_all, w.before _ s = true := fun w h => hts w (List.mem_cons_of_mem _ h)
  have hown : s.vm.findClass RX5 = some m.cls := findClass_of_methodNamed Bd.named
  have hlocks := Bd.notSynchronized
  have hS : va_S F s.heap s.heap [] := va_S.rf
  have hl := lv_entry ([.ref a]) (n := 3) (Nat.le_of_ble_eq_true rfl)
  rw [lg_entry_eq]
  generalize (lg_sl ([.ref a]) ++ List.replicate (3 - (lg_sl ([.ref a])).length) Slot.unset).toArray = ls at hl ⊢
  have hl : lv_has ls 3 [(0, .ref a)] := hl
  refine W.gq fun Q0 hQe => ?_
  refine lv_aload_n hx hb dX5_soldOut_0 rfl (lv_at hl 0 rfl) ?_
  have hSo := hS
  refine va_callq (va_runV (As := []) (rest := []) ⟨hx, hb, hml, hown, hts⟩ (met_X5_copy l D cA Z (fun q => s.heap.size ≤ q) s.heap (pr := pr) (we := we) (stk := stk) (mk := mk) (bx := bx) (so := so) (bo := bo) ha (fun q h => h)) (cwV 0 hts (lw_V q1549 q440 q441 q78 q442) rfl rfl rfl (by decide +kernel) ⟨Nat.le_of_ble_eq_true rfl, Nat.le_of_ble_eq_true rfl⟩) (cP_V hK hE (En.narrow hZn (fun q h => hF q (Nat.le_trans hS.1 h))) (rcv hK ha rfl)) rfl rfl hl.1 rfl (lv_room (Nat.le_of_ble_eq_true rfl)) dX5_soldOut_1 ⟨(by first | decide | omega), (by first | decide | omega)⟩) hS (fun q _ h => (fun q h => hF q (Nat.le_trans hS.1 h)) q h) (fun q h => hF q (Nat.le_trans hS.1 h)) (fun r_1 H_2 t H_2x locs ht _ hr_1 hB hz hk hS => ?_)
  obtain rfl : H_2x = H_2 := ht.symm.trans hB
  have hz_3 : hC (fun q => s.heap.size ≤ q) s.heap H_2x := ⟨hz, hk⟩
  clear hz hk hB ht
  have h_4 := atC ha hz_3 (fun h => absurd (at_lt ha) (Nat.not_lt.mpr h))
  obtain ⟨q_5, hr_1, z_6, h_7⟩ := hr_1
  have n_8 : a ≠ q_5 := Nat.ne_of_lt (Nat.lt_of_lt_of_le (at_lt ha) z_6)
  have zq_5 : s.heap.size ≤ q_5 := Nat.le_trans hSo.1 z_6
  have mq_5 := hF _ zq_5
  subst hr_1
  refine lv_astore_n (lv' := [(1, .ref q_5), (0, .ref a)]) hx hb dX5_soldOut_4 rfl hl (by decide) rfl (fun ls hl => ?_)
  refine lv_iconst (v := 0) hx hb dX5_soldOut_5 (by decide) ?_
  refine lv_istore_n (lv' := [(2, .int (0 : Int32)), (1, .ref q_5), (0, .ref a)]) hx hb dX5_soldOut_6 rfl hl (by decide) rfl (fun ls hl => ?_)
  have cut_7 : ∀ (N : Nat) (k : Nat) (st1 so1 bo1 : Int32) (hk : k ≤ 1000) (hq : tk_so we mk (bx / we) 1000 0 stk so = tk_so we mk (bx / we) (1000 - k) k st1 so1) (hN : 1000 - k < N) (Hc7 : Heap) (lc7 : List Loc) (hS : va_S F s.heap Hc7 lc7) (hc7_f_9 : va_at D vwCl (a, .inr (5, [.int pr, .int we, .int stk, .int mk, .int bx, .int so, .int bo])) Hc7) (hc7_f_10 : va_at D vwCl (q_5, .inr (5, [.int pr, .int we, .int st1, .int mk, .int bx, .int so1, .int bo1])) Hc7), ∀ (ls : Array Slot) (hl : lv_has ls 3 [(2, .int (nI k)), (1, .ref q_5), (0, .ref a)]), W p l e (headSpec (ws_ yX5_soldOut cX5_soldOut 3 (some .int)) (rmL 3 1 7)).room s m ([.ref a] : List Value).toArray below meth c Hc7 lc7 1 7 Q0 (F0 m 7 ls []) := by
    intro N
    induction N with
    | zero => intro k st1 so1 bo1 hk hq hN; exact absurd hN (Nat.not_lt_zero _)
    | succ N ih_7 =>
      intro k st1 so1 bo1 hk hq hN Hc7 lc7 hS hc7_f_9 hc7_f_10 ls hl
      refine lv_iload_n hx hb dX5_soldOut_7 rfl (lv_at hl 0 rfl) ?_
      refine lv_sipush (v := 999) hx hb dX5_soldOut_8 (by decide) ?_
      refine lv_icmp_gt (tgt := 34) hx hb dX5_soldOut_11 (by decide) (fun c11_b_11 => ?_) (fun c11_b_11 => ?_)
      · skip
        have nc11_b_11 := ngtT (a := k) (b := 999) rfl rfl (by omega) (by omega) c11_b_11
        refine lv_ldc (v := -100009) hx hb hown (hts _ q1551) dX5_soldOut_34 ?_
        subst hQe
        refine W.widen (k := 1) (n := 7) (by first | decide | omega) (by first | decide | omega) ?_
        exact W.iret hx hb hr (fun t ht hW => ⟨⟨_, Hc7, rfl, (by rw [hq, tk_soE (by omega)]), ht⟩, hS.F ht⟩) hS.2.2 dX5_soldOut_36
      · skip
        have nc11_b_11 := ngtF (a := k) (b := 999) rfl rfl (by omega) (by omega) c11_b_11
        refine lv_aload_n hx hb dX5_soldOut_14 rfl (lv_at hl 1 rfl) ?_
        refine r_get (C := RX5) (T := TX5) (N := 7) hx hb hts in_X5 hown hK hc7_f_10 rfl 2 (by decide) (hts _ q454) (fun _ h => h) (v := .int st1) rfl dX5_soldOut_15 ?_
        refine lv_if_ne (tgt := 23) hx hb dX5_soldOut_18 (by decide) (fun c18_b_12 => ?_) (fun c18_b_12 => ?_)
        · skip
          refine lv_aload_n hx hb dX5_soldOut_23 rfl (lv_at hl 1 rfl) ?_
          refine lv_iconst (v := 1) hx hb dX5_soldOut_24 (by decide) ?_
          have hSo := hS
          refine va_callv (va_runV (As := [.int (1 : Int32)]) (rest := []) ⟨hx, hb, hml, hown, hts⟩ (met_X5_sell l D cA Z (fun q => q = q_5) Hc7 (pr := pr) (we := we) (stk := st1) (mk := mk) (bx := bx) (so := so1) (bo := bo1) (n := (1 : Int32)) hc7_f_10 rfl (by first | assumption | omega | decide) (by first | assumption | omega | decide)) (cwV 1 hts (lw_V q1550 q845 q846 q78 q847) rfl rfl rfl (by decide +kernel) ⟨Nat.le_of_ble_eq_true rfl, Nat.le_of_ble_eq_true rfl⟩) (cP_V hK hE (En.narrow (hZn.kept hS.c) (fun q h => by subst h; exact mq_5)) (rcv hK hc7_f_10 rfl)) rfl rfl hl.1 rfl (lv_room (Nat.le_of_ble_eq_true rfl)) dX5_soldOut_25 ⟨Nat.le_of_ble_eq_true rfl, Nat.le_of_ble_eq_true rfl⟩) hS (fun q _ h => (fun q h => by subst h; exact mq_5) q h) (fun q h => by subst h; exact mq_5) (fun H_14 t H_14x locs ht _ hr_13 hB hz hk hS => ?_)
          obtain rfl : H_14x = H_14 := ht.symm.trans hB
          have hz_15 : hC (fun q => q = q_5) Hc7 H_14x := ⟨hz, hk⟩
          clear hz hk hB ht
          have h_16 := atC hc7_f_9 hz_15 (fun h => absurd h n_8)
          have h_17 := hr_13
          refine lv_iinc (v := (nI (k + 1))) (lv' := [(2, .int (nI (k + 1))), (1, .ref q_5), (0, .ref a)]) hx hb dX5_soldOut_28 hl (k := 0) rfl (ixA rfl rfl) (by decide) rfl (fun ls hl => ?_)
          refine lv_goto (tgt := 7) hx hb dX5_soldOut_31 (by decide) ?_
          exact ih_7 (k + 1) _ _ _ (by omega) (hq.trans ((tk_soS (by omega) c18_b_12).trans (by rw [Int32.one_mul]))) (by omega) _ _ hS h_16 h_17  ls (lv_sub hl [0, 1, 2] rfl)
        · skip
          refine lv_iload_n hx hb dX5_soldOut_21 rfl (lv_at hl 0 rfl) ?_
          subst hQe
          refine W.widen (k := 1) (n := 7) (by first | decide | omega) (by first | decide | omega) ?_
          exact W.iret hx hb hr (fun t ht hW => ⟨⟨_, Hc7, rfl, (by rw [hq, tk_so0 (by omega) c18_b_12]), ht⟩, hS.F ht⟩) hS.2.2 dX5_soldOut_22
  exact cut_7 _ 0 _ _ _ (Nat.zero_le _) rfl (Nat.lt_succ_self _) _ _ hS h_4 h_7  ls (lv_sub hl [0, 1, 2] rfl)
