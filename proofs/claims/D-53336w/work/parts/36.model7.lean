set_option maxHeartbeats 4000000 in
set_option maxRecDepth 100000 in
theorem met_X3_kept (l : Launch) {B : Nat} (D : va_G) (cA : Nat → ClassId) (ad : Nat → Nat) (S : Nat → Nat → Int32) (hI : tk_ok B (S 0)) : Met l yX3_kept (ws_ yX3_kept cX3_kept 3 (some .int)) (rmL 2 0 0) (mPre D cA ad S []) (vp_Si (fun r => r = tk_kept (S 0))) 0 0 (fun _ => False) := by
  refine Met.ofW (cc := cX3_kept) (maxL := 3) (ret := (some .int)) (by decide) rfl ?_
  intro p e s m args below meth c s₁ Bd hml hv
  obtain ⟨rfl, hP, hK, hD⟩ := hv
  have hx := Bd.exec
  have hb := Bd.bytes
  have hr := Bd.returns
  have hts := atoms_spec (ws := (ws_ yX3_kept cX3_kept 3 (some .int))) Bd.pre
  have hts : ∀ w ∈ lw_all, w.before _ s = true := fun w h => hts w (List.mem_cons_of_mem _ h)
  have hown : s.vm.findClass RX3 = some m.cls := findClass_of_methodNamed Bd.named
  have hlocks := Bd.notSynchronized
  have hM : mSt D cA ad (mA ad) s.heap s.heap [] S := ⟨hP, hD, va_S.rf⟩
  have hl := lv_entry ([.ref (ad 7)]) (n := 3) (Nat.le_of_ble_eq_true rfl)
  rw [lg_entry_eq]
  generalize (lg_sl ([.ref (ad 7)]) ++ List.replicate (3 - (lg_sl ([.ref (ad 7)])).length) Slot.unset).toArray = ls at hl ⊢
  have hl : lv_has ls 3 [(0, .ref (ad 7))] := hl
  obtain ⟨nc, hnc, enc, enn, eni⟩ := ok_n hI
  obtain ⟨np, hnp, enp, ennp, enip⟩ := ok_p hI
  refine lv_iconst (v := 0) hx hb dX3_kept_0 (by decide) ?_
  refine lv_istore_n (lv' := [(1, .int (0 : Int32)), (0, .ref (ad 7))]) hx hb dX3_kept_1 rfl hl (by decide) rfl (fun ls hl => ?_)
  refine lv_iconst (v := 0) hx hb dX3_kept_2 (by decide) ?_
  refine lv_istore_n (lv' := [(2, .int (0 : Int32)), (1, .int (0 : Int32)), (0, .ref (ad 7))]) hx hb dX3_kept_3 rfl hl (by decide) rfl (fun ls hl => ?_)
  have cut_4 : ∀ (N : Nat) (k : Nat) (hk : k ≤ nc) (hN : nc - k < N) , ∀ (ls : Array Slot) (hl : lv_has ls 3 [(1, .int (tk_sum (fun c => S 0 (16 + 6 * c + 1)) k)), (2, .int (nI k)), (0, .ref (ad 7))]), W p l e (headSpec (ws_ yX3_kept cX3_kept 3 (some .int)) (rmL 2 0 0)).room s m ([.ref (ad 7)] : List Value).toArray below meth c s.heap [] 0 0 (MQ below (vp_Si (fun r => r = tk_kept (S 0))) ([.ref (ad 7)] : List Value).toArray s 0 0 (fun _ => False)) (F0 m 4 ls []) := by
    intro N
    induction N with
    | zero => intro k hk hN; exact absurd hN (Nat.not_lt_zero _)
    | succ N ih_4 =>
      intro k hk hN  ls hl
      refine lv_iload_n hx hb dX3_kept_4 rfl (lv_at hl 1 rfl) ?_
      refine lv_aload_n hx hb dX3_kept_5 rfl (lv_at hl 2 rfl) ?_
      refine m_get hx hb hts in_X3 hown hK hM 0 (by decide) (hts _ q1571) rfl dX3_kept_6 ?_
      refine lv_bipush (v := 14) hx hb dX3_kept_9 (by decide) ?_
      refine m_iald hx hb hK hM 0 1 rfl 14 rfl (by omega) (v := (S 0 14)) rfl dX3_kept_11 (by decide) ?_
      refine lv_icmp_ge (tgt := 30) hx hb dX3_kept_12 (by decide) (fun c12_b_1 => ?_) (fun c12_b_1 => ?_)
      · skip
        have c12_b_1 := Int32.not_lt.mpr c12_b_1
        have nc12_b_1 := nltF (a := k) (b := nc) rfl enc (by omega) (by omega) c12_b_1
        obtain rfl : nc = k := by omega
        refine lv_iload_n hx hb dX3_kept_30 rfl (lv_at hl 0 rfl) ?_
        exact W.iret hx hb hr (fun t ht hW => ⟨_, rfl, (by simp [tk_kept, enn]), ht⟩) (fun _ h => absurd h List.not_mem_nil) dX3_kept_31
      · skip
        have c12_b_1 := Int32.not_le.mp c12_b_1
        have nc12_b_1 := nltT (a := k) (b := nc) rfl enc (by omega) (by omega) c12_b_1
        refine lv_iload_n hx hb dX3_kept_15 rfl (lv_at hl 0 rfl) ?_
        refine lv_aload_n hx hb dX3_kept_16 rfl (lv_at hl 2 rfl) ?_
        refine lv_iload_n hx hb dX3_kept_17 rfl (lv_at hl 1 rfl) ?_
        refine lv_iconst (v := 1) hx hb dX3_kept_18 (by decide) ?_
        refine vp_callSi (W.runV (As := [.int (nI k), .int (nI 1)]) (rest := [.int (tk_sum (fun c => S 0 (16 + 6 * c + 1)) k)]) ⟨hx, hb, hml, hown, hts⟩ (met_X3_of l D cA ad S k 1 (by first | assumption | omega | decide)) (cwV 2 hts (lw_V q1686 q1688 qs32 q71 q1689) rfl rfl rfl (by decide +kernel) ⟨Nat.le_of_ble_eq_true rfl, Nat.le_of_ble_eq_true rfl⟩) (mPreV hK hM) rfl rfl hl.1 rfl (lv_room (Nat.le_of_ble_eq_true rfl)) dX3_kept_19 ⟨Nat.le_of_ble_eq_true rfl, Nat.le_of_ble_eq_true rfl⟩) (fun r_2 hr_2 => ?_)
        subst hr_2
        refine lv_iadd hx hb dX3_kept_22 ?_
        refine lv_istore_n (lv' := [(1, .int ((tk_sum (fun c => S 0 (16 + 6 * c + 1)) k) + (S 0 (16 + 6 * k + 1)))), (2, .int (nI k)), (0, .ref (ad 7))]) hx hb dX3_kept_23 rfl hl (by decide) rfl (fun ls hl => ?_)
        refine lv_iinc (v := (nI (k + 1))) (lv' := [(2, .int (nI (k + 1))), (1, .int ((tk_sum (fun c => S 0 (16 + 6 * c + 1)) k) + (S 0 (16 + 6 * k + 1)))), (0, .ref (ad 7))]) hx hb dX3_kept_24 hl (k := 1) rfl (ixA rfl rfl) (by decide) rfl (fun ls hl => ?_)
        refine lv_goto (tgt := 4) hx hb dX3_kept_27 (by decide) ?_
        exact ih_4 (k + 1) (by omega) (by omega)  ls (lv_sub hl [1, 0, 2] rfl)
  exact cut_4 _ 0 (by omega) (Nat.lt_succ_self _)  ls (lv_sub hl [1, 0, 2] rfl)

set_option maxHeartbeats 4000000 in
set_option maxRecDepth 100000 in
theorem met_X3_stocks (l : Launch) {B : Nat} (D : va_G) (cA : Nat → ClassId) (ad : Nat → Nat) (S : Nat → Nat → Int32) (hI : tk_ok B (S 0)) : Met l yX3_stocks (ws_ yX3_stocks cX3_stocks 3 (some .int)) (rmL 2 0 0) (mPre D cA ad S []) (vp_Si (fun r => r = tk_stocks (S 0))) 0 0 (fun _ => False) := by
  refine Met.ofW (cc := cX3_stocks) (maxL := 3) (ret := (some .int)) (by decide) rfl ?_
  intro p e s m args below meth c s₁ Bd hml hv
  obtain ⟨rfl, hP, hK, hD⟩ := hv
  have hx := Bd.exec
  have hb := Bd.bytes
  have hr := Bd.returns
  have hts := atoms_spec (ws := (ws_ yX3_stocks cX3_stocks 3 (some .int))) Bd.pre
  have hts : ∀ w ∈ lw_all, w.before _ s = true := fun w h => hts w (List.mem_cons_of_mem _ h)
  have hown : s.vm.findClass RX3 = some m.cls := findClass_of_methodNamed Bd.named
  have hlocks := Bd.notSynchronized
  have hM : mSt D cA ad (mA ad) s.heap s.heap [] S := ⟨hP, hD, va_S.rf⟩
  have hl := lv_entry ([.ref (ad 7)]) (n := 3) (Nat.le_of_ble_eq_true rfl)
  rw [lg_entry_eq]
  generalize (lg_sl ([.ref (ad 7)]) ++ List.replicate (3 - (lg_sl ([.ref (ad 7)])).length) Slot.unset).toArray = ls at hl ⊢
  have hl : lv_has ls 3 [(0, .ref (ad 7))] := hl
  obtain ⟨nc, hnc, enc, enn, eni⟩ := ok_n hI
  obtain ⟨np, hnp, enp, ennp, enip⟩ := ok_p hI
  refine lv_iconst (v := 0) hx hb dX3_stocks_0 (by decide) ?_
  refine lv_istore_n (lv' := [(1, .int (0 : Int32)), (0, .ref (ad 7))]) hx hb dX3_stocks_1 rfl hl (by decide) rfl (fun ls hl => ?_)
  refine lv_iconst (v := 0) hx hb dX3_stocks_2 (by decide) ?_
  refine lv_istore_n (lv' := [(2, .int (0 : Int32)), (1, .int (0 : Int32)), (0, .ref (ad 7))]) hx hb dX3_stocks_3 rfl hl (by decide) rfl (fun ls hl => ?_)
  have cut_4 : ∀ (N : Nat) (k : Nat) (hk : k ≤ np) (hN : np - k < N) , ∀ (ls : Array Slot) (hl : lv_has ls 3 [(1, .int (tk_sum (fun p => S 0 (52 + 7 * p + 2)) k)), (2, .int (nI k)), (0, .ref (ad 7))]), W p l e (headSpec (ws_ yX3_stocks cX3_stocks 3 (some .int)) (rmL 2 0 0)).room s m ([.ref (ad 7)] : List Value).toArray below meth c s.heap [] 0 0 (MQ below (vp_Si (fun r => r = tk_stocks (S 0))) ([.ref (ad 7)] : List Value).toArray s 0 0 (fun _ => False)) (F0 m 4 ls []) := by
    intro N
    induction N with
    | zero => intro k hk hN; exact absurd hN (Nat.not_lt_zero _)
    | succ N ih_4 =>
      intro k hk hN  ls hl
      refine lv_iload_n hx hb dX3_stocks_4 rfl (lv_at hl 1 rfl) ?_
      refine lv_aload_n hx hb dX3_stocks_5 rfl (lv_at hl 2 rfl) ?_
      refine m_get hx hb hts in_X3 hown hK hM 0 (by decide) (hts _ q1571) rfl dX3_stocks_6 ?_
      refine lv_bipush (v := 15) hx hb dX3_stocks_9 (by decide) ?_
      refine m_iald hx hb hK hM 0 1 rfl 15 rfl (by omega) (v := (S 0 15)) rfl dX3_stocks_11 (by decide) ?_
      refine lv_icmp_ge (tgt := 30) hx hb dX3_stocks_12 (by decide) (fun c12_b_1 => ?_) (fun c12_b_1 => ?_)
      · skip
        have c12_b_1 := Int32.not_lt.mpr c12_b_1
        have nc12_b_1 := nltF (a := k) (b := np) rfl enp (by omega) (by omega) c12_b_1
        obtain rfl : np = k := by omega
        refine lv_iload_n hx hb dX3_stocks_30 rfl (lv_at hl 0 rfl) ?_
        exact W.iret hx hb hr (fun t ht hW => ⟨_, rfl, (by simp [tk_stocks, ennp]), ht⟩) (fun _ h => absurd h List.not_mem_nil) dX3_stocks_31
      · skip
        have c12_b_1 := Int32.not_le.mp c12_b_1
        have nc12_b_1 := nltT (a := k) (b := np) rfl enp (by omega) (by omega) c12_b_1
        refine lv_iload_n hx hb dX3_stocks_15 rfl (lv_at hl 0 rfl) ?_
        refine lv_aload_n hx hb dX3_stocks_16 rfl (lv_at hl 2 rfl) ?_
        refine lv_iload_n hx hb dX3_stocks_17 rfl (lv_at hl 1 rfl) ?_
        refine lv_iconst (v := 2) hx hb dX3_stocks_18 (by decide) ?_
        refine vp_callSi (W.runV (As := [.int (nI k), .int (nI 2)]) (rest := [.int (tk_sum (fun p => S 0 (52 + 7 * p + 2)) k)]) ⟨hx, hb, hml, hown, hts⟩ (met_X3_priced l D cA ad S k 2 (by first | assumption | omega | decide)) (cwV 2 hts (lw_V q1752 q1754 qs42 q71 q1755) rfl rfl rfl (by decide +kernel) ⟨Nat.le_of_ble_eq_true rfl, Nat.le_of_ble_eq_true rfl⟩) (mPreV hK hM) rfl rfl hl.1 rfl (lv_room (Nat.le_of_ble_eq_true rfl)) dX3_stocks_19 ⟨Nat.le_of_ble_eq_true rfl, Nat.le_of_ble_eq_true rfl⟩) (fun r_2 hr_2 => ?_)
        subst hr_2
        refine lv_iadd hx hb dX3_stocks_22 ?_
        refine lv_istore_n (lv' := [(1, .int ((tk_sum (fun p => S 0 (52 + 7 * p + 2)) k) + (S 0 (52 + 7 * k + 2)))), (2, .int (nI k)), (0, .ref (ad 7))]) hx hb dX3_stocks_23 rfl hl (by decide) rfl (fun ls hl => ?_)
        refine lv_iinc (v := (nI (k + 1))) (lv' := [(2, .int (nI (k + 1))), (1, .int ((tk_sum (fun p => S 0 (52 + 7 * p + 2)) k) + (S 0 (52 + 7 * k + 2)))), (0, .ref (ad 7))]) hx hb dX3_stocks_24 hl (k := 1) rfl (ixA rfl rfl) (by decide) rfl (fun ls hl => ?_)
        refine lv_goto (tgt := 4) hx hb dX3_stocks_27 (by decide) ?_
        exact ih_4 (k + 1) (by omega) (by omega)  ls (lv_sub hl [1, 0, 2] rfl)
  exact cut_4 _ 0 (by omega) (Nat.lt_succ_self _)  ls (lv_sub hl [1, 0, 2] rfl)

set_option maxHeartbeats 4000000 in
set_option maxRecDepth 100000 in
theorem met_X3_count (l : Launch) {B : Nat} (D : va_G) (cA : Nat → ClassId) (ad : Nat → Nat) (S : Nat → Nat → Int32) (w0 : Int32) (hI : tk_ok B (S 0)) : Met l yX3_count (ws_ yX3_count cX3_count 2 (some .int)) (rmL 3 0 0) (mPre D cA ad S [.int w0]) (vp_Si (fun r => r = tk_count (S 0) (S 7 0) (S 7 1) w0)) 0 0 (fun _ => False) := by
  refine Met.ofW (cc := cX3_count) (maxL := 2) (ret := (some .int)) (by decide) rfl ?_
  intro p e s m args below meth c s₁ Bd hml hv
  obtain ⟨rfl, hP, hK, hD⟩ := hv
  have hx := Bd.exec
  have hb := Bd.bytes
  have hr := Bd.returns
  have hts := atoms_spec (ws := (ws_ yX3_count cX3_count 2 (some .int))) Bd.pre
  have hts : ∀ w ∈ lw_all, w.before _ s = true := fun w h => hts w (List.mem_cons_of_mem _ h)
  have hown : s.vm.findClass RX3 = some m.cls := findClass_of_methodNamed Bd.named
  have hlocks := Bd.notSynchronized
  have hM : mSt D cA ad (mA ad) s.heap s.heap [] S := ⟨hP, hD, va_S.rf⟩
  have hl := lv_entry ([.ref (ad 7), .int w0]) (n := 2) (Nat.le_of_ble_eq_true rfl)
  rw [lg_entry_eq]
  generalize (lg_sl ([.ref (ad 7), .int w0]) ++ List.replicate (2 - (lg_sl ([.ref (ad 7), .int w0])).length) Slot.unset).toArray = ls at hl ⊢
  have hl : lv_has ls 2 [(0, .ref (ad 7)), (1, .int w0)] := hl
  obtain ⟨nc, hnc, enc, enn, eni⟩ := ok_n hI
  obtain ⟨np, hnp, enp, ennp, enip⟩ := ok_p hI
  refine lv_iload_n hx hb dX3_count_0 rfl (lv_at hl 1 rfl) ?_
  by_cases hs_1 : w0 = (0 : Int32)
  · skip
    subst hs_1
    refine lv_tableIn (tgt := 72) (off := 71) hx hb dX3_count_1 (by decide) (by decide) (by decide) (by decide) ?_
    refine lv_aload_n hx hb dX3_count_72 rfl (lv_at hl 0 rfl) ?_
    refine m_get hx hb hts in_X3 hown hK hM 0 (by decide) (hts _ q1571) rfl dX3_count_73 ?_
    refine lv_bipush (v := 8) hx hb dX3_count_76 (by decide) ?_
    refine lv_iload_n hx hb dX3_count_78 rfl (lv_at hl 1 rfl) ?_
    refine lv_iadd hx hb dX3_count_79 ?_
    refine m_iald hx hb hK hM 0 1 rfl (8 + 0) (ixA rfl rfl) (by omega) (v := (S 0 (8 + 0))) rfl dX3_count_80 (by decide) ?_
    exact W.iret hx hb hr (fun t ht hW => ⟨_, rfl, (by simp [tk_count]), ht⟩) (fun _ h => absurd h List.not_mem_nil) dX3_count_81
  by_cases hs_2 : w0 = (1 : Int32)
  · skip
    subst hs_2
    refine lv_tableIn (tgt := 72) (off := 71) hx hb dX3_count_1 (by decide) (by decide) (by decide) (by decide) ?_
    refine lv_aload_n hx hb dX3_count_72 rfl (lv_at hl 0 rfl) ?_
    refine m_get hx hb hts in_X3 hown hK hM 0 (by decide) (hts _ q1571) rfl dX3_count_73 ?_
    refine lv_bipush (v := 8) hx hb dX3_count_76 (by decide) ?_
    refine lv_iload_n hx hb dX3_count_78 rfl (lv_at hl 1 rfl) ?_
    refine lv_iadd hx hb dX3_count_79 ?_
    refine m_iald hx hb hK hM 0 1 rfl (8 + 1) (ixA rfl rfl) (by omega) (v := (S 0 (8 + 1))) rfl dX3_count_80 (by decide) ?_
    exact W.iret hx hb hr (fun t ht hW => ⟨_, rfl, (by simp [tk_count, hs_1]), ht⟩) (fun _ h => absurd h List.not_mem_nil) dX3_count_81
  by_cases hs_3 : w0 = (2 : Int32)
  · skip
    subst hs_3
    refine lv_tableIn (tgt := 72) (off := 71) hx hb dX3_count_1 (by decide) (by decide) (by decide) (by decide) ?_
    refine lv_aload_n hx hb dX3_count_72 rfl (lv_at hl 0 rfl) ?_
    refine m_get hx hb hts in_X3 hown hK hM 0 (by decide) (hts _ q1571) rfl dX3_count_73 ?_
    refine lv_bipush (v := 8) hx hb dX3_count_76 (by decide) ?_
    refine lv_iload_n hx hb dX3_count_78 rfl (lv_at hl 1 rfl) ?_
    refine lv_iadd hx hb dX3_count_79 ?_
    refine m_iald hx hb hK hM 0 1 rfl (8 + 2) (ixA rfl rfl) (by omega) (v := (S 0 (8 + 2))) rfl dX3_count_80 (by decide) ?_
    exact W.iret hx hb hr (fun t ht hW => ⟨_, rfl, (by simp [tk_count, hs_1, hs_2]), ht⟩) (fun _ h => absurd h List.not_mem_nil) dX3_count_81
  by_cases hs_4 : w0 = (3 : Int32)
  · skip
    subst hs_4
    refine lv_tableIn (tgt := 72) (off := 71) hx hb dX3_count_1 (by decide) (by decide) (by decide) (by decide) ?_
    refine lv_aload_n hx hb dX3_count_72 rfl (lv_at hl 0 rfl) ?_
    refine m_get hx hb hts in_X3 hown hK hM 0 (by decide) (hts _ q1571) rfl dX3_count_73 ?_
    refine lv_bipush (v := 8) hx hb dX3_count_76 (by decide) ?_
    refine lv_iload_n hx hb dX3_count_78 rfl (lv_at hl 1 rfl) ?_
    refine lv_iadd hx hb dX3_count_79 ?_
    refine m_iald hx hb hK hM 0 1 rfl (8 + 3) (ixA rfl rfl) (by omega) (v := (S 0 (8 + 3))) rfl dX3_count_80 (by decide) ?_
    exact W.iret hx hb hr (fun t ht hW => ⟨_, rfl, (by simp [tk_count, hs_1, hs_2, hs_3]), ht⟩) (fun _ h => absurd h List.not_mem_nil) dX3_count_81
  by_cases hs_5 : w0 = (4 : Int32)
  · skip
    subst hs_5
    refine lv_tableIn (tgt := 72) (off := 71) hx hb dX3_count_1 (by decide) (by decide) (by decide) (by decide) ?_
    refine lv_aload_n hx hb dX3_count_72 rfl (lv_at hl 0 rfl) ?_
    refine m_get hx hb hts in_X3 hown hK hM 0 (by decide) (hts _ q1571) rfl dX3_count_73 ?_
    refine lv_bipush (v := 8) hx hb dX3_count_76 (by decide) ?_
    refine lv_iload_n hx hb dX3_count_78 rfl (lv_at hl 1 rfl) ?_
    refine lv_iadd hx hb dX3_count_79 ?_
    refine m_iald hx hb hK hM 0 1 rfl (8 + 4) (ixA rfl rfl) (by omega) (v := (S 0 (8 + 4))) rfl dX3_count_80 (by decide) ?_
    exact W.iret hx hb hr (fun t ht hW => ⟨_, rfl, (by simp [tk_count, hs_1, hs_2, hs_3, hs_4]), ht⟩) (fun _ h => absurd h List.not_mem_nil) dX3_count_81
  by_cases hs_6 : w0 = (5 : Int32)
  · skip
    subst hs_6
    refine lv_tableIn (tgt := 82) (off := 81) hx hb dX3_count_1 (by decide) (by decide) (by decide) (by decide) ?_
    refine lv_aload_n hx hb dX3_count_82 rfl (lv_at hl 0 rfl) ?_
    refine m_get hx hb hts in_X3 hown hK hM 0 (by decide) (hts _ q1571) rfl dX3_count_83 ?_
    refine lv_bipush (v := 14) hx hb dX3_count_86 (by decide) ?_
    refine m_iald hx hb hK hM 0 1 rfl 14 rfl (by omega) (v := (S 0 14)) rfl dX3_count_88 (by decide) ?_
    exact W.iret hx hb hr (fun t ht hW => ⟨_, rfl, (by simp [tk_count, hs_1, hs_2, hs_3, hs_4, hs_5]), ht⟩) (fun _ h => absurd h List.not_mem_nil) dX3_count_89
  by_cases hs_7 : w0 = (6 : Int32)
  · skip
    subst hs_7
    refine lv_tableIn (tgt := 90) (off := 89) hx hb dX3_count_1 (by decide) (by decide) (by decide) (by decide) ?_
    refine lv_aload_n hx hb dX3_count_90 rfl (lv_at hl 0 rfl) ?_
    refine m_get hx hb hts in_X3 hown hK hM 0 (by decide) (hts _ q1571) rfl dX3_count_91 ?_
    refine lv_bipush (v := 15) hx hb dX3_count_94 (by decide) ?_
    refine m_iald hx hb hK hM 0 1 rfl 15 rfl (by omega) (v := (S 0 15)) rfl dX3_count_96 (by decide) ?_
    exact W.iret hx hb hr (fun t ht hW => ⟨_, rfl, (by simp [tk_count, hs_1, hs_2, hs_3, hs_4, hs_5, hs_6]), ht⟩) (fun _ h => absurd h List.not_mem_nil) dX3_count_97
  by_cases hs_8 : w0 = (7 : Int32)
  · skip
    subst hs_8
    refine lv_tableIn (tgt := 98) (off := 97) hx hb dX3_count_1 (by decide) (by decide) (by decide) (by decide) ?_
    refine lv_aload_n hx hb dX3_count_98 rfl (lv_at hl 0 rfl) ?_
    refine vp_callSi (W.runV (As := []) (rest := []) ⟨hx, hb, hml, hown, hts⟩ (met_X3_kept l D cA ad S hI) (cwV 0 hts (lw_V q1843 q1845 qs53 q71 q1846) rfl rfl rfl (by decide +kernel) ⟨Nat.le_of_ble_eq_true rfl, Nat.le_of_ble_eq_true rfl⟩) (mPreV hK hM) rfl rfl hl.1 rfl (lv_room (Nat.le_of_ble_eq_true rfl)) dX3_count_99 ⟨Nat.le_of_ble_eq_true rfl, Nat.le_of_ble_eq_true rfl⟩) (fun r_9 hr_9 => ?_)
    subst hr_9
    exact W.iret hx hb hr (fun t ht hW => ⟨_, rfl, (by simp [tk_count, hs_1, hs_2, hs_3, hs_4, hs_5, hs_6, hs_7]), ht⟩) (fun _ h => absurd h List.not_mem_nil) dX3_count_102
  by_cases hs_10 : w0 = (8 : Int32)
  · skip
    subst hs_10
    refine lv_tableIn (tgt := 103) (off := 102) hx hb dX3_count_1 (by decide) (by decide) (by decide) (by decide) ?_
    refine lv_aload_n hx hb dX3_count_103 rfl (lv_at hl 0 rfl) ?_
    refine m_get hx hb hts in_X3 hown hK hM 0 (by decide) (hts _ q1571) rfl dX3_count_104 ?_
    refine lv_bipush (v := 13) hx hb dX3_count_107 (by decide) ?_
    refine m_iald hx hb hK hM 0 1 rfl 13 rfl (by omega) (v := (S 0 13)) rfl dX3_count_109 (by decide) ?_
    exact W.iret hx hb hr (fun t ht hW => ⟨_, rfl, (by simp [tk_count, hs_1, hs_2, hs_3, hs_4, hs_5, hs_6, hs_7, hs_8]), ht⟩) (fun _ h => absurd h List.not_mem_nil) dX3_count_110
  by_cases hs_11 : w0 = (9 : Int32)
  · skip
    subst hs_11
    refine lv_tableIn (tgt := 111) (off := 110) hx hb dX3_count_1 (by decide) (by decide) (by decide) (by decide) ?_
    refine lv_aload_n hx hb dX3_count_111 rfl (lv_at hl 0 rfl) ?_
    refine vp_callSi (W.runV (As := []) (rest := []) ⟨hx, hb, hml, hown, hts⟩ (met_X3_pointsOfAll l D cA ad S nc hnc enc) (cwV 0 hts (lw_V q1776 q1778 qs44 q71 q1779) rfl rfl rfl (by decide +kernel) ⟨Nat.le_of_ble_eq_true rfl, Nat.le_of_ble_eq_true rfl⟩) (mPreV hK hM) rfl rfl hl.1 rfl (lv_room (Nat.le_of_ble_eq_true rfl)) dX3_count_112 ⟨Nat.le_of_ble_eq_true rfl, Nat.le_of_ble_eq_true rfl⟩) (fun r_12 hr_12 => ?_)
    subst hr_12
    exact W.iret hx hb hr (fun t ht hW => ⟨_, rfl, (by simp [tk_count, hs_1, hs_2, hs_3, hs_4, hs_5, hs_6, hs_7, hs_8, hs_10]), ht⟩) (fun _ h => absurd h List.not_mem_nil) dX3_count_115
  by_cases hs_13 : w0 = (10 : Int32)
  · skip
    subst hs_13
    refine lv_tableIn (tgt := 116) (off := 115) hx hb dX3_count_1 (by decide) (by decide) (by decide) (by decide) ?_
    refine lv_aload_n hx hb dX3_count_116 rfl (lv_at hl 0 rfl) ?_
    refine vp_callSi (W.runV (As := []) (rest := []) ⟨hx, hb, hml, hown, hts⟩ (met_X3_stocks l D cA ad S hI) (cwV 0 hts (lw_V q1847 q1849 qs54 q71 q1850) rfl rfl rfl (by decide +kernel) ⟨Nat.le_of_ble_eq_true rfl, Nat.le_of_ble_eq_true rfl⟩) (mPreV hK hM) rfl rfl hl.1 rfl (lv_room (Nat.le_of_ble_eq_true rfl)) dX3_count_117 ⟨Nat.le_of_ble_eq_true rfl, Nat.le_of_ble_eq_true rfl⟩) (fun r_14 hr_14 => ?_)
    subst hr_14
    exact W.iret hx hb hr (fun t ht hW => ⟨_, rfl, (by simp [tk_count, hs_1, hs_2, hs_3, hs_4, hs_5, hs_6, hs_7, hs_8, hs_10, hs_11]), ht⟩) (fun _ h => absurd h List.not_mem_nil) dX3_count_120
  by_cases hs_15 : w0 = (11 : Int32)
  · skip
    subst hs_15
    refine lv_tableIn (tgt := 121) (off := 120) hx hb dX3_count_1 (by decide) (by decide) (by decide) (by decide) ?_
    refine lv_aload_n hx hb dX3_count_121 rfl (lv_at hl 0 rfl) ?_
    refine m_get hx hb hts in_X3 hown hK hM 0 (by decide) (hts _ q1571) rfl dX3_count_122 ?_
    refine lv_bipush (v := 94) hx hb dX3_count_125 (by decide) ?_
    refine m_iald hx hb hK hM 0 1 rfl 94 rfl (by omega) (v := (S 0 94)) rfl dX3_count_127 (by decide) ?_
    refine lv_aload_n hx hb dX3_count_128 rfl (lv_at hl 0 rfl) ?_
    refine m_get hx hb hts in_X3 hown hK hM 0 (by decide) (hts _ q1571) rfl dX3_count_129 ?_
    refine lv_sipush (v := 189) hx hb dX3_count_132 (by decide) ?_
    refine m_iald hx hb hK hM 0 1 rfl 189 rfl (by omega) (v := (S 0 189)) rfl dX3_count_135 (by decide) ?_
    refine lv_iadd hx hb dX3_count_136 ?_
    exact W.iret hx hb hr (fun t ht hW => ⟨_, rfl, (by simp [tk_count, hs_1, hs_2, hs_3, hs_4, hs_5, hs_6, hs_7, hs_8, hs_10, hs_11, hs_13]), ht⟩) (fun _ h => absurd h List.not_mem_nil) dX3_count_137
  by_cases hs_16 : w0 = (12 : Int32)
  · skip
    subst hs_16
    refine lv_tableIn (tgt := 138) (off := 137) hx hb dX3_count_1 (by decide) (by decide) (by decide) (by decide) ?_
    refine lv_aload_n hx hb dX3_count_138 rfl (lv_at hl 0 rfl) ?_
    refine m_get hx hb hts in_X3 hown hK hM 4 (by decide) (hts _ q1575) rfl dX3_count_139 ?_
    exact W.iret hx hb hr (fun t ht hW => ⟨_, rfl, (by simp [tk_count, hs_1, hs_2, hs_3, hs_4, hs_5, hs_6, hs_7, hs_8, hs_10, hs_11, hs_13, hs_15]), ht⟩) (fun _ h => absurd h List.not_mem_nil) dX3_count_142
  by_cases hs_17 : w0 = (13 : Int32)
  · skip
    subst hs_17
    refine lv_tableIn (tgt := 143) (off := 142) hx hb dX3_count_1 (by decide) (by decide) (by decide) (by decide) ?_
    refine lv_aload_n hx hb dX3_count_143 rfl (lv_at hl 0 rfl) ?_
    refine m_get hx hb hts in_X3 hown hK hM 6 (by decide) (hts _ q1577) rfl dX3_count_144 ?_
    exact W.iret hx hb hr (fun t ht hW => ⟨_, rfl, (by simp [tk_count, hs_1, hs_2, hs_3, hs_4, hs_5, hs_6, hs_7, hs_8, hs_10, hs_11, hs_13, hs_15, hs_16]), ht⟩) (fun _ h => absurd h List.not_mem_nil) dX3_count_147
  refine lv_tableOut (tgt := 148) hx hb dX3_count_1 (by have := lv_neT hs_1 (show (0 : Int32).toInt = 0 by decide); have := lv_neT hs_2 (show (1 : Int32).toInt = 1 by decide); have := lv_neT hs_3 (show (2 : Int32).toInt = 2 by decide); have := lv_neT hs_4 (show (3 : Int32).toInt = 3 by decide); have := lv_neT hs_5 (show (4 : Int32).toInt = 4 by decide); have := lv_neT hs_6 (show (5 : Int32).toInt = 5 by decide); have := lv_neT hs_7 (show (6 : Int32).toInt = 6 by decide); have := lv_neT hs_8 (show (7 : Int32).toInt = 7 by decide); have := lv_neT hs_10 (show (8 : Int32).toInt = 8 by decide); have := lv_neT hs_11 (show (9 : Int32).toInt = 9 by decide); have := lv_neT hs_13 (show (10 : Int32).toInt = 10 by decide); have := lv_neT hs_15 (show (11 : Int32).toInt = 11 by decide); have := lv_neT hs_16 (show (12 : Int32).toInt = 12 by decide); have := lv_neT hs_17 (show (13 : Int32).toInt = 13 by decide); omega) (by decide) ?_
  refine lv_ldc (v := -100001) hx hb hown (hts _ q1636) dX3_count_148 ?_
  exact W.iret hx hb hr (fun t ht hW => ⟨_, rfl, (by simp [tk_count, hs_1, hs_2, hs_3, hs_4, hs_5, hs_6, hs_7, hs_8, hs_10, hs_11, hs_13, hs_15, hs_16, hs_17]), ht⟩) (fun _ h => absurd h List.not_mem_nil) dX3_count_150

set_option maxHeartbeats 4000000 in
set_option maxRecDepth 100000 in
theorem met_X3_kind (l : Launch) (D : va_G) (cA : Nat → ClassId) (ad : Nat → Nat) (S : Nat → Nat → Int32) (k0 : Int32) (w0 : Int32) : Met l yX3_kind (ws_ yX3_kind cX3_kind 3 (some .int)) (rmL 3 0 0) (mPre D cA ad S [.int k0, .int w0]) (vp_Si (fun r => r = tk_kindq (S 0) k0 w0)) 0 0 (fun _ => False) := by
  refine Met.ofW (cc := cX3_kind) (maxL := 3) (ret := (some .int)) (by decide) rfl ?_
  intro p e s m args below meth c s₁ Bd hml hv
  obtain ⟨rfl, hP, hK, hD⟩ := hv
  have hx := Bd.exec
  have hb := Bd.bytes
  have hr := Bd.returns
  have hts := atoms_spec (ws := (ws_ yX3_kind cX3_kind 3 (some .int))) Bd.pre
  have hts : ∀ w ∈ lw_all, w.before _ s = true := fun w h => hts w (List.mem_cons_of_mem _ h)
  have hown : s.vm.findClass RX3 = some m.cls := findClass_of_methodNamed Bd.named
  have hlocks := Bd.notSynchronized
  have hM : mSt D cA ad (mA ad) s.heap s.heap [] S := ⟨hP, hD, va_S.rf⟩
  have hl := lv_entry ([.ref (ad 7), .int k0, .int w0]) (n := 3) (Nat.le_of_ble_eq_true rfl)
  rw [lg_entry_eq]
  generalize (lg_sl ([.ref (ad 7), .int k0, .int w0]) ++ List.replicate (3 - (lg_sl ([.ref (ad 7), .int k0, .int w0])).length) Slot.unset).toArray = ls at hl ⊢
  have hl : lv_has ls 3 [(0, .ref (ad 7)), (1, .int k0), (2, .int w0)] := hl
  refine lv_iload_n hx hb dX3_kind_0 rfl (lv_at hl 1 rfl) ?_
  refine vp_callSi (W.runS (As := [.int k0]) (rest := []) ⟨hx, hb, hml, hown, hts⟩ (met_X3_isKind l k0) (va_cwS 1 hts (lw_S q1630 q1631 q71 q1632) rfl rfl rfl (by decide +kernel) ⟨Nat.le_of_ble_eq_true rfl, Nat.le_of_ble_eq_true rfl⟩) ⟨fun a U g mk q => q, fun U hU hW => ⟨rfl, trivial⟩⟩ rfl rfl hl.1 rfl (lv_room (Nat.le_of_ble_eq_true rfl)) dX3_kind_1 ⟨Nat.le_of_ble_eq_true rfl, Nat.le_of_ble_eq_true rfl⟩) (fun r_1 hr_1 => ?_)
  rcases hr_1 with ⟨er_hr_1, hr_1⟩ | ⟨er_hr_1, hr_1⟩
  · subst er_hr_1
    obtain ⟨kk, hkk, rfl⟩ := tk_k4 hr_1
    have nnk : (nI kk).toNatClampNeg = kk := nI_clamp (by omega)
    refine lv_if_eq (tgt := 29) hx hb dX3_kind_4 (by decide) (fun c_ => absurd c_ (by decide)) (fun _ => ?_)
    refine lv_iload_n hx hb dX3_kind_7 rfl (lv_at hl 2 rfl) ?_
    refine lv_iconst (v := 0) hx hb dX3_kind_8 (by decide) ?_
    refine lv_iconst (v := 1) hx hb dX3_kind_9 (by decide) ?_
    refine vp_callSi (W.runS (As := [.int w0, .int (0 : Int32), .int (1 : Int32)]) (rest := []) ⟨hx, hb, hml, hown, hts⟩ (met_X3_in l w0 (0 : Int32) (1 : Int32)) (va_cwS 3 hts (lw_S q1633 q1634 q71 q1635) rfl rfl rfl (by decide +kernel) ⟨Nat.le_of_ble_eq_true rfl, Nat.le_of_ble_eq_true rfl⟩) ⟨fun a U g mk q => q, fun U hU hW => ⟨rfl, trivial⟩⟩ rfl rfl hl.1 rfl (lv_room (Nat.le_of_ble_eq_true rfl)) dX3_kind_10 ⟨Nat.le_of_ble_eq_true rfl, Nat.le_of_ble_eq_true rfl⟩) (fun r_2 hr_2 => ?_)
    rcases hr_2 with ⟨er_hr_2, hr_2⟩ | ⟨er_hr_2, hr_2⟩
    · subst er_hr_2
      obtain ⟨w1, hw1, rfl⟩ := tk_inN (n := 1) (by decide) hr_2
      have nnw : (nI w1).toNatClampNeg = w1 := nI_clamp (by omega)
      refine lv_if_eq (tgt := 29) hx hb dX3_kind_13 (by decide) (fun c_ => absurd c_ (by decide)) (fun _ => ?_)
      refine lv_aload_n hx hb dX3_kind_16 rfl (lv_at hl 0 rfl) ?_
      refine m_get hx hb hts in_X3 hown hK hM 0 (by decide) (hts _ q1571) rfl dX3_kind_17 ?_
      refine lv_iconst (v := 4) hx hb dX3_kind_20 (by decide) ?_
      refine lv_iload_n hx hb dX3_kind_21 rfl (lv_at hl 2 rfl) ?_
      refine lv_imul hx hb dX3_kind_22 ?_
      refine lv_iload_n hx hb dX3_kind_23 rfl (lv_at hl 1 rfl) ?_
      refine lv_iadd hx hb dX3_kind_24 ?_
      refine m_iald hx hb hK hM 0 1 rfl ((4 * w1) + kk) (ixA (ixM rfl rfl) rfl) (by omega) (v := (S 0 ((4 * w1) + kk))) rfl dX3_kind_25 (by decide) ?_
      refine lv_goto (tgt := 31) hx hb dX3_kind_26 (by decide) ?_
      exact W.iret hx hb hr (fun t ht hW => ⟨_, rfl, (by simp [tk_kindq, hr_1, nnk, hr_2, nnw]), ht⟩) (fun _ h => absurd h List.not_mem_nil) dX3_kind_31
    · subst er_hr_2
      refine lv_if_eq (tgt := 29) hx hb dX3_kind_13 (by decide) (fun _ => ?_) (fun c_ => absurd (by decide) c_)
      refine lv_ldc (v := -100001) hx hb hown (hts _ q1636) dX3_kind_29 ?_
      exact W.iret hx hb hr (fun t ht hW => ⟨_, rfl, (by simp [tk_kindq, hr_1, nnk, hr_2]), ht⟩) (fun _ h => absurd h List.not_mem_nil) dX3_kind_31
  · subst er_hr_1
    refine lv_if_eq (tgt := 29) hx hb dX3_kind_4 (by decide) (fun _ => ?_) (fun c_ => absurd (by decide) c_)
    refine lv_ldc (v := -100001) hx hb hown (hts _ q1636) dX3_kind_29 ?_
    exact W.iret hx hb hr (fun t ht hW => ⟨_, rfl, (by simp [tk_kindq, hr_1]), ht⟩) (fun _ h => absurd h List.not_mem_nil) dX3_kind_31

set_option maxHeartbeats 4000000 in
set_option maxRecDepth 100000 in
theorem met_X3_customer (l : Launch) {B : Nat} (D : va_G) (cA : Nat → ClassId) (ad : Nat → Nat) (S : Nat → Nat → Int32) (c0 : Int32) (w0 : Int32) (hI : tk_ok B (S 0)) : Met l yX3_customer (ws_ yX3_customer cX3_customer 3 (some .int)) (rmL 3 0 0) (mPre D cA ad S [.int c0, .int w0]) (vp_Si (fun r => r = tk_custq (S 0) c0 w0)) 0 0 (fun _ => False) := by
  refine Met.ofW (cc := cX3_customer) (maxL := 3) (ret := (some .int)) (by decide) rfl ?_
  intro p e s m args below meth c s₁ Bd hml hv
  obtain ⟨rfl, hP, hK, hD⟩ := hv
  have hx := Bd.exec
  have hb := Bd.bytes
  have hr := Bd.returns
  have hts := atoms_spec (ws := (ws_ yX3_customer cX3_customer 3 (some .int))) Bd.pre
  have hts : ∀ w ∈ lw_all, w.before _ s = true := fun w h => hts w (List.mem_cons_of_mem _ h)
  have hown : s.vm.findClass RX3 = some m.cls := findClass_of_methodNamed Bd.named
  have hlocks := Bd.notSynchronized
  have hM : mSt D cA ad (mA ad) s.heap s.heap [] S := ⟨hP, hD, va_S.rf⟩
  have hl := lv_entry ([.ref (ad 7), .int c0, .int w0]) (n := 3) (Nat.le_of_ble_eq_true rfl)
  rw [lg_entry_eq]
  generalize (lg_sl ([.ref (ad 7), .int c0, .int w0]) ++ List.replicate (3 - (lg_sl ([.ref (ad 7), .int c0, .int w0])).length) Slot.unset).toArray = ls at hl ⊢
  have hl : lv_has ls 3 [(0, .ref (ad 7)), (1, .int c0), (2, .int w0)] := hl
  refine lv_aload_n hx hb dX3_customer_0 rfl (lv_at hl 0 rfl) ?_
  refine lv_iload_n hx hb dX3_customer_1 rfl (lv_at hl 1 rfl) ?_
  refine vp_callSi (W.runV (As := [.int c0]) (rest := []) ⟨hx, hb, hml, hown, hts⟩ (met_X3_isCustomer l D cA ad S c0) (cwV 1 hts (lw_V q1682 q1684 qs31 q71 q1685) rfl rfl rfl (by decide +kernel) ⟨Nat.le_of_ble_eq_true rfl, Nat.le_of_ble_eq_true rfl⟩) (mPreV hK hM) rfl rfl hl.1 rfl (lv_room (Nat.le_of_ble_eq_true rfl)) dX3_customer_2 ⟨Nat.le_of_ble_eq_true rfl, Nat.le_of_ble_eq_true rfl⟩) (fun r_1 hr_1 => ?_)
  rcases hr_1 with ⟨er_hr_1, hr_1⟩ | ⟨er_hr_1, hr_1⟩
  · subst er_hr_1
    obtain ⟨j0, hj0, hlj0, rfl⟩ := ok_cus hI hr_1
    have nnj0 : (nI j0).toNatClampNeg = j0 := nI_clamp (by omega)
    refine lv_if_eq (tgt := 17) hx hb dX3_customer_5 (by decide) (fun c_ => absurd c_ (by decide)) (fun _ => ?_)
    refine lv_iload_n hx hb dX3_customer_8 rfl (lv_at hl 2 rfl) ?_
    refine lv_iconst (v := 0) hx hb dX3_customer_9 (by decide) ?_
    refine lv_iconst (v := 4) hx hb dX3_customer_10 (by decide) ?_
    refine vp_callSi (W.runS (As := [.int w0, .int (0 : Int32), .int (4 : Int32)]) (rest := []) ⟨hx, hb, hml, hown, hts⟩ (met_X3_in l w0 (0 : Int32) (4 : Int32)) (va_cwS 3 hts (lw_S q1633 q1634 q71 q1635) rfl rfl rfl (by decide +kernel) ⟨Nat.le_of_ble_eq_true rfl, Nat.le_of_ble_eq_true rfl⟩) ⟨fun a U g mk q => q, fun U hU hW => ⟨rfl, trivial⟩⟩ rfl rfl hl.1 rfl (lv_room (Nat.le_of_ble_eq_true rfl)) dX3_customer_11 ⟨Nat.le_of_ble_eq_true rfl, Nat.le_of_ble_eq_true rfl⟩) (fun r_2 hr_2 => ?_)
    rcases hr_2 with ⟨er_hr_2, hr_2⟩ | ⟨er_hr_2, hr_2⟩
    · subst er_hr_2
      obtain ⟨w1, hw1, rfl⟩ := tk_inN (n := 4) (by decide) hr_2
      have nnw : (nI w1).toNatClampNeg = w1 := nI_clamp (by omega)
      refine lv_if_ne (tgt := 20) hx hb dX3_customer_14 (by decide) (fun _ => ?_) (fun c_ => absurd c_ (by decide))
      refine lv_iload_n hx hb dX3_customer_20 rfl (lv_at hl 2 rfl) ?_
      refine lv_if_ne (tgt := 33) hx hb dX3_customer_21 (by decide) (fun c21_b_3 => ?_) (fun c21_b_3 => ?_)
      · skip
        have nc21_b_3 := neqF (a := w1) (b := 0) rfl rfl (by omega) (by omega) c21_b_3
        refine lv_aload_n hx hb dX3_customer_33 rfl (lv_at hl 0 rfl) ?_
        refine lv_iload_n hx hb dX3_customer_34 rfl (lv_at hl 1 rfl) ?_
        refine lv_iconst (v := 1) hx hb dX3_customer_35 (by decide) ?_
        refine vp_callSi (W.runV (As := [.int (nI j0), .int (nI 1)]) (rest := []) ⟨hx, hb, hml, hown, hts⟩ (met_X3_of l D cA ad S j0 1 (by first | assumption | omega | decide)) (cwV 2 hts (lw_V q1686 q1688 qs32 q71 q1689) rfl rfl rfl (by decide +kernel) ⟨Nat.le_of_ble_eq_true rfl, Nat.le_of_ble_eq_true rfl⟩) (mPreV hK hM) rfl rfl hl.1 rfl (lv_room (Nat.le_of_ble_eq_true rfl)) dX3_customer_36 ⟨Nat.le_of_ble_eq_true rfl, Nat.le_of_ble_eq_true rfl⟩) (fun r_4 hr_4 => ?_)
        subst hr_4
        refine lv_if_ne (tgt := 47) hx hb dX3_customer_39 (by decide) (fun c39_b_5 => ?_) (fun c39_b_5 => ?_)
        · skip
          refine lv_aload_n hx hb dX3_customer_47 rfl (lv_at hl 0 rfl) ?_
          refine lv_iload_n hx hb dX3_customer_48 rfl (lv_at hl 1 rfl) ?_
          refine lv_iload_n hx hb dX3_customer_49 rfl (lv_at hl 2 rfl) ?_
          refine lv_iconst (v := 1) hx hb dX3_customer_50 (by decide) ?_
          refine lv_iadd hx hb dX3_customer_51 ?_
          rw [show ((nI w1) + (1 : Int32)) = nI (w1 + 1) from (ixA rfl rfl)]
          refine vp_callSi (W.runV (As := [.int (nI j0), .int (nI (w1 + 1))]) (rest := []) ⟨hx, hb, hml, hown, hts⟩ (met_X3_of l D cA ad S j0 (w1 + 1) (by first | assumption | omega | decide)) (cwV 2 hts (lw_V q1686 q1688 qs32 q71 q1689) rfl rfl rfl (by decide +kernel) ⟨Nat.le_of_ble_eq_true rfl, Nat.le_of_ble_eq_true rfl⟩) (mPreV hK hM) rfl rfl hl.1 rfl (lv_room (Nat.le_of_ble_eq_true rfl)) dX3_customer_52 ⟨Nat.le_of_ble_eq_true rfl, Nat.le_of_ble_eq_true rfl⟩) (fun r_6 hr_6 => ?_)
          subst hr_6
          exact W.iret hx hb hr (fun t ht hW => ⟨_, rfl, (by simp [tk_custq, ti1, hr_1, nnj0, hr_2, nnw, c21_b_3, c39_b_5]), ht⟩) (fun _ h => absurd h List.not_mem_nil) dX3_customer_55
        · skip
          refine lv_ldc (v := -100009) hx hb hown (hts _ q1722) dX3_customer_42 ?_
          refine lv_goto (tgt := 55) hx hb dX3_customer_44 (by decide) ?_
          exact W.iret hx hb hr (fun t ht hW => ⟨_, rfl, (by simp [tk_custq, ti1, hr_1, nnj0, hr_2, nnw, c21_b_3, c39_b_5]), ht⟩) (fun _ h => absurd h List.not_mem_nil) dX3_customer_55
      · skip
        have nc21_b_3 := neqT (a := w1) (b := 0) rfl rfl (by omega) (by omega) c21_b_3
        refine lv_aload_n hx hb dX3_customer_24 rfl (lv_at hl 0 rfl) ?_
        refine lv_iload_n hx hb dX3_customer_25 rfl (lv_at hl 1 rfl) ?_
        refine lv_iconst (v := 0) hx hb dX3_customer_26 (by decide) ?_
        refine vp_callSi (W.runV (As := [.int (nI j0), .int (nI 0)]) (rest := []) ⟨hx, hb, hml, hown, hts⟩ (met_X3_of l D cA ad S j0 0 (by first | assumption | omega | decide)) (cwV 2 hts (lw_V q1686 q1688 qs32 q71 q1689) rfl rfl rfl (by decide +kernel) ⟨Nat.le_of_ble_eq_true rfl, Nat.le_of_ble_eq_true rfl⟩) (mPreV hK hM) rfl rfl hl.1 rfl (lv_room (Nat.le_of_ble_eq_true rfl)) dX3_customer_27 ⟨Nat.le_of_ble_eq_true rfl, Nat.le_of_ble_eq_true rfl⟩) (fun r_7 hr_7 => ?_)
        subst hr_7
        rw [show S 0 (16 + 6 * j0 + 0) = (S 0 (16 + 6 * j0)) from (show S 0 (16 + 6 * j0) = (S 0 (16 + 6 * j0)) from rfl)]
        refine lv_goto (tgt := 55) hx hb dX3_customer_30 (by decide) ?_
        exact W.iret hx hb hr (fun t ht hW => ⟨_, rfl, (by simp [tk_custq, ti1, hr_1, nnj0, hr_2, nnw, c21_b_3]), ht⟩) (fun _ h => absurd h List.not_mem_nil) dX3_customer_55
    · subst er_hr_2
      refine lv_if_ne (tgt := 20) hx hb dX3_customer_14 (by decide) (fun c_ => absurd (by decide) c_) (fun _ => ?_)
      refine lv_ldc (v := -100001) hx hb hown (hts _ q1636) dX3_customer_17 ?_
      exact W.iret hx hb hr (fun t ht hW => ⟨_, rfl, (by simp [tk_custq, ti1, hr_1, nnj0, hr_2]), ht⟩) (fun _ h => absurd h List.not_mem_nil) dX3_customer_19
  · subst er_hr_1
    refine lv_if_eq (tgt := 17) hx hb dX3_customer_5 (by decide) (fun _ => ?_) (fun c_ => absurd (by decide) c_)
    refine lv_ldc (v := -100001) hx hb hown (hts _ q1636) dX3_customer_17 ?_
    exact W.iret hx hb hr (fun t ht hW => ⟨_, rfl, (by simp [tk_custq, ti1, hr_1]), ht⟩) (fun _ h => absurd h List.not_mem_nil) dX3_customer_19

set_option maxHeartbeats 4000000 in
set_option maxRecDepth 100000 in
theorem met_X3_prize (l : Launch) {B : Nat} (D : va_G) (cA : Nat → ClassId) (ad : Nat → Nat) (S : Nat → Nat → Int32) (c0 : Int32) (w0 : Int32) (hI : tk_ok B (S 0)) : Met l yX3_prize (ws_ yX3_prize cX3_prize 3 (some .int)) (rmL 3 0 0) (mPre D cA ad S [.int c0, .int w0]) (vp_Si (fun r => r = tk_prizq (S 0) c0 w0)) 0 0 (fun _ => False) := by
  refine Met.ofW (cc := cX3_prize) (maxL := 3) (ret := (some .int)) (by decide) rfl ?_
  intro p e s m args below meth c s₁ Bd hml hv
  obtain ⟨rfl, hP, hK, hD⟩ := hv
  have hx := Bd.exec
  have hb := Bd.bytes
  have hr := Bd.returns
  have hts := atoms_spec (ws := (ws_ yX3_prize cX3_prize 3 (some .int))) Bd.pre
  have hts : ∀ w ∈ lw_all, w.before _ s = true := fun w h => hts w (List.mem_cons_of_mem _ h)
  have hown : s.vm.findClass RX3 = some m.cls := findClass_of_methodNamed Bd.named
  have hlocks := Bd.notSynchronized
  have hM : mSt D cA ad (mA ad) s.heap s.heap [] S := ⟨hP, hD, va_S.rf⟩
  have hl := lv_entry ([.ref (ad 7), .int c0, .int w0]) (n := 3) (Nat.le_of_ble_eq_true rfl)
  rw [lg_entry_eq]
  generalize (lg_sl ([.ref (ad 7), .int c0, .int w0]) ++ List.replicate (3 - (lg_sl ([.ref (ad 7), .int c0, .int w0])).length) Slot.unset).toArray = ls at hl ⊢
  have hl : lv_has ls 3 [(0, .ref (ad 7)), (1, .int c0), (2, .int w0)] := hl
  refine lv_aload_n hx hb dX3_prize_0 rfl (lv_at hl 0 rfl) ?_
  refine lv_iload_n hx hb dX3_prize_1 rfl (lv_at hl 1 rfl) ?_
  refine vp_callSi (W.runV (As := [.int c0]) (rest := []) ⟨hx, hb, hml, hown, hts⟩ (met_X3_isPrize l D cA ad S c0) (cwV 1 hts (lw_V q1748 q1750 qs41 q71 q1751) rfl rfl rfl (by decide +kernel) ⟨Nat.le_of_ble_eq_true rfl, Nat.le_of_ble_eq_true rfl⟩) (mPreV hK hM) rfl rfl hl.1 rfl (lv_room (Nat.le_of_ble_eq_true rfl)) dX3_prize_2 ⟨Nat.le_of_ble_eq_true rfl, Nat.le_of_ble_eq_true rfl⟩) (fun r_1 hr_1 => ?_)
  rcases hr_1 with ⟨er_hr_1, hr_1⟩ | ⟨er_hr_1, hr_1⟩
  · subst er_hr_1
    obtain ⟨q0, hq0, hlq0, rfl⟩ := ok_pri hI hr_1
    have nnq0 : (nI q0).toNatClampNeg = q0 := nI_clamp (by omega)
    refine lv_if_eq (tgt := 27) hx hb dX3_prize_5 (by decide) (fun c_ => absurd c_ (by decide)) (fun _ => ?_)
    refine lv_iload_n hx hb dX3_prize_8 rfl (lv_at hl 2 rfl) ?_
    refine lv_iconst (v := 0) hx hb dX3_prize_9 (by decide) ?_
    refine lv_bipush (v := 6) hx hb dX3_prize_10 (by decide) ?_
    refine vp_callSi (W.runS (As := [.int w0, .int (0 : Int32), .int (6 : Int32)]) (rest := []) ⟨hx, hb, hml, hown, hts⟩ (met_X3_in l w0 (0 : Int32) (6 : Int32)) (va_cwS 3 hts (lw_S q1633 q1634 q71 q1635) rfl rfl rfl (by decide +kernel) ⟨Nat.le_of_ble_eq_true rfl, Nat.le_of_ble_eq_true rfl⟩) ⟨fun a U g mk q => q, fun U hU hW => ⟨rfl, trivial⟩⟩ rfl rfl hl.1 rfl (lv_room (Nat.le_of_ble_eq_true rfl)) dX3_prize_12 ⟨Nat.le_of_ble_eq_true rfl, Nat.le_of_ble_eq_true rfl⟩) (fun r_2 hr_2 => ?_)
    rcases hr_2 with ⟨er_hr_2, hr_2⟩ | ⟨er_hr_2, hr_2⟩
    · subst er_hr_2
      obtain ⟨w1, hw1, rfl⟩ := tk_inN (n := 6) (by decide) hr_2
      have nnw : (nI w1).toNatClampNeg = w1 := nI_clamp (by omega)
      refine lv_if_eq (tgt := 27) hx hb dX3_prize_15 (by decide) (fun c_ => absurd c_ (by decide)) (fun _ => ?_)
      refine lv_aload_n hx hb dX3_prize_18 rfl (lv_at hl 0 rfl) ?_
      refine lv_iload_n hx hb dX3_prize_19 rfl (lv_at hl 1 rfl) ?_
      refine lv_iload_n hx hb dX3_prize_20 rfl (lv_at hl 2 rfl) ?_
      refine vp_callSi (W.runV (As := [.int (nI q0), .int (nI w1)]) (rest := []) ⟨hx, hb, hml, hown, hts⟩ (met_X3_priced l D cA ad S q0 w1 (by first | assumption | omega | decide)) (cwV 2 hts (lw_V q1752 q1754 qs42 q71 q1755) rfl rfl rfl (by decide +kernel) ⟨Nat.le_of_ble_eq_true rfl, Nat.le_of_ble_eq_true rfl⟩) (mPreV hK hM) rfl rfl hl.1 rfl (lv_room (Nat.le_of_ble_eq_true rfl)) dX3_prize_21 ⟨Nat.le_of_ble_eq_true rfl, Nat.le_of_ble_eq_true rfl⟩) (fun r_3 hr_3 => ?_)
      subst hr_3
      refine lv_goto (tgt := 29) hx hb dX3_prize_24 (by decide) ?_
      exact W.iret hx hb hr (fun t ht hW => ⟨_, rfl, (by simp [tk_prizq, hr_1, nnq0, hr_2, nnw]), ht⟩) (fun _ h => absurd h List.not_mem_nil) dX3_prize_29
    · subst er_hr_2
      refine lv_if_eq (tgt := 27) hx hb dX3_prize_15 (by decide) (fun _ => ?_) (fun c_ => absurd (by decide) c_)
      refine lv_ldc (v := -100001) hx hb hown (hts _ q1636) dX3_prize_27 ?_
      exact W.iret hx hb hr (fun t ht hW => ⟨_, rfl, (by simp [tk_prizq, hr_1, nnq0, hr_2]), ht⟩) (fun _ h => absurd h List.not_mem_nil) dX3_prize_29
  · subst er_hr_1
    refine lv_if_eq (tgt := 27) hx hb dX3_prize_5 (by decide) (fun _ => ?_) (fun c_ => absurd (by decide) c_)
    refine lv_ldc (v := -100001) hx hb hown (hts _ q1636) dX3_prize_27 ?_
    exact W.iret hx hb hr (fun t ht hW => ⟨_, rfl, (by simp [tk_prizq, hr_1]), ht⟩) (fun _ h => absurd h List.not_mem_nil) dX3_prize_29

set_option maxHeartbeats 4000000 in
set_option maxRecDepth 100000 in
theorem met_X3_read (l : Launch) {B : Nat} (D : va_G) (cA : Nat → ClassId) (ad : Nat → Nat) (S : Nat → Nat → Int32) (x0 : Int32) (hI : tk_ok B (S 0)) : Met l yX3_read (ws_ yX3_read cX3_read 2 (some .int)) (rmL 3 0 0) (mPre D cA ad S [.int x0]) (vp_Si (fun r => r = tk_readq (S 0) x0)) 0 0 (fun _ => False) := by
  refine Met.ofW (cc := cX3_read) (maxL := 2) (ret := (some .int)) (by decide) rfl ?_
  intro p e s m args below meth c s₁ Bd hml hv
  obtain ⟨rfl, hP, hK, hD⟩ := hv
  have hx := Bd.exec
  have hb := Bd.bytes
  have hr := Bd.returns
  have hts := atoms_spec (ws := (ws_ yX3_read cX3_read 2 (some .int))) Bd.pre
  have hts : ∀ w ∈ lw_all, w.before _ s = true := fun w h => hts w (List.mem_cons_of_mem _ h)
  have hown : s.vm.findClass RX3 = some m.cls := findClass_of_methodNamed Bd.named
  have hlocks := Bd.notSynchronized
  have hM : mSt D cA ad (mA ad) s.heap s.heap [] S := ⟨hP, hD, va_S.rf⟩
  have hl := lv_entry ([.ref (ad 7), .int x0]) (n := 2) (Nat.le_of_ble_eq_true rfl)
  rw [lg_entry_eq]
  generalize (lg_sl ([.ref (ad 7), .int x0]) ++ List.replicate (2 - (lg_sl ([.ref (ad 7), .int x0])).length) Slot.unset).toArray = ls at hl ⊢
  have hl : lv_has ls 2 [(0, .ref (ad 7)), (1, .int x0)] := hl
  refine lv_iload_n hx hb dX3_read_0 rfl (lv_at hl 1 rfl) ?_
  refine lv_sipush (v := -5000) hx hb dX3_read_1 (by decide) ?_
  refine lv_ldc (v := 3000000) hx hb hown (hts _ q1867) dX3_read_4 ?_
  refine vp_callSi (W.runS (As := [.int x0, .int (-5000 : Int32), .int (3000000 : Int32)]) (rest := []) ⟨hx, hb, hml, hown, hts⟩ (met_X3_in l x0 (-5000 : Int32) (3000000 : Int32)) (va_cwS 3 hts (lw_S q1633 q1634 q71 q1635) rfl rfl rfl (by decide +kernel) ⟨Nat.le_of_ble_eq_true rfl, Nat.le_of_ble_eq_true rfl⟩) ⟨fun a U g mk q => q, fun U hU hW => ⟨rfl, trivial⟩⟩ rfl rfl hl.1 rfl (lv_room (Nat.le_of_ble_eq_true rfl)) dX3_read_6 ⟨Nat.le_of_ble_eq_true rfl, Nat.le_of_ble_eq_true rfl⟩) (fun r_1 hr_1 => ?_)
  rcases hr_1 with ⟨er_hr_1, hr_1⟩ | ⟨er_hr_1, hr_1⟩
  · subst er_hr_1
    refine lv_if_eq (tgt := 27) hx hb dX3_read_9 (by decide) (fun c_ => absurd c_ (by decide)) (fun _ => ?_)
    refine lv_aload_n hx hb dX3_read_12 rfl (lv_at hl 0 rfl) ?_
    refine lv_iload_n hx hb dX3_read_13 rfl (lv_at hl 1 rfl) ?_
    refine lv_aload_n hx hb dX3_read_14 rfl (lv_at hl 0 rfl) ?_
    refine m_get hx hb hts in_X3 hown hK hM 0 (by decide) (hts _ q1571) rfl dX3_read_15 ?_
    refine lv_bipush (v := 8) hx hb dX3_read_18 (by decide) ?_
    refine m_iald hx hb hK hM 0 1 rfl 8 rfl (by omega) (v := (S 0 8)) rfl dX3_read_20 (by decide) ?_
    refine vp_callSi (W.runV (As := [.int x0, .int (S 0 8)]) (rest := []) ⟨hx, hb, hml, hown, hts⟩ (met_X3_readsBy l D cA ad S x0 (S 0 8) (ok_step2 hI)) (cwV 2 hts (lw_V q1698 q1700 qs34 q71 q1701) rfl rfl rfl (by decide +kernel) ⟨Nat.le_of_ble_eq_true rfl, Nat.le_of_ble_eq_true rfl⟩) (mPreV hK hM) rfl rfl hl.1 rfl (lv_room (Nat.le_of_ble_eq_true rfl)) dX3_read_21 ⟨Nat.le_of_ble_eq_true rfl, Nat.le_of_ble_eq_true rfl⟩) (fun r_2 hr_2 => ?_)
    subst hr_2
    refine lv_goto (tgt := 29) hx hb dX3_read_24 (by decide) ?_
    exact W.iret hx hb hr (fun t ht hW => ⟨_, rfl, (by simp [tk_readq, hr_1]), ht⟩) (fun _ h => absurd h List.not_mem_nil) dX3_read_29
  · subst er_hr_1
    refine lv_if_eq (tgt := 27) hx hb dX3_read_9 (by decide) (fun _ => ?_) (fun c_ => absurd (by decide) c_)
    refine lv_ldc (v := -100001) hx hb hown (hts _ q1636) dX3_read_27 ?_
    exact W.iret hx hb hr (fun t ht hW => ⟨_, rfl, (by simp [tk_readq, hr_1]), ht⟩) (fun _ h => absurd h List.not_mem_nil) dX3_read_29

set_option maxHeartbeats 4000000 in
set_option maxRecDepth 100000 in
theorem met_X3_allowed (l : Launch) {B : Nat} (D : va_G) (cA : Nat → ClassId) (ad : Nat → Nat) (S : Nat → Nat → Int32) (x0 : Int32) (k0 : Int32) (w0 : Int32) (hI : tk_ok B (S 0)) : Met l yX3_allowed (ws_ yX3_allowed cX3_allowed 4 (some .int)) (rmL 4 0 0) (mPre D cA ad S [.int x0, .int k0, .int w0]) (va_Qi (fun (r : Int32) (S' : Nat → Nat → Int32) => r = tk_allq (S 0) x0 k0 w0 ∧ tk_sm S S' (S 0)) (mEnd D cA ad) (mA ad)) 0 0 (mA ad) := by
  refine Met.ofW (cc := cX3_allowed) (maxL := 4) (ret := (some .int)) (by decide) rfl ?_
  intro p e s m args below meth c s₁ Bd hml hv
  obtain ⟨rfl, hP, hK, hD⟩ := hv
  have hx := Bd.exec
  have hb := Bd.bytes
  have hr := Bd.returns
  have hts := atoms_spec (ws := (ws_ yX3_allowed cX3_allowed 4 (some .int))) Bd.pre
  have hts : ∀ w ∈ lw_all, w.before _ s = true := fun w h => hts w (List.mem_cons_of_mem _ h)
  have hown : s.vm.findClass RX3 = some m.cls := findClass_of_methodNamed Bd.named
  have hlocks := Bd.notSynchronized
  have hM : mSt D cA ad (mA ad) s.heap s.heap [] S := ⟨hP, hD, va_S.rf⟩
  have hl := lv_entry ([.ref (ad 7), .int x0, .int k0, .int w0]) (n := 4) (Nat.le_of_ble_eq_true rfl)
  rw [lg_entry_eq]
  generalize (lg_sl ([.ref (ad 7), .int x0, .int k0, .int w0]) ++ List.replicate (4 - (lg_sl ([.ref (ad 7), .int x0, .int k0, .int w0])).length) Slot.unset).toArray = ls at hl ⊢
  have hl : lv_has ls 4 [(0, .ref (ad 7)), (1, .int x0), (2, .int k0), (3, .int w0)] := hl
  refine lv_iload_n hx hb dX3_allowed_0 rfl (lv_at hl 1 rfl) ?_
  refine lv_iconst (v := 0) hx hb dX3_allowed_1 (by decide) ?_
  refine lv_ldc (v := 3000000) hx hb hown (hts _ q1867) dX3_allowed_2 ?_
  refine vp_callSi (W.runS (As := [.int x0, .int (0 : Int32), .int (3000000 : Int32)]) (rest := []) ⟨hx, hb, hml, hown, hts⟩ (met_X3_in l x0 (0 : Int32) (3000000 : Int32)) (va_cwS 3 hts (lw_S q1633 q1634 q71 q1635) rfl rfl rfl (by decide +kernel) ⟨Nat.le_of_ble_eq_true rfl, Nat.le_of_ble_eq_true rfl⟩) ⟨fun a U g mk q => q, fun U hU hW => ⟨rfl, trivial⟩⟩ rfl rfl hl.1 rfl (lv_room (Nat.le_of_ble_eq_true rfl)) dX3_allowed_4 ⟨Nat.le_of_ble_eq_true rfl, Nat.le_of_ble_eq_true rfl⟩) (fun r_1 hr_1 => ?_)
  rcases hr_1 with ⟨er_hr_1, hr_1⟩ | ⟨er_hr_1, hr_1⟩
  · subst er_hr_1
    refine lv_if_eq (tgt := 26) hx hb dX3_allowed_7 (by decide) (fun c_ => absurd c_ (by decide)) (fun _ => ?_)
    refine lv_iload_n hx hb dX3_allowed_10 rfl (lv_at hl 2 rfl) ?_
    refine vp_callSi (W.runS (As := [.int k0]) (rest := []) ⟨hx, hb, hml, hown, hts⟩ (met_X3_isKind l k0) (va_cwS 1 hts (lw_S q1630 q1631 q71 q1632) rfl rfl rfl (by decide +kernel) ⟨Nat.le_of_ble_eq_true rfl, Nat.le_of_ble_eq_true rfl⟩) ⟨fun a U g mk q => q, fun U hU hW => ⟨rfl, trivial⟩⟩ rfl rfl hl.1 rfl (lv_room (Nat.le_of_ble_eq_true rfl)) dX3_allowed_11 ⟨Nat.le_of_ble_eq_true rfl, Nat.le_of_ble_eq_true rfl⟩) (fun r_2 hr_2 => ?_)
    rcases hr_2 with ⟨er_hr_2, hr_2⟩ | ⟨er_hr_2, hr_2⟩
    · subst er_hr_2
      obtain ⟨kk, hkk, rfl⟩ := tk_k4 hr_2
      have nnk : (nI kk).toNatClampNeg = kk := nI_clamp (by omega)
      refine lv_if_eq (tgt := 26) hx hb dX3_allowed_14 (by decide) (fun c_ => absurd c_ (by decide)) (fun _ => ?_)
      refine lv_iload_n hx hb dX3_allowed_17 rfl (lv_at hl 3 rfl) ?_
      refine lv_iconst (v := 0) hx hb dX3_allowed_18 (by decide) ?_
      refine lv_iconst (v := 2) hx hb dX3_allowed_19 (by decide) ?_
      refine vp_callSi (W.runS (As := [.int w0, .int (0 : Int32), .int (2 : Int32)]) (rest := []) ⟨hx, hb, hml, hown, hts⟩ (met_X3_in l w0 (0 : Int32) (2 : Int32)) (va_cwS 3 hts (lw_S q1633 q1634 q71 q1635) rfl rfl rfl (by decide +kernel) ⟨Nat.le_of_ble_eq_true rfl, Nat.le_of_ble_eq_true rfl⟩) ⟨fun a U g mk q => q, fun U hU hW => ⟨rfl, trivial⟩⟩ rfl rfl hl.1 rfl (lv_room (Nat.le_of_ble_eq_true rfl)) dX3_allowed_20 ⟨Nat.le_of_ble_eq_true rfl, Nat.le_of_ble_eq_true rfl⟩) (fun r_3 hr_3 => ?_)
      rcases hr_3 with ⟨er_hr_3, hr_3⟩ | ⟨er_hr_3, hr_3⟩
      · subst er_hr_3
        refine lv_if_ne (tgt := 29) hx hb dX3_allowed_23 (by decide) (fun _ => ?_) (fun c_ => absurd c_ (by decide))
        refine lv_aload_n hx hb dX3_allowed_29 rfl (lv_at hl 0 rfl) ?_
        refine lv_iload_n hx hb dX3_allowed_30 rfl (lv_at hl 1 rfl) ?_
        refine lv_iload_n hx hb dX3_allowed_31 rfl (lv_at hl 2 rfl) ?_
        refine va_calli (va_runV (As := [.int x0, .int (nI kk)]) (rest := []) ⟨hx, hb, hml, hown, hts⟩ (met_X3_allows l D cA ad S x0 kk hI hkk) (cwV 2 hts (lw_V q1709 q1711 qs36 q71 q1712) rfl rfl rfl (by decide +kernel) ⟨Nat.le_of_ble_eq_true rfl, Nat.le_of_ble_eq_true rfl⟩) (mPreV hK hM) rfl rfl hl.1 rfl (lv_room (Nat.le_of_ble_eq_true rfl)) dX3_allowed_32 ⟨Nat.le_of_ble_eq_true rfl, Nat.le_of_ble_eq_true rfl⟩) hM.2.2 (fun _ _ h => h) (fun _ h => h) (fun r_4 S_5 t H1 locs ht hvm hr_4 hB hz hk hS => ?_)
        have hM : mSt D cA ad (mA ad) s.heap H1 locs S_5 := ⟨by rw [← ht]; exact hB.1, hB.2, hS⟩
        clear hB ht; generalize H1 = H at hM ⊢; clear hz hk hS
        refine W.widen (k := 0) (n := 0) (Nat.le_refl 0) (Nat.le_refl 0) ?_
        obtain ⟨hr_4, hr_4S⟩ := hr_4
        rcases hr_4 with ⟨er_hr_4, hr_4⟩ | ⟨er_hr_4, hr_4⟩
        · subst er_hr_4
          have g6 : S_5 7 6 = tk_le (S 0) x0 kk := by rw [hr_4S]; exact tk_alS_6 hr_4
          have g7 : S_5 7 7 = tk_gr (S 0) x0 kk := by rw [hr_4S]; exact tk_alS_g hr_4
          refine lv_if_ne (tgt := 50) hx hb dX3_allowed_35 (by decide) (fun _ => ?_) (fun c_ => absurd c_ (by decide))
          refine lv_iload_n hx hb dX3_allowed_50 rfl (lv_at hl 3 rfl) ?_
          refine lv_if_ne (tgt := 61) hx hb dX3_allowed_51 (by decide) (fun c51_b_6 => ?_) (fun c51_b_6 => ?_)
          · skip
            refine lv_iload_n hx hb dX3_allowed_61 rfl (lv_at hl 3 rfl) ?_
            refine lv_iconst (v := 1) hx hb dX3_allowed_62 (by decide) ?_
            refine lv_icmp_ne (tgt := 73) hx hb dX3_allowed_63 (by decide) (fun c63_b_7 => ?_) (fun c63_b_7 => ?_)
            · skip
              refine lv_aload_n hx hb dX3_allowed_73 rfl (lv_at hl 0 rfl) ?_
              refine m_get hx hb hts in_X3 hown hK hM 14 (by decide) (hts _ q1585) (v := .int (tk_gr (S 0) x0 kk)) (m_fld rfl (by rw [g7])) dX3_allowed_74 ?_
              refine lv_aload_n hx hb dX3_allowed_77 rfl (lv_at hl 0 rfl) ?_
              refine m_get hx hb hts in_X3 hown hK hM 13 (by decide) (hts _ q1584) (v := .int (tk_le (S 0) x0 kk)) (m_fld rfl (by rw [g6])) dX3_allowed_78 ?_
              refine lv_isub hx hb dX3_allowed_81 ?_
              refine lv_iconst (v := 1) hx hb dX3_allowed_82 (by decide) ?_
              refine lv_iadd hx hb dX3_allowed_83 ?_
              exact W.iret hx hb hr (fun t ht hW => ⟨⟨_, S_5, rfl, (by subst hr_4S; exact ⟨by simp [tk_allq, ti1, hr_1, hr_2, nnk, hr_3, hr_4, c51_b_6, c63_b_7], tk_smS⟩), by rw [ht]; exact hM.1, hM.2.1⟩, hM.2.2.F ht⟩) hM.2.2.2.2 dX3_allowed_84
            · skip
              refine lv_aload_n hx hb dX3_allowed_66 rfl (lv_at hl 0 rfl) ?_
              refine m_get hx hb hts in_X3 hown hK hM 14 (by decide) (hts _ q1585) (v := .int (tk_gr (S 0) x0 kk)) (m_fld rfl (by rw [g7])) dX3_allowed_67 ?_
              refine lv_goto (tgt := 84) hx hb dX3_allowed_70 (by decide) ?_
              exact W.iret hx hb hr (fun t ht hW => ⟨⟨_, S_5, rfl, (by subst hr_4S; exact ⟨by simp [tk_allq, ti1, hr_1, hr_2, nnk, hr_3, hr_4, c51_b_6, c63_b_7], tk_smS⟩), by rw [ht]; exact hM.1, hM.2.1⟩, hM.2.2.F ht⟩) hM.2.2.2.2 dX3_allowed_84
          · skip
            refine lv_aload_n hx hb dX3_allowed_54 rfl (lv_at hl 0 rfl) ?_
            refine m_get hx hb hts in_X3 hown hK hM 13 (by decide) (hts _ q1584) (v := .int (tk_le (S 0) x0 kk)) (m_fld rfl (by rw [g6])) dX3_allowed_55 ?_
            refine lv_goto (tgt := 84) hx hb dX3_allowed_58 (by decide) ?_
            exact W.iret hx hb hr (fun t ht hW => ⟨⟨_, S_5, rfl, (by subst hr_4S; exact ⟨by simp [tk_allq, ti1, hr_1, hr_2, nnk, hr_3, hr_4, c51_b_6], tk_smS⟩), by rw [ht]; exact hM.1, hM.2.1⟩, hM.2.2.F ht⟩) hM.2.2.2.2 dX3_allowed_84
        · subst er_hr_4
          refine lv_if_ne (tgt := 50) hx hb dX3_allowed_35 (by decide) (fun c_ => absurd (by decide) c_) (fun _ => ?_)
          refine lv_iload_n hx hb dX3_allowed_38 rfl (lv_at hl 3 rfl) ?_
          refine lv_iconst (v := 2) hx hb dX3_allowed_39 (by decide) ?_
          refine lv_icmp_ne (tgt := 47) hx hb dX3_allowed_40 (by decide) (fun c40_b_8 => ?_) (fun c40_b_8 => ?_)
          · skip
            refine lv_ldc (v := -100009) hx hb hown (hts _ q1722) dX3_allowed_47 ?_
            exact W.iret hx hb hr (fun t ht hW => ⟨⟨_, S_5, rfl, (by subst hr_4S; exact ⟨by simp [tk_allq, ti1, hr_1, hr_2, nnk, hr_3, hr_4, c40_b_8], tk_smS⟩), by rw [ht]; exact hM.1, hM.2.1⟩, hM.2.2.F ht⟩) hM.2.2.2.2 dX3_allowed_49
          · skip
            refine lv_iconst (v := 0) hx hb dX3_allowed_43 (by decide) ?_
            refine lv_goto (tgt := 49) hx hb dX3_allowed_44 (by decide) ?_
            exact W.iret hx hb hr (fun t ht hW => ⟨⟨_, S_5, rfl, (by subst hr_4S; exact ⟨by simp [tk_allq, ti1, hr_1, hr_2, nnk, hr_3, hr_4, c40_b_8], tk_smS⟩), by rw [ht]; exact hM.1, hM.2.1⟩, hM.2.2.F ht⟩) hM.2.2.2.2 dX3_allowed_49
      · subst er_hr_3
        refine lv_if_ne (tgt := 29) hx hb dX3_allowed_23 (by decide) (fun c_ => absurd (by decide) c_) (fun _ => ?_)
        refine lv_ldc (v := -100001) hx hb hown (hts _ q1636) dX3_allowed_26 ?_
        exact W.iret hx hb hr (fun t ht hW => ⟨⟨_, S, rfl, (by exact ⟨by simp [tk_allq, ti1, hr_1, hr_2, nnk, hr_3], tk_smR rfl⟩), by rw [ht]; exact hM.1, hM.2.1⟩, hM.2.2.F ht⟩) hM.2.2.2.2 dX3_allowed_28
    · subst er_hr_2
      refine lv_if_eq (tgt := 26) hx hb dX3_allowed_14 (by decide) (fun _ => ?_) (fun c_ => absurd (by decide) c_)
      refine lv_ldc (v := -100001) hx hb hown (hts _ q1636) dX3_allowed_26 ?_
      exact W.iret hx hb hr (fun t ht hW => ⟨⟨_, S, rfl, (by exact ⟨by simp [tk_allq, ti1, hr_1, hr_2], tk_smR rfl⟩), by rw [ht]; exact hM.1, hM.2.1⟩, hM.2.2.F ht⟩) hM.2.2.2.2 dX3_allowed_28
  · subst er_hr_1
    refine lv_if_eq (tgt := 26) hx hb dX3_allowed_7 (by decide) (fun _ => ?_) (fun c_ => absurd (by decide) c_)
    refine lv_ldc (v := -100001) hx hb hown (hts _ q1636) dX3_allowed_26 ?_
    exact W.iret hx hb hr (fun t ht hW => ⟨⟨_, S, rfl, (by exact ⟨by simp [tk_allq, ti1, hr_1], tk_smR rfl⟩), by rw [ht]; exact hM.1, hM.2.1⟩, hM.2.2.F ht⟩) hM.2.2.2.2 dX3_allowed_28

set_option maxHeartbeats 4000000 in
set_option maxRecDepth 100000 in
theorem met_X3_guess (l : Launch) {B : Nat} (D : va_G) (cA : Nat → ClassId) (ad : Nat → Nat) (S : Nat → Nat → Int32) (x0 : Int32) (k0 : Int32) (u0 : Int32) (hI : tk_ok B (S 0)) : Met l yX3_guess (ws_ yX3_guess cX3_guess 4 (some .int)) (rmL 5 0 0) (mPre D cA ad S [.int x0, .int k0, .int u0]) (va_Qi (fun (r : Int32) (S' : Nat → Nat → Int32) => r = tk_gueq (S 0) x0 k0 u0 ∧ tk_sm S S' (S 0)) (mEnd D cA ad) (mA ad)) 0 0 (mA ad) := by
  refine Met.ofW (cc := cX3_guess) (maxL := 4) (ret := (some .int)) (by decide) rfl ?_
  intro p e s m args below meth c s₁ Bd hml hv
  obtain ⟨rfl, hP, hK, hD⟩ := hv
  have hx := Bd.exec
  have hb := Bd.bytes
  have hr := Bd.returns
  have hts := atoms_spec (ws := (ws_ yX3_guess cX3_guess 4 (some .int))) Bd.pre
  have hts : ∀ w ∈ lw_all, w.before _ s = true := fun w h => hts w (List.mem_cons_of_mem _ h)
  have hown : s.vm.findClass RX3 = some m.cls := findClass_of_methodNamed Bd.named
  have hlocks := Bd.notSynchronized
  have hM : mSt D cA ad (mA ad) s.heap s.heap [] S := ⟨hP, hD, va_S.rf⟩
  have hl := lv_entry ([.ref (ad 7), .int x0, .int k0, .int u0]) (n := 4) (Nat.le_of_ble_eq_true rfl)
  rw [lg_entry_eq]
  generalize (lg_sl ([.ref (ad 7), .int x0, .int k0, .int u0]) ++ List.replicate (4 - (lg_sl ([.ref (ad 7), .int x0, .int k0, .int u0])).length) Slot.unset).toArray = ls at hl ⊢
  have hl : lv_has ls 4 [(0, .ref (ad 7)), (1, .int x0), (2, .int k0), (3, .int u0)] := hl
  refine lv_iload_n hx hb dX3_guess_0 rfl (lv_at hl 1 rfl) ?_
  refine lv_iconst (v := 0) hx hb dX3_guess_1 (by decide) ?_
  refine lv_ldc (v := 3000000) hx hb hown (hts _ q1867) dX3_guess_2 ?_
  refine vp_callSi (W.runS (As := [.int x0, .int (0 : Int32), .int (3000000 : Int32)]) (rest := []) ⟨hx, hb, hml, hown, hts⟩ (met_X3_in l x0 (0 : Int32) (3000000 : Int32)) (va_cwS 3 hts (lw_S q1633 q1634 q71 q1635) rfl rfl rfl (by decide +kernel) ⟨Nat.le_of_ble_eq_true rfl, Nat.le_of_ble_eq_true rfl⟩) ⟨fun a U g mk q => q, fun U hU hW => ⟨rfl, trivial⟩⟩ rfl rfl hl.1 rfl (lv_room (Nat.le_of_ble_eq_true rfl)) dX3_guess_4 ⟨Nat.le_of_ble_eq_true rfl, Nat.le_of_ble_eq_true rfl⟩) (fun r_1 hr_1 => ?_)
  rcases hr_1 with ⟨er_hr_1, hr_1⟩ | ⟨er_hr_1, hr_1⟩
  · subst er_hr_1
    refine lv_if_eq (tgt := 36) hx hb dX3_guess_7 (by decide) (fun c_ => absurd c_ (by decide)) (fun _ => ?_)
    refine lv_iload_n hx hb dX3_guess_10 rfl (lv_at hl 2 rfl) ?_
    refine vp_callSi (W.runS (As := [.int k0]) (rest := []) ⟨hx, hb, hml, hown, hts⟩ (met_X3_isKind l k0) (va_cwS 1 hts (lw_S q1630 q1631 q71 q1632) rfl rfl rfl (by decide +kernel) ⟨Nat.le_of_ble_eq_true rfl, Nat.le_of_ble_eq_true rfl⟩) ⟨fun a U g mk q => q, fun U hU hW => ⟨rfl, trivial⟩⟩ rfl rfl hl.1 rfl (lv_room (Nat.le_of_ble_eq_true rfl)) dX3_guess_11 ⟨Nat.le_of_ble_eq_true rfl, Nat.le_of_ble_eq_true rfl⟩) (fun r_2 hr_2 => ?_)
    rcases hr_2 with ⟨er_hr_2, hr_2⟩ | ⟨er_hr_2, hr_2⟩
    · subst er_hr_2
      obtain ⟨kk, hkk, rfl⟩ := tk_k4 hr_2
      have nnk : (nI kk).toNatClampNeg = kk := nI_clamp (by omega)
      refine lv_if_eq (tgt := 36) hx hb dX3_guess_14 (by decide) (fun c_ => absurd c_ (by decide)) (fun _ => ?_)
      refine lv_iload_n hx hb dX3_guess_17 rfl (lv_at hl 3 rfl) ?_
      refine lv_iconst (v := 0) hx hb dX3_guess_18 (by decide) ?_
      refine lv_iconst (v := 3) hx hb dX3_guess_19 (by decide) ?_
      refine vp_callSi (W.runS (As := [.int u0, .int (0 : Int32), .int (3 : Int32)]) (rest := []) ⟨hx, hb, hml, hown, hts⟩ (met_X3_in l u0 (0 : Int32) (3 : Int32)) (va_cwS 3 hts (lw_S q1633 q1634 q71 q1635) rfl rfl rfl (by decide +kernel) ⟨Nat.le_of_ble_eq_true rfl, Nat.le_of_ble_eq_true rfl⟩) ⟨fun a U g mk q => q, fun U hU hW => ⟨rfl, trivial⟩⟩ rfl rfl hl.1 rfl (lv_room (Nat.le_of_ble_eq_true rfl)) dX3_guess_20 ⟨Nat.le_of_ble_eq_true rfl, Nat.le_of_ble_eq_true rfl⟩) (fun r_3 hr_3 => ?_)
      rcases hr_3 with ⟨er_hr_3, hr_3⟩ | ⟨er_hr_3, hr_3⟩
      · subst er_hr_3
        refine lv_if_eq (tgt := 36) hx hb dX3_guess_23 (by decide) (fun c_ => absurd c_ (by decide)) (fun _ => ?_)
        refine lv_aload_n hx hb dX3_guess_26 rfl (lv_at hl 0 rfl) ?_
        refine lv_iload_n hx hb dX3_guess_27 rfl (lv_at hl 1 rfl) ?_
        refine lv_iload_n hx hb dX3_guess_28 rfl (lv_at hl 2 rfl) ?_
        refine lv_iload_n hx hb dX3_guess_29 rfl (lv_at hl 3 rfl) ?_
        refine va_calli (va_runV (As := [.int x0, .int (nI kk), .int u0]) (rest := []) ⟨hx, hb, hml, hown, hts⟩ (met_X3_guesses l D cA ad S x0 kk u0 hI hkk) (cwV 3 hts (lw_V q1705 q1707 qs35 q71 q1708) rfl rfl rfl (by decide +kernel) ⟨Nat.le_of_ble_eq_true rfl, Nat.le_of_ble_eq_true rfl⟩) (mPreV hK hM) rfl rfl hl.1 rfl (lv_room (Nat.le_of_ble_eq_true rfl)) dX3_guess_30 ⟨Nat.le_of_ble_eq_true rfl, Nat.le_of_ble_eq_true rfl⟩) hM.2.2 (fun _ _ h => h) (fun _ h => h) (fun r_4 S_5 t H1 locs ht hvm hr_4 hB hz hk hS => ?_)
        have hM : mSt D cA ad (mA ad) s.heap H1 locs S_5 := ⟨by rw [← ht]; exact hB.1, hB.2, hS⟩
        clear hB ht; generalize H1 = H at hM ⊢; clear hz hk hS
        refine W.widen (k := 0) (n := 0) (Nat.le_refl 0) (Nat.le_refl 0) ?_
        obtain ⟨hr_4a, hr_4b⟩ := hr_4
        refine lv_goto (tgt := 38) hx hb dX3_guess_33 (by decide) ?_
        exact W.iret hx hb hr (fun t ht hW => ⟨⟨_, S_5, rfl, (by subst hr_4b; subst hr_4a; exact ⟨by simp [tk_gueq, hr_1, hr_2, nnk, hr_3], tk_smS⟩), by rw [ht]; exact hM.1, hM.2.1⟩, hM.2.2.F ht⟩) hM.2.2.2.2 dX3_guess_38
      · subst er_hr_3
        refine lv_if_eq (tgt := 36) hx hb dX3_guess_23 (by decide) (fun _ => ?_) (fun c_ => absurd (by decide) c_)
        refine lv_ldc (v := -100001) hx hb hown (hts _ q1636) dX3_guess_36 ?_
        exact W.iret hx hb hr (fun t ht hW => ⟨⟨_, S, rfl, (by exact ⟨by simp [tk_gueq, hr_1, hr_2, nnk, hr_3], tk_smR rfl⟩), by rw [ht]; exact hM.1, hM.2.1⟩, hM.2.2.F ht⟩) hM.2.2.2.2 dX3_guess_38
    · subst er_hr_2
      refine lv_if_eq (tgt := 36) hx hb dX3_guess_14 (by decide) (fun _ => ?_) (fun c_ => absurd (by decide) c_)
      refine lv_ldc (v := -100001) hx hb hown (hts _ q1636) dX3_guess_36 ?_
      exact W.iret hx hb hr (fun t ht hW => ⟨⟨_, S, rfl, (by exact ⟨by simp [tk_gueq, hr_1, hr_2], tk_smR rfl⟩), by rw [ht]; exact hM.1, hM.2.1⟩, hM.2.2.F ht⟩) hM.2.2.2.2 dX3_guess_38
  · subst er_hr_1
    refine lv_if_eq (tgt := 36) hx hb dX3_guess_7 (by decide) (fun _ => ?_) (fun c_ => absurd (by decide) c_)
    refine lv_ldc (v := -100001) hx hb hown (hts _ q1636) dX3_guess_36 ?_
    exact W.iret hx hb hr (fun t ht hW => ⟨⟨_, S, rfl, (by exact ⟨by simp [tk_gueq, hr_1], tk_smR rfl⟩), by rw [ht]; exact hM.1, hM.2.1⟩, hM.2.2.F ht⟩) hM.2.2.2.2 dX3_guess_38
