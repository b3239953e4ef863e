set_option maxHeartbeats 4000000 in
set_option maxRecDepth 100000 in
theorem met_X3_given (l : Launch) {B : Nat} (D : va_G) (cA : Nat → ClassId) (ad : Nat → Nat) (S : Nat → Nat → Int32) (u0 : Int32) (hI : tk_ok B (S 0)) : Met l yX3_given (ws_ yX3_given cX3_given 5 (some .int)) (rmL 5 0 0) (mPre D cA ad S [.int u0]) (va_Qi (fun (r : Int32) (S' : Nat → Nat → Int32) => r = tk_gv (S 0) u0 ∧ tk_sm S S' (S 0)) (mEnd D cA ad) (mA ad)) 0 0 (mA ad) := by
  refine Met.ofW (cc := cX3_given) (maxL := 5) (ret := (some .int)) (by decide) rfl ?_
  intro p e s m args below meth c s₁ Bd hml hv
  obtain ⟨rfl, hP, hK, hD⟩ := hv
  have hx := Bd.exec
  have hb := Bd.bytes
  have hr := Bd.returns
  have hts := atoms_spec (ws := (ws_ yX3_given cX3_given 5 (some .int))) Bd.pre
  have hts : ∀ w ∈ lw_all, w.before _ s = true := fun w h => hts w (List.mem_cons_of_mem _ h)
  have hown : s.vm.findClass RX3 = some m.cls := findClass_of_methodNamed Bd.named
  have hlocks := Bd.notSynchronized
  have hM : mSt D cA ad (mA ad) s.heap s.heap [] S := ⟨hP, hD, va_S.rf⟩
  have hl := lv_entry ([.ref (ad 7), .int u0]) (n := 5) (Nat.le_of_ble_eq_true rfl)
  rw [lg_entry_eq]
  generalize (lg_sl ([.ref (ad 7), .int u0]) ++ List.replicate (5 - (lg_sl ([.ref (ad 7), .int u0])).length) Slot.unset).toArray = ls at hl ⊢
  have hl : lv_has ls 5 [(0, .ref (ad 7)), (1, .int u0)] := hl
  obtain ⟨nc, hnc, enc, enn, eni⟩ := ok_n hI
  refine lv_iconst (v := 0) hx hb dX3_given_0 (by decide) ?_
  refine lv_istore_n (lv' := [(2, .int (0 : Int32)), (0, .ref (ad 7)), (1, .int u0)]) hx hb dX3_given_1 rfl hl (by decide) rfl (fun ls hl => ?_)
  refine lv_iconst (v := 0) hx hb dX3_given_2 (by decide) ?_
  refine lv_istore_n (lv' := [(3, .int (0 : Int32)), (2, .int (0 : Int32)), (0, .ref (ad 7)), (1, .int u0)]) hx hb dX3_given_3 rfl hl (by decide) rfl (fun ls hl => ?_)
  have cut_4 : ∀ (N : Nat) (k : Nat) (x2 : Int32) (hk : k ≤ nc) (hac : tk_gvr (S 0) u0 nc 0 0 = tk_gvr (S 0) u0 (nc - k) k x2) (hN : nc - k < N) (H : Heap) (locs : List Loc) (Sc4 : Nat → Nat → Int32) (eSc4 : tk_sm S Sc4 (S 0)) (hM : mSt D cA ad (mA ad) s.heap H locs Sc4), ∀ (ls : Array Slot) (hl : lv_has ls 5 [(2, .int x2), (3, .int (nI k)), (0, .ref (ad 7)), (1, .int u0)]), W p l e (headSpec (ws_ yX3_given cX3_given 5 (some .int)) (rmL 5 0 0)).room s m ([.ref (ad 7), .int u0] : List Value).toArray below meth c H locs 0 0 (MQ below (va_Qi (fun (r : Int32) (S' : Nat → Nat → Int32) => r = tk_gv (S 0) u0 ∧ tk_sm S S' (S 0)) (mEnd D cA ad) (mA ad)) ([.ref (ad 7), .int u0] : List Value).toArray s 0 0 (mA ad)) (F0 m 4 ls []) := by
    intro N
    induction N with
    | zero => intro k x2 hk hac hN; exact absurd hN (Nat.not_lt_zero _)
    | succ N ih_4 =>
      intro k x2 hk hac hN H locs Sc4 eSc4 hM ls hl
      refine lv_iload_n hx hb dX3_given_4 rfl (lv_at hl 1 rfl) ?_
      refine lv_aload_n hx hb dX3_given_5 rfl (lv_at hl 2 rfl) ?_
      refine m_get hx hb hts in_X3 hown hK hM 0 (by decide) (hts _ q1571) rfl dX3_given_6 ?_
      refine lv_bipush (v := 14) hx hb dX3_given_9 (by decide) ?_
      refine m_iald hx hb hK hM 0 1 rfl 14 rfl (by omega) (v := (S 0 14)) (by rw [eSc4.1]) dX3_given_11 (by decide) ?_
      refine lv_icmp_ge (tgt := 72) hx hb dX3_given_12 (by decide) (fun c12_b_1 => ?_) (fun c12_b_1 => ?_)
      · skip
        have c12_b_1 := Int32.not_lt.mpr c12_b_1
        have nc12_b_1 := nltF (a := k) (b := nc) rfl enc (by omega) (by omega) c12_b_1
        refine lv_iload_n hx hb dX3_given_72 rfl (lv_at hl 0 rfl) ?_
        exact W.iret hx hb hr (fun t ht hW => ⟨⟨_, Sc4, rfl, (by exact ⟨by rw [tk_gv, enn, hac]; exact (tk_gvE (by omega)).symm, eSc4⟩), by rw [ht]; exact hM.1, hM.2.1⟩, hM.2.2.F ht⟩) hM.2.2.2.2 dX3_given_73
      · skip
        have c12_b_1 := Int32.not_le.mp c12_b_1
        have nc12_b_1 := nltT (a := k) (b := nc) rfl enc (by omega) (by omega) c12_b_1
        refine lv_aload_n hx hb dX3_given_15 rfl (lv_at hl 2 rfl) ?_
        refine lv_iload_n hx hb dX3_given_16 rfl (lv_at hl 1 rfl) ?_
        refine lv_iconst (v := 1) hx hb dX3_given_17 (by decide) ?_
        refine vp_callSi (W.runV (As := [.int (nI k), .int (nI 1)]) (rest := []) ⟨hx, hb, hml, hown, hts⟩ (met_X3_of l D cA ad Sc4 k 1 (by first | assumption | omega | decide)) (cwV 2 hts (lw_V q1686 q1688 qs32 q71 q1689) rfl rfl rfl (by decide +kernel) ⟨Nat.le_of_ble_eq_true rfl, Nat.le_of_ble_eq_true rfl⟩) (mPreV hK hM) rfl rfl hl.1 rfl (lv_room (Nat.le_of_ble_eq_true rfl)) dX3_given_18 ⟨Nat.le_of_ble_eq_true rfl, Nat.le_of_ble_eq_true rfl⟩) (fun r_2 hr_2 => ?_)
        rw [show Sc4 0 = S 0 from (by rw [eSc4.1])] at hr_2
        subst hr_2
        refine lv_iconst (v := 1) hx hb dX3_given_21 (by decide) ?_
        refine lv_icmp_ne (tgt := 66) hx hb dX3_given_22 (by decide) (fun c22_b_3 => ?_) (fun c22_b_3 => ?_)
        · skip
          refine lv_iinc (v := (nI (k + 1))) (lv' := [(3, .int (nI (k + 1))), (2, .int x2), (0, .ref (ad 7)), (1, .int u0)]) hx hb dX3_given_66 hl (k := 1) rfl (ixA rfl rfl) (by decide) rfl (fun ls hl => ?_)
          refine lv_goto (tgt := 4) hx hb dX3_given_69 (by decide) ?_
          exact ih_4 (k + 1) _ (by omega) (by rw [hac]; exact tk_gv0 (by omega) c22_b_3) (by omega) _ _ _ (by first | exact eSc4 | (rw [eSc4]; exact tk_smt eSc4)) hM ls (lv_sub hl [1, 0, 2, 3] rfl)
        · skip
          obtain ⟨kk, hkk, ekk, enk⟩ := ok_kind hI (j := k) (by omega) (by rw [c22_b_3]; decide)
          refine lv_aload_n hx hb dX3_given_25 rfl (lv_at hl 2 rfl) ?_
          refine lv_aload_n hx hb dX3_given_26 rfl (lv_at hl 2 rfl) ?_
          refine lv_iload_n hx hb dX3_given_27 rfl (lv_at hl 1 rfl) ?_
          refine lv_iconst (v := 4) hx hb dX3_given_28 (by decide) ?_
          refine vp_callSi (W.runV (As := [.int (nI k), .int (nI 4)]) (rest := [.ref (ad 7)]) ⟨hx, hb, hml, hown, hts⟩ (met_X3_of l D cA ad Sc4 k 4 (by first | assumption | omega | decide)) (cwV 2 hts (lw_V q1686 q1688 qs32 q71 q1689) rfl rfl rfl (by decide +kernel) ⟨Nat.le_of_ble_eq_true rfl, Nat.le_of_ble_eq_true rfl⟩) (mPreV hK hM) rfl rfl hl.1 rfl (lv_room (Nat.le_of_ble_eq_true rfl)) dX3_given_29 ⟨Nat.le_of_ble_eq_true rfl, Nat.le_of_ble_eq_true rfl⟩) (fun r_4 hr_4 => ?_)
          rw [show Sc4 0 = S 0 from (by rw [eSc4.1])] at hr_4
          subst hr_4
          refine lv_aload_n hx hb dX3_given_32 rfl (lv_at hl 2 rfl) ?_
          refine lv_iload_n hx hb dX3_given_33 rfl (lv_at hl 1 rfl) ?_
          refine lv_iconst (v := 2) hx hb dX3_given_34 (by decide) ?_
          refine vp_callSi (W.runV (As := [.int (nI k), .int (nI 2)]) (rest := [.int (S 0 (16 + 6 * k + 4)), .ref (ad 7)]) ⟨hx, hb, hml, hown, hts⟩ (met_X3_of l D cA ad Sc4 k 2 (by first | assumption | omega | decide)) (cwV 2 hts (lw_V q1686 q1688 qs32 q71 q1689) rfl rfl rfl (by decide +kernel) ⟨Nat.le_of_ble_eq_true rfl, Nat.le_of_ble_eq_true rfl⟩) (mPreV hK hM) rfl rfl hl.1 rfl (lv_room (Nat.le_of_ble_eq_true rfl)) dX3_given_35 ⟨Nat.le_of_ble_eq_true rfl, Nat.le_of_ble_eq_true rfl⟩) (fun r_5 hr_5 => ?_)
          rw [show Sc4 0 = S 0 from (by rw [eSc4.1])] at hr_5
          subst hr_5
          refine lv_iload_n hx hb dX3_given_38 rfl (lv_at hl 3 rfl) ?_
          rw [show (S 0 (16 + 6 * k + 2)) = nI kk from ekk]
          refine va_calli (va_runV (As := [.int (S 0 (16 + 6 * k + 4)), .int (nI kk), .int u0]) (rest := []) ⟨hx, hb, hml, hown, hts⟩ (met_X3_guesses l D cA ad Sc4 (S 0 (16 + 6 * k + 4)) kk u0 (by rw [show Sc4 0 = S 0 from (by rw [eSc4.1])]; exact hI) (by first | assumption | omega | decide)) (cwV 3 hts (lw_V q1705 q1707 qs35 q71 q1708) rfl rfl rfl (by decide +kernel) ⟨Nat.le_of_ble_eq_true rfl, Nat.le_of_ble_eq_true rfl⟩) (mPreV hK hM) rfl rfl hl.1 rfl (lv_room (Nat.le_of_ble_eq_true rfl)) dX3_given_39 ⟨Nat.le_of_ble_eq_true rfl, Nat.le_of_ble_eq_true rfl⟩) hM.2.2 (fun _ _ h => h) (fun _ h => h) (fun r_6 S_7 t H1 locs ht hvm hr_6 hB hz hk hS => ?_)
          have hM : mSt D cA ad (mA ad) s.heap H1 locs S_7 := ⟨by rw [← ht]; exact hB.1, hB.2, hS⟩
          clear hB ht; generalize H1 = H at hM ⊢; clear hz hk hS
          refine W.widen (k := 0) (n := 0) (Nat.le_refl 0) (Nat.le_refl 0) ?_
          obtain ⟨hr_6a, hr_6b⟩ := hr_6
          rw [show Sc4 0 = S 0 from (by rw [eSc4.1])] at hr_6a
          refine lv_istore (lv' := [(4, .int r_6), (2, .int x2), (3, .int (nI k)), (0, .ref (ad 7)), (1, .int u0)]) hx hb dX3_given_42 hl (by decide) rfl (fun ls hl => ?_)
          refine lv_iload hx hb dX3_given_44 (lv_at hl 0 rfl) ?_
          refine lv_ldc (v := -100009) hx hb hown (hts _ q1722) dX3_given_46 ?_
          refine lv_icmp_ne (tgt := 54) hx hb dX3_given_48 (by decide) (fun c48_b_8 => ?_) (fun c48_b_8 => ?_)
          · skip
            refine lv_iload_n hx hb dX3_given_54 rfl (lv_at hl 1 rfl) ?_
            refine lv_iload hx hb dX3_given_55 (lv_at hl 0 rfl) ?_
            refine lv_aload_n hx hb dX3_given_57 rfl (lv_at hl 3 rfl) ?_
            refine lv_iload_n hx hb dX3_given_58 rfl (lv_at hl 2 rfl) ?_
            refine lv_iconst (v := 3) hx hb dX3_given_59 (by decide) ?_
            refine vp_callSi (W.runV (As := [.int (nI k), .int (nI 3)]) (rest := [.int r_6, .int x2]) ⟨hx, hb, hml, hown, hts⟩ (met_X3_of l D cA ad S_7 k 3 (by first | assumption | omega | decide)) (cwV 2 hts (lw_V q1686 q1688 qs32 q71 q1689) rfl rfl rfl (by decide +kernel) ⟨Nat.le_of_ble_eq_true rfl, Nat.le_of_ble_eq_true rfl⟩) (mPreV hK hM) rfl rfl hl.1 rfl (lv_room (Nat.le_of_ble_eq_true rfl)) dX3_given_60 ⟨Nat.le_of_ble_eq_true rfl, Nat.le_of_ble_eq_true rfl⟩) (fun r_9 hr_9 => ?_)
            rw [show S_7 0 = S 0 from (by rw [hr_6b, tk_alS_0 _ _ _ (by decide), eSc4.1])] at hr_9
            subst hr_9
            refine lv_isub hx hb dX3_given_63 ?_
            refine lv_iadd hx hb dX3_given_64 ?_
            refine lv_istore_n (lv' := [(2, .int (x2 + (r_6 - (S 0 (16 + 6 * k + 3))))), (4, .int r_6), (3, .int (nI k)), (0, .ref (ad 7)), (1, .int u0)]) hx hb dX3_given_65 rfl hl (by decide) rfl (fun ls hl => ?_)
            refine lv_iinc (v := (nI (k + 1))) (lv' := [(3, .int (nI (k + 1))), (2, .int (x2 + (r_6 - (S 0 (16 + 6 * k + 3))))), (4, .int r_6), (0, .ref (ad 7)), (1, .int u0)]) hx hb dX3_given_66 hl (k := 2) rfl (ixA rfl rfl) (by decide) rfl (fun ls hl => ?_)
            refine lv_goto (tgt := 4) hx hb dX3_given_69 (by decide) ?_
            exact ih_4 (k + 1) _ (by omega) (by rw [hac]; exact tk_gv1 (by omega) c22_b_3 (by rw [enk]; exact hr_6a) c48_b_8) (by omega) _ _ _ (by first | exact eSc4 | (rw [hr_6b]; exact tk_smt eSc4)) hM ls (lv_sub hl [1, 0, 3, 4] rfl)
          · skip
            refine lv_ldc (v := -100009) hx hb hown (hts _ q1722) dX3_given_51 ?_
            exact W.iret hx hb hr (fun t ht hW => ⟨⟨_, S_7, rfl, (by exact ⟨by rw [tk_gv, enn, hac]; exact (tk_gvN (by omega) c22_b_3 (by rw [enk]; exact hr_6a) c48_b_8).symm, by rw [hr_6b]; exact tk_smt eSc4⟩), by rw [ht]; exact hM.1, hM.2.1⟩, hM.2.2.F ht⟩) hM.2.2.2.2 dX3_given_53
  exact cut_4 _ 0 _ (by omega) rfl (Nat.lt_succ_self _) _ _ _ (tk_smr S) hM ls (lv_sub hl [1, 0, 2, 3] rfl)

set_option maxHeartbeats 4000000 in
set_option maxRecDepth 100000 in
theorem met_X3_would (l : Launch) {B : Nat} (D : va_G) (cA : Nat → ClassId) (ad : Nat → Nat) (S : Nat → Nat → Int32) (u0 : Int32) (hI : tk_ok B (S 0)) : Met l yX3_would (ws_ yX3_would cX3_would 3 (some .int)) (rmL 6 0 0) (mPre D cA ad S [.int u0]) (va_Qi (fun (r : Int32) (S' : Nat → Nat → Int32) => r = tk_wouq (S 0) u0 ∧ tk_sm S S' (S 0)) (mEnd D cA ad) (mA ad)) 0 0 (mA ad) := by
  refine Met.ofW (cc := cX3_would) (maxL := 3) (ret := (some .int)) (by decide) rfl ?_
  intro p e s m args below meth c s₁ Bd hml hv
  obtain ⟨rfl, hP, hK, hD⟩ := hv
  have hx := Bd.exec
  have hb := Bd.bytes
  have hr := Bd.returns
  have hts := atoms_spec (ws := (ws_ yX3_would cX3_would 3 (some .int))) Bd.pre
  have hts : ∀ w ∈ lw_all, w.before _ s = true := fun w h => hts w (List.mem_cons_of_mem _ h)
  have hown : s.vm.findClass RX3 = some m.cls := findClass_of_methodNamed Bd.named
  have hlocks := Bd.notSynchronized
  have hM : mSt D cA ad (mA ad) s.heap s.heap [] S := ⟨hP, hD, va_S.rf⟩
  have hl := lv_entry ([.ref (ad 7), .int u0]) (n := 3) (Nat.le_of_ble_eq_true rfl)
  rw [lg_entry_eq]
  generalize (lg_sl ([.ref (ad 7), .int u0]) ++ List.replicate (3 - (lg_sl ([.ref (ad 7), .int u0])).length) Slot.unset).toArray = ls at hl ⊢
  have hl : lv_has ls 3 [(0, .ref (ad 7)), (1, .int u0)] := hl
  refine lv_iload_n hx hb dX3_would_0 rfl (lv_at hl 1 rfl) ?_
  refine lv_iconst (v := 0) hx hb dX3_would_1 (by decide) ?_
  refine lv_iconst (v := 3) hx hb dX3_would_2 (by decide) ?_
  refine vp_callSi (W.runS (As := [.int u0, .int (0 : Int32), .int (3 : Int32)]) (rest := []) ⟨hx, hb, hml, hown, hts⟩ (met_X3_in l u0 (0 : Int32) (3 : Int32)) (va_cwS 3 hts (lw_S q1633 q1634 q71 q1635) rfl rfl rfl (by decide +kernel) ⟨Nat.le_of_ble_eq_true rfl, Nat.le_of_ble_eq_true rfl⟩) ⟨fun a U g mk q => q, fun U hU hW => ⟨rfl, trivial⟩⟩ rfl rfl hl.1 rfl (lv_room (Nat.le_of_ble_eq_true rfl)) dX3_would_3 ⟨Nat.le_of_ble_eq_true rfl, Nat.le_of_ble_eq_true rfl⟩) (fun r_1 hr_1 => ?_)
  rcases hr_1 with ⟨er_hr_1, hr_1⟩ | ⟨er_hr_1, hr_1⟩
  · subst er_hr_1
    refine lv_if_ne (tgt := 12) hx hb dX3_would_6 (by decide) (fun _ => ?_) (fun c_ => absurd c_ (by decide))
    refine lv_aload_n hx hb dX3_would_12 rfl (lv_at hl 0 rfl) ?_
    refine lv_iload_n hx hb dX3_would_13 rfl (lv_at hl 1 rfl) ?_
    refine va_calli (va_runV (As := [.int u0]) (rest := []) ⟨hx, hb, hml, hown, hts⟩ (met_X3_given l D cA ad S u0 hI) (cwV 1 hts (lw_V q1900 q1902 qs57 q71 q1903) rfl rfl rfl (by decide +kernel) ⟨Nat.le_of_ble_eq_true rfl, Nat.le_of_ble_eq_true rfl⟩) (mPreV hK hM) rfl rfl hl.1 rfl (lv_room (Nat.le_of_ble_eq_true rfl)) dX3_would_14 ⟨Nat.le_of_ble_eq_true rfl, Nat.le_of_ble_eq_true rfl⟩) hM.2.2 (fun _ _ h => h) (fun _ h => h) (fun r_2 S_3 t H1 locs ht hvm hr_2 hB hz hk hS => ?_)
    have hM : mSt D cA ad (mA ad) s.heap H1 locs S_3 := ⟨by rw [← ht]; exact hB.1, hB.2, hS⟩
    clear hB ht; generalize H1 = H at hM ⊢; clear hz hk hS
    refine W.widen (k := 0) (n := 0) (Nat.le_refl 0) (Nat.le_refl 0) ?_
    obtain ⟨hr_2a, hr_2b⟩ := hr_2
    refine lv_istore_n (lv' := [(2, .int r_2), (0, .ref (ad 7)), (1, .int u0)]) hx hb dX3_would_17 rfl hl (by decide) rfl (fun ls hl => ?_)
    refine lv_iload_n hx hb dX3_would_18 rfl (lv_at hl 0 rfl) ?_
    refine lv_ldc (v := -100009) hx hb hown (hts _ q1722) dX3_would_19 ?_
    refine lv_icmp_ne (tgt := 29) hx hb dX3_would_21 (by decide) (fun c21_b_4 => ?_) (fun c21_b_4 => ?_)
    · skip
      refine lv_ldc (v := 100000) hx hb hown (hts _ q1743) dX3_would_29 ?_
      refine lv_iload_n hx hb dX3_would_31 rfl (lv_at hl 0 rfl) ?_
      refine lv_iadd hx hb dX3_would_32 ?_
      exact W.iret hx hb hr (fun t ht hW => ⟨⟨_, S_3, rfl, (by exact ⟨by simp [tk_wouq, ← hr_2a, hr_1, c21_b_4], hr_2b⟩), by rw [ht]; exact hM.1, hM.2.1⟩, hM.2.2.F ht⟩) hM.2.2.2.2 dX3_would_33
    · skip
      refine lv_ldc (v := -100009) hx hb hown (hts _ q1722) dX3_would_24 ?_
      refine lv_goto (tgt := 33) hx hb dX3_would_26 (by decide) ?_
      exact W.iret hx hb hr (fun t ht hW => ⟨⟨_, S_3, rfl, (by exact ⟨by simp [tk_wouq, ← hr_2a, hr_1, c21_b_4], hr_2b⟩), by rw [ht]; exact hM.1, hM.2.1⟩, hM.2.2.F ht⟩) hM.2.2.2.2 dX3_would_33
  · subst er_hr_1
    refine lv_if_ne (tgt := 12) hx hb dX3_would_6 (by decide) (fun c_ => absurd (by decide) c_) (fun _ => ?_)
    refine lv_ldc (v := -100001) hx hb hown (hts _ q1636) dX3_would_9 ?_
    exact W.iret hx hb hr (fun t ht hW => ⟨⟨_, S, rfl, (by exact ⟨by simp [tk_wouq, hr_1], tk_smr S⟩), by rw [ht]; exact hM.1, hM.2.1⟩, hM.2.2.F ht⟩) hM.2.2.2.2 dX3_would_11

set_option maxHeartbeats 4000000 in
set_option maxRecDepth 100000 in
theorem met_X3_fairest (l : Launch) {B : Nat} (D : va_G) (cA : Nat → ClassId) (ad : Nat → Nat) (S : Nat → Nat → Int32) (hI : tk_ok B (S 0)) : Met l yX3_fairest (ws_ yX3_fairest cX3_fairest 4 (some .int)) (rmL 6 0 0) (mPre D cA ad S []) (va_Qi (fun (r : Int32) (S' : Nat → Nat → Int32) => r = tk_fairq (S 0) ∧ tk_sm S S' (S 0)) (mEnd D cA ad) (mA ad)) 0 0 (mA ad) := by
  refine Met.ofW (cc := cX3_fairest) (maxL := 4) (ret := (some .int)) (by decide) rfl ?_
  intro p e s m args below meth c s₁ Bd hml hv
  obtain ⟨rfl, hP, hK, hD⟩ := hv
  have hx := Bd.exec
  have hb := Bd.bytes
  have hr := Bd.returns
  have hts := atoms_spec (ws := (ws_ yX3_fairest cX3_fairest 4 (some .int))) Bd.pre
  have hts : ∀ w ∈ lw_all, w.before _ s = true := fun w h => hts w (List.mem_cons_of_mem _ h)
  have hown : s.vm.findClass RX3 = some m.cls := findClass_of_methodNamed Bd.named
  have hlocks := Bd.notSynchronized
  have hM : mSt D cA ad (mA ad) s.heap s.heap [] S := ⟨hP, hD, va_S.rf⟩
  have hl := lv_entry ([.ref (ad 7)]) (n := 4) (Nat.le_of_ble_eq_true rfl)
  rw [lg_entry_eq]
  generalize (lg_sl ([.ref (ad 7)]) ++ List.replicate (4 - (lg_sl ([.ref (ad 7)])).length) Slot.unset).toArray = ls at hl ⊢
  have hl : lv_has ls 4 [(0, .ref (ad 7))] := hl
  refine lv_ldc (v := -100009) hx hb hown (hts _ q1722) dX3_fairest_0 ?_
  refine lv_istore_n (lv' := [(1, .int (-100009 : Int32)), (0, .ref (ad 7))]) hx hb dX3_fairest_2 rfl hl (by decide) rfl (fun ls hl => ?_)
  refine lv_iconst (v := 0) hx hb dX3_fairest_3 (by decide) ?_
  refine lv_istore_n (lv' := [(2, .int (0 : Int32)), (1, .int (-100009 : Int32)), (0, .ref (ad 7))]) hx hb dX3_fairest_4 rfl hl (by decide) rfl (fun ls hl => ?_)
  have cut_5 : ∀ (N : Nat) (k : Nat) (x1 : Int32) (hk : k ≤ 4) (hac : tk_fr (S 0) 4 0 (-100009) = tk_fr (S 0) (4 - k) k x1) (hN : 4 - k < N) (H : Heap) (locs : List Loc) (Sc5 : Nat → Nat → Int32) (eSc5 : tk_sm S Sc5 (S 0)) (hM : mSt D cA ad (mA ad) s.heap H locs Sc5), ∀ (ls : Array Slot) (hl : lv_has ls 4 [(1, .int x1), (2, .int (nI k)), (0, .ref (ad 7))]), W p l e (headSpec (ws_ yX3_fairest cX3_fairest 4 (some .int)) (rmL 6 0 0)).room s m ([.ref (ad 7)] : List Value).toArray below meth c H locs 0 0 (MQ below (va_Qi (fun (r : Int32) (S' : Nat → Nat → Int32) => r = tk_fairq (S 0) ∧ tk_sm S S' (S 0)) (mEnd D cA ad) (mA ad)) ([.ref (ad 7)] : List Value).toArray s 0 0 (mA ad)) (F0 m 5 ls []) := by
    intro N
    induction N with
    | zero => intro k x1 hk hac hN; exact absurd hN (Nat.not_lt_zero _)
    | succ N ih_5 =>
      intro k x1 hk hac hN H locs Sc5 eSc5 hM ls hl
      refine lv_iload_n hx hb dX3_fairest_5 rfl (lv_at hl 1 rfl) ?_
      refine lv_iconst (v := 4) hx hb dX3_fairest_6 (by decide) ?_
      refine lv_icmp_ge (tgt := 60) hx hb dX3_fairest_7 (by decide) (fun c7_b_1 => ?_) (fun c7_b_1 => ?_)
      · skip
        have c7_b_1 := Int32.not_lt.mpr c7_b_1
        have nc7_b_1 := nltF (a := k) (b := 4) rfl rfl (by omega) (by omega) c7_b_1
        refine lv_iload_n hx hb dX3_fairest_60 rfl (lv_at hl 0 rfl) ?_
        exact W.iret hx hb hr (fun t ht hW => ⟨⟨_, Sc5, rfl, (by exact ⟨by rw [tk_fairq, hac]; exact (tk_frE (by omega)).symm, eSc5⟩), by rw [ht]; exact hM.1, hM.2.1⟩, hM.2.2.F ht⟩) hM.2.2.2.2 dX3_fairest_61
      · skip
        have c7_b_1 := Int32.not_le.mp c7_b_1
        have nc7_b_1 := nltT (a := k) (b := 4) rfl rfl (by omega) (by omega) c7_b_1
        refine lv_aload_n hx hb dX3_fairest_10 rfl (lv_at hl 2 rfl) ?_
        refine lv_iload_n hx hb dX3_fairest_11 rfl (lv_at hl 1 rfl) ?_
        refine va_calli (va_runV (As := [.int (nI k)]) (rest := []) ⟨hx, hb, hml, hown, hts⟩ (met_X3_given l D cA ad Sc5 (nI k) (by rw [show Sc5 0 = S 0 from (by rw [eSc5.1])]; exact hI)) (cwV 1 hts (lw_V q1900 q1902 qs57 q71 q1903) rfl rfl rfl (by decide +kernel) ⟨Nat.le_of_ble_eq_true rfl, Nat.le_of_ble_eq_true rfl⟩) (mPreV hK hM) rfl rfl hl.1 rfl (lv_room (Nat.le_of_ble_eq_true rfl)) dX3_fairest_12 ⟨Nat.le_of_ble_eq_true rfl, Nat.le_of_ble_eq_true rfl⟩) hM.2.2 (fun _ _ h => h) (fun _ h => h) (fun r_2 S_3 t H1 locs ht hvm hr_2 hB hz hk hS => ?_)
        have hM : mSt D cA ad (mA ad) s.heap H1 locs S_3 := ⟨by rw [← ht]; exact hB.1, hB.2, hS⟩
        clear hB ht; generalize H1 = H at hM ⊢; clear hz hk hS
        refine W.widen (k := 0) (n := 0) (Nat.le_refl 0) (Nat.le_refl 0) ?_
        obtain ⟨hr_2a, hr_2b⟩ := hr_2
        rw [show Sc5 0 = S 0 from (by rw [eSc5.1])] at hr_2a
        refine lv_istore_n (lv' := [(3, .int r_2), (1, .int x1), (2, .int (nI k)), (0, .ref (ad 7))]) hx hb dX3_fairest_15 rfl hl (by decide) rfl (fun ls hl => ?_)
        refine lv_iload_n hx hb dX3_fairest_16 rfl (lv_at hl 0 rfl) ?_
        refine lv_ldc (v := -100009) hx hb hown (hts _ q1722) dX3_fairest_17 ?_
        refine lv_icmp_ne (tgt := 25) hx hb dX3_fairest_19 (by decide) (fun c19_b_4 => ?_) (fun c19_b_4 => ?_)
        · skip
          refine lv_iload_n hx hb dX3_fairest_25 rfl (lv_at hl 1 rfl) ?_
          refine lv_ldc (v := -100009) hx hb hown (hts _ q1722) dX3_fairest_26 ?_
          refine lv_icmp_eq (tgt := 48) hx hb dX3_fairest_28 (by decide) (fun c28_b_5 => ?_) (fun c28_b_5 => ?_)
          · skip
            refine lv_iload_n hx hb dX3_fairest_48 rfl (lv_at hl 2 rfl) ?_
            refine lv_goto (tgt := 53) hx hb dX3_fairest_49 (by decide) ?_
            refine lv_istore_n (lv' := [(1, .int (nI k)), (3, .int r_2), (2, .int (nI k)), (0, .ref (ad 7))]) hx hb dX3_fairest_53 rfl hl (by decide) rfl (fun ls hl => ?_)
            refine lv_iinc (v := (nI (k + 1))) (lv' := [(2, .int (nI (k + 1))), (1, .int (nI k)), (3, .int r_2), (0, .ref (ad 7))]) hx hb dX3_fairest_54 hl (k := 2) rfl (ixA rfl rfl) (by decide) rfl (fun ls hl => ?_)
            refine lv_goto (tgt := 5) hx hb dX3_fairest_57 (by decide) ?_
            exact ih_5 (k + 1) _ (by omega) (by rw [hac]; exact tk_fr0 (by omega) (by rw [← hr_2a]; exact c19_b_4) c28_b_5) (by omega) _ _ _ (tk_smT (eSc5) hr_2b) hM ls (lv_sub hl [1, 0, 3] rfl)
          · skip
            refine lv_iload_n hx hb dX3_fairest_31 rfl (lv_at hl 0 rfl) ?_
            refine lv_iconst (v := 0) hx hb dX3_fairest_32 (by decide) ?_
            refine vp_callSi (W.runS (As := [.int r_2, .int (0 : Int32)]) (rest := []) ⟨hx, hb, hml, hown, hts⟩ (met_X3_far l r_2 (0 : Int32)) (va_cwS 2 hts (lw_S q1732 q1733 q71 q1734) rfl rfl rfl (by decide +kernel) ⟨Nat.le_of_ble_eq_true rfl, Nat.le_of_ble_eq_true rfl⟩) ⟨fun a U g mk q => q, fun U hU hW => ⟨rfl, trivial⟩⟩ rfl rfl hl.1 rfl (lv_room (Nat.le_of_ble_eq_true rfl)) dX3_fairest_33 ⟨Nat.le_of_ble_eq_true rfl, Nat.le_of_ble_eq_true rfl⟩) (fun r_6 hr_6 => ?_)
            subst hr_6
            refine lv_aload_n hx hb dX3_fairest_36 rfl (lv_at hl 3 rfl) ?_
            refine lv_iload_n hx hb dX3_fairest_37 rfl (lv_at hl 1 rfl) ?_
            refine va_calli (va_runV (As := [.int x1]) (rest := [.int (tk_far r_2 (0 : Int32))]) ⟨hx, hb, hml, hown, hts⟩ (met_X3_given l D cA ad S_3 x1 (by rw [show S_3 0 = S 0 from (by rw [hr_2b.1, eSc5.1])]; exact hI)) (cwV 1 hts (lw_V q1900 q1902 qs57 q71 q1903) rfl rfl rfl (by decide +kernel) ⟨Nat.le_of_ble_eq_true rfl, Nat.le_of_ble_eq_true rfl⟩) (mPreV hK hM) rfl rfl hl.1 rfl (lv_room (Nat.le_of_ble_eq_true rfl)) dX3_fairest_38 ⟨Nat.le_of_ble_eq_true rfl, Nat.le_of_ble_eq_true rfl⟩) hM.2.2 (fun _ _ h => h) (fun _ h => h) (fun r_7 S_8 t H1 locs ht hvm hr_7 hB hz hk hS => ?_)
            have hM : mSt D cA ad (mA ad) s.heap H1 locs S_8 := ⟨by rw [← ht]; exact hB.1, hB.2, hS⟩
            clear hB ht; generalize H1 = H at hM ⊢; clear hz hk hS
            refine W.widen (k := 0) (n := 0) (Nat.le_refl 0) (Nat.le_refl 0) ?_
            obtain ⟨hr_7a, hr_7b⟩ := hr_7
            rw [show S_3 0 = S 0 from (by rw [hr_2b.1, eSc5.1])] at hr_7a
            refine lv_iconst (v := 0) hx hb dX3_fairest_41 (by decide) ?_
            refine vp_callSi (W.runS (As := [.int r_7, .int (0 : Int32)]) (rest := [.int (tk_far r_2 (0 : Int32))]) ⟨hx, hb, hml, hown, hts⟩ (met_X3_far l r_7 (0 : Int32)) (va_cwS 2 hts (lw_S q1732 q1733 q71 q1734) rfl rfl rfl (by decide +kernel) ⟨Nat.le_of_ble_eq_true rfl, Nat.le_of_ble_eq_true rfl⟩) ⟨fun a U g mk q => q, fun U hU hW => ⟨rfl, trivial⟩⟩ rfl rfl hl.1 rfl (lv_room (Nat.le_of_ble_eq_true rfl)) dX3_fairest_42 ⟨Nat.le_of_ble_eq_true rfl, Nat.le_of_ble_eq_true rfl⟩) (fun r_9 hr_9 => ?_)
            subst hr_9
            refine lv_icmp_ge (tgt := 52) hx hb dX3_fairest_45 (by decide) (fun c45_b_10 => ?_) (fun c45_b_10 => ?_)
            · skip
              have c45_b_10 := Int32.not_lt.mpr c45_b_10
              refine lv_iload_n hx hb dX3_fairest_52 rfl (lv_at hl 1 rfl) ?_
              refine lv_istore_n (lv' := [(1, .int x1), (3, .int r_2), (2, .int (nI k)), (0, .ref (ad 7))]) hx hb dX3_fairest_53 rfl hl (by decide) rfl (fun ls hl => ?_)
              refine lv_iinc (v := (nI (k + 1))) (lv' := [(2, .int (nI (k + 1))), (1, .int x1), (3, .int r_2), (0, .ref (ad 7))]) hx hb dX3_fairest_54 hl (k := 2) rfl (ixA rfl rfl) (by decide) rfl (fun ls hl => ?_)
              refine lv_goto (tgt := 5) hx hb dX3_fairest_57 (by decide) ?_
              exact ih_5 (k + 1) _ (by omega) (by rw [hac]; exact tk_frG (by omega) (by rw [← hr_2a]; exact c19_b_4) c28_b_5 (by rw [← hr_2a, ← hr_7a]; exact c45_b_10)) (by omega) _ _ _ (tk_smT (tk_smT (eSc5) hr_2b) hr_7b) hM ls (lv_sub hl [1, 0, 3] rfl)
            · skip
              have c45_b_10 := Int32.not_le.mp c45_b_10
              refine lv_iload_n hx hb dX3_fairest_48 rfl (lv_at hl 2 rfl) ?_
              refine lv_goto (tgt := 53) hx hb dX3_fairest_49 (by decide) ?_
              refine lv_istore_n (lv' := [(1, .int (nI k)), (3, .int r_2), (2, .int (nI k)), (0, .ref (ad 7))]) hx hb dX3_fairest_53 rfl hl (by decide) rfl (fun ls hl => ?_)
              refine lv_iinc (v := (nI (k + 1))) (lv' := [(2, .int (nI (k + 1))), (1, .int (nI k)), (3, .int r_2), (0, .ref (ad 7))]) hx hb dX3_fairest_54 hl (k := 2) rfl (ixA rfl rfl) (by decide) rfl (fun ls hl => ?_)
              refine lv_goto (tgt := 5) hx hb dX3_fairest_57 (by decide) ?_
              exact ih_5 (k + 1) _ (by omega) (by rw [hac]; exact tk_frL (by omega) (by rw [← hr_2a]; exact c19_b_4) c28_b_5 (by rw [← hr_2a, ← hr_7a]; exact c45_b_10)) (by omega) _ _ _ (tk_smT (tk_smT (eSc5) hr_2b) hr_7b) hM ls (lv_sub hl [1, 0, 3] rfl)
        · skip
          refine lv_ldc (v := -100009) hx hb hown (hts _ q1722) dX3_fairest_22 ?_
          exact W.iret hx hb hr (fun t ht hW => ⟨⟨_, S_3, rfl, (by exact ⟨by rw [tk_fairq, hac]; exact (tk_frN (by omega) (by rw [← hr_2a]; exact c19_b_4)).symm, tk_smT eSc5 hr_2b⟩), by rw [ht]; exact hM.1, hM.2.1⟩, hM.2.2.F ht⟩) hM.2.2.2.2 dX3_fairest_24
  exact cut_5 _ 0 _ (by omega) rfl (Nat.lt_succ_self _) _ _ _ (tk_smr S) hM ls (lv_sub hl [1, 0, 2] rfl)
