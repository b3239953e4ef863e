set_option maxHeartbeats 4000000 in
set_option maxRecDepth 100000 in
theorem met_X3_leave (l : Launch) {B : Nat} (D : va_G) (cA : Nat → ClassId) (ad : Nat → Nat) (S : Nat → Nat → Int32) (c0 : Int32) (n0 : Nat) (hI : tk_ok B (S 0)) (hn : n0 ≤ 5) (hns : S 7 0 = nI n0) : Met l yX3_leave (ws_ yX3_leave cX3_leave 4 (some .int)) (rmL 3 0 0) (mPre D cA ad S [.int c0]) (va_Qi (fun (r : Int32) (S' : Nat → Nat → Int32) => r = (tk_leaves (S 0) c0).1 ∧ tk_top S S' n0 (tk_cp (S 0) (S 1) 284) r (tk_leaves (S 0) c0).2) (mEnd D cA ad) (mA ad)) 0 0 (mA ad) := by
  refine Met.ofW (cc := cX3_leave) (maxL := 4) (ret := (some .int)) (by decide) rfl ?_
  intro p e s m args below meth c s₁ Bd hml hv
  obtain ⟨rfl, hP, hK, hD⟩ := hv
  have hx := Bd.exec
  have hb := Bd.bytes
  have hr := Bd.returns
  have hts := atoms_spec (ws := (ws_ yX3_leave cX3_leave 4 (some .int))) Bd.pre
  have hts : ∀ w ∈ lw_all, w.before _ s = true := fun w h => hts w (List.mem_cons_of_mem _ h)
  have hown : s.vm.findClass RX3 = some m.cls := findClass_of_methodNamed Bd.named
  have hlocks := Bd.notSynchronized
  have hM : mSt D cA ad (mA ad) s.heap s.heap [] S := ⟨hP, hD, va_S.rf⟩
  have hl := lv_entry ([.ref (ad 7), .int c0]) (n := 4) (Nat.le_of_ble_eq_true rfl)
  rw [lg_entry_eq]
  generalize (lg_sl ([.ref (ad 7), .int c0]) ++ List.replicate (4 - (lg_sl ([.ref (ad 7), .int c0])).length) Slot.unset).toArray = ls at hl ⊢
  have hl : lv_has ls 4 [(0, .ref (ad 7)), (1, .int c0)] := hl
  obtain ⟨nc, hnc, enc, enn, eni⟩ := ok_n hI
  refine lv_aload_n hx hb dX3_leave_0 rfl (lv_at hl 0 rfl) ?_
  refine lv_iload_n hx hb dX3_leave_1 rfl (lv_at hl 1 rfl) ?_
  refine vp_callSi (W.runV (As := [.int c0]) (rest := []) ⟨hx, hb, hml, hown, hts⟩ (met_X3_isCustomer l D cA ad S c0) (cwV 1 hts (lw_V q1682 q1684 qs31 q71 q1685) rfl rfl rfl (by decide +kernel) ⟨Nat.le_of_ble_eq_true rfl, Nat.le_of_ble_eq_true rfl⟩) (mPreV hK hM) rfl rfl hl.1 rfl (lv_room (Nat.le_of_ble_eq_true rfl)) dX3_leave_2 ⟨Nat.le_of_ble_eq_true rfl, Nat.le_of_ble_eq_true rfl⟩) (fun r_1 hr_1 => ?_)
  rcases hr_1 with ⟨er_hr_1, hr_1⟩ | ⟨er_hr_1, hr_1⟩
  · subst er_hr_1
    obtain ⟨j0, hj0, hlj0, rfl⟩ := ok_cus hI hr_1
    have nnj0 : (nI j0).toNatClampNeg = j0 := nI_clamp (by omega)
    refine lv_if_ne (tgt := 11) hx hb dX3_leave_5 (by decide) (fun _ => ?_) (fun c_ => absurd c_ (by decide))
    refine lv_aload_n hx hb dX3_leave_11 rfl (lv_at hl 0 rfl) ?_
    refine va_callv (va_runV (As := []) (rest := []) ⟨hx, hb, hml, hown, hts⟩ (met_X3_keeps l D cA ad S ) (cwV 0 hts (lw_V q1622 q1624 qs24 q71 q1625) rfl rfl rfl (by decide +kernel) ⟨Nat.le_of_ble_eq_true rfl, Nat.le_of_ble_eq_true rfl⟩) (mPreV hK hM) rfl rfl hl.1 rfl (lv_room (Nat.le_of_ble_eq_true rfl)) dX3_leave_12 ⟨Nat.le_of_ble_eq_true rfl, Nat.le_of_ble_eq_true rfl⟩) hM.2.2 (fun _ _ h => h) (fun _ h => h) (fun S_3 t H1 locs ht hvm hr_2 hB hz hk hS => ?_)
    have hM : mSt D cA ad (mA ad) s.heap H1 locs S_3 := ⟨by rw [← ht]; exact hB.1, hB.2, hS⟩
    clear hB ht; generalize H1 = H at hM ⊢; clear hz hk hS
    refine W.widen (k := 0) (n := 0) (Nat.le_refl 0) (Nat.le_refl 0) ?_
    refine lv_aload_n hx hb dX3_leave_15 rfl (lv_at hl 0 rfl) ?_
    refine lv_iload_n hx hb dX3_leave_16 rfl (lv_at hl 1 rfl) ?_
    refine lv_iconst (v := 0) hx hb dX3_leave_17 (by decide) ?_
    refine vp_callSi (W.runV (As := [.int (nI j0), .int (nI 0)]) (rest := []) ⟨hx, hb, hml, hown, hts⟩ (met_X3_of l D cA ad S_3 j0 0 (by first | assumption | omega | decide)) (cwV 2 hts (lw_V q1686 q1688 qs32 q71 q1689) rfl rfl rfl (by decide +kernel) ⟨Nat.le_of_ble_eq_true rfl, Nat.le_of_ble_eq_true rfl⟩) (mPreV hK hM) rfl rfl hl.1 rfl (lv_room (Nat.le_of_ble_eq_true rfl)) dX3_leave_18 ⟨Nat.le_of_ble_eq_true rfl, Nat.le_of_ble_eq_true rfl⟩) (fun r_4 hr_4 => ?_)
    rw [show S_3 0 = S 0 from (by rw [hr_2, su_n _ _ (by decide)])] at hr_4
    subst hr_4
    rw [show S 0 (16 + 6 * j0 + 0) = (S 0 (16 + 6 * j0)) from (show S 0 (16 + 6 * j0) = (S 0 (16 + 6 * j0)) from rfl)]
    refine lv_istore_n (lv' := [(2, .int (S 0 (16 + 6 * j0))), (0, .ref (ad 7)), (1, .int (nI j0))]) hx hb dX3_leave_21 rfl hl (by decide) rfl (fun ls hl => ?_)
    refine lv_aload_n hx hb dX3_leave_22 rfl (lv_at hl 1 rfl) ?_
    refine m_get hx hb hts in_X3 hown hK hM 0 (by decide) (hts _ q1571) rfl dX3_leave_23 ?_
    refine lv_bipush (v := 14) hx hb dX3_leave_26 (by decide) ?_
    refine lv_dup2_11 hx hb dX3_leave_28 rfl rfl ?_
    refine m_iald hx hb hK hM 0 1 rfl 14 rfl (by omega) (v := (S 0 14)) (by rw [hr_2, su_n _ _ (by decide)]) dX3_leave_29 (by decide) ?_
    refine lv_iconst (v := 1) hx hb dX3_leave_30 (by decide) ?_
    refine lv_isub hx hb dX3_leave_31 ?_
    refine m_iast hx hb hK hM 0 1 rfl (fun _ => rfl) 14 rfl (by omega) dX3_leave_32 (by decide) (fun H locs S_5 eS_5 hM => ?_)
    refine lv_bipush (v := 6) hx hb dX3_leave_33 (by decide) ?_
    refine lv_iload_n hx hb dX3_leave_35 rfl (lv_at hl 2 rfl) ?_
    refine lv_imul hx hb dX3_leave_36 ?_
    rw [show ((6 : Int32) * (nI j0)) = nI (6 * j0) from (ixM rfl rfl)]
    refine lv_istore_n (lv' := [(3, .int (nI (6 * j0))), (2, .int (S 0 (16 + 6 * j0))), (0, .ref (ad 7)), (1, .int (nI j0))]) hx hb dX3_leave_37 rfl hl (by decide) rfl (fun ls hl => ?_)
    have cut_38 : ∀ (N : Nat) (k : Nat) (hk : 6 * j0 ≤ k) (hk2 : k ≤ 6 * (nc - 1)) (hN : 6 * (nc - 1) - k < N) (H : Heap) (locs : List Loc) (Sc38 : Nat → Nat → Int32) (eSc38 : Sc38 = su S_5 0 (tk_sh (S_5 0) (16 + 6 * j0) 6 (16 + k))) (hM : mSt D cA ad (mA ad) s.heap H locs Sc38), ∀ (ls : Array Slot) (hl : lv_has ls 4 [(3, .int (nI k)), (2, .int (S 0 (16 + 6 * j0))), (0, .ref (ad 7)), (1, .int (nI j0))]), W p l e (headSpec (ws_ yX3_leave cX3_leave 4 (some .int)) (rmL 3 0 0)).room s m ([.ref (ad 7), .int (nI j0)] : List Value).toArray below meth c H locs 0 0 (MQ below (va_Qi (fun (r : Int32) (S' : Nat → Nat → Int32) => r = (tk_leaves (S 0) (nI j0)).1 ∧ tk_top S S' n0 (tk_cp (S 0) (S 1) 284) r (tk_leaves (S 0) (nI j0)).2) (mEnd D cA ad) (mA ad)) ([.ref (ad 7), .int (nI j0)] : List Value).toArray s 0 0 (mA ad)) (F0 m 38 ls []) := by
      intro N
      induction N with
      | zero => intro k hk hk2 hN; exact absurd hN (Nat.not_lt_zero _)
      | succ N ih_38 =>
        intro k hk hk2 hN H locs Sc38 eSc38 hM ls hl
        refine lv_iload_n hx hb dX3_leave_38 rfl (lv_at hl 0 rfl) ?_
        refine lv_bipush (v := 6) hx hb dX3_leave_39 (by decide) ?_
        refine lv_aload_n hx hb dX3_leave_41 rfl (lv_at hl 2 rfl) ?_
        refine m_get hx hb hts in_X3 hown hK hM 0 (by decide) (hts _ q1571) rfl dX3_leave_42 ?_
        refine lv_bipush (v := 14) hx hb dX3_leave_45 (by decide) ?_
        refine m_iald hx hb hK hM 0 1 rfl 14 rfl (by omega) (v := (nI (nc - 1))) (by rw [eSc38, su_s, tk_sh_o _ (by omega), eS_5, su_s, pk_us, enc]; exact ixS rfl rfl (by omega)) dX3_leave_47 (by decide) ?_
        refine lv_imul hx hb dX3_leave_48 ?_
        refine lv_icmp_ge (tgt := 79) hx hb dX3_leave_49 (by decide) (fun c49_b_6 => ?_) (fun c49_b_6 => ?_)
        · skip
          have c49_b_6 := Int32.not_lt.mpr c49_b_6
          have nc49_b_6 := nltF (a := k) (b := (6 * (nc - 1))) rfl (ixM rfl rfl) (by omega) (by omega) c49_b_6
          obtain rfl : k = 6 * (nc - 1) := by omega
          refine lv_aload_n hx hb dX3_leave_79 rfl (lv_at hl 2 rfl) ?_
          refine lv_iload_n hx hb dX3_leave_80 rfl (lv_at hl 1 rfl) ?_
          refine va_calli (va_runV (As := [.int (S 0 (16 + 6 * j0))]) (rest := []) ⟨hx, hb, hml, hown, hts⟩ (met_X3_acted l D cA ad Sc38 n0 (S 0 (16 + 6 * j0)) (by first | assumption | omega | decide) (Eq.trans (by rw [eSc38, su_n _ _ (by decide), eS_5, su_n _ _ (by decide), hr_2, su_n _ _ (by decide)]) hns)) (cwV 1 hts (lw_V q1637 q1639 qs26 q71 q1640) rfl rfl rfl (by decide +kernel) ⟨Nat.le_of_ble_eq_true rfl, Nat.le_of_ble_eq_true rfl⟩) (mPreV hK hM) rfl rfl hl.1 rfl (lv_room (Nat.le_of_ble_eq_true rfl)) dX3_leave_81 ⟨Nat.le_of_ble_eq_true rfl, Nat.le_of_ble_eq_true rfl⟩) hM.2.2 (fun _ _ h => h) (fun _ h => h) (fun r_7 S_8 t H1 locs ht hvm hr_7 hB hz hk hS => ?_)
          have hM : mSt D cA ad (mA ad) s.heap H1 locs S_8 := ⟨by rw [← ht]; exact hB.1, hB.2, hS⟩
          clear hB ht; generalize H1 = H at hM ⊢; clear hz hk hS
          refine W.widen (k := 0) (n := 0) (Nat.le_refl 0) (Nat.le_refl 0) ?_
          obtain ⟨hr_7a, hr_7b⟩ := hr_7
          exact W.iret hx hb hr (fun t ht hW => ⟨⟨_, S_8, rfl, (by subst hr_7a; subst eSc38; subst eS_5; subst hr_2; refine ⟨by simp [tk_leaves, hr_1, nnj0, c49_b_6], tk_topI rfl (tk_smG ?_ (fun j h => by simp [su_n, h])) hr_7b⟩; rw [su_s, su_s]; refine (tk_leaveE (by omega)).trans ?_; simp [tk_leaves, hr_1, nnj0, c49_b_6, enn, su_n]), by rw [ht]; exact hM.1, hM.2.1⟩, hM.2.2.F ht⟩) hM.2.2.2.2 dX3_leave_84
        · skip
          have c49_b_6 := Int32.not_le.mp c49_b_6
          have nc49_b_6 := nltT (a := k) (b := (6 * (nc - 1))) rfl (ixM rfl rfl) (by omega) (by omega) c49_b_6
          refine lv_aload_n hx hb dX3_leave_52 rfl (lv_at hl 2 rfl) ?_
          refine m_get hx hb hts in_X3 hown hK hM 0 (by decide) (hts _ q1571) rfl dX3_leave_53 ?_
          refine lv_bipush (v := 16) hx hb dX3_leave_56 (by decide) ?_
          refine lv_iload_n hx hb dX3_leave_58 rfl (lv_at hl 0 rfl) ?_
          refine lv_iadd hx hb dX3_leave_59 ?_
          refine lv_aload_n hx hb dX3_leave_60 rfl (lv_at hl 2 rfl) ?_
          refine m_get hx hb hts in_X3 hown hK hM 0 (by decide) (hts _ q1571) rfl dX3_leave_61 ?_
          refine lv_bipush (v := 16) hx hb dX3_leave_64 (by decide) ?_
          refine lv_iload_n hx hb dX3_leave_66 rfl (lv_at hl 0 rfl) ?_
          refine lv_iadd hx hb dX3_leave_67 ?_
          refine lv_bipush (v := 6) hx hb dX3_leave_68 (by decide) ?_
          refine lv_iadd hx hb dX3_leave_70 ?_
          refine m_iald hx hb hK hM 0 1 rfl ((16 + k) + 6) (ixA (ixA rfl rfl) rfl) (by omega) (v := (S_5 0 (16 + k + 6))) (by rw [eSc38, su_s, tk_sh_h _ (by omega)]) dX3_leave_71 (by decide) ?_
          refine m_iast hx hb hK hM 0 1 rfl (fun _ => rfl) (16 + k) (ixA rfl rfl) (by omega) dX3_leave_72 (by decide) (fun H locs S_9 eS_9 hM => ?_)
          refine lv_iinc (v := (nI (k + 1))) (lv' := [(3, .int (nI (k + 1))), (2, .int (S 0 (16 + 6 * j0))), (0, .ref (ad 7)), (1, .int (nI j0))]) hx hb dX3_leave_73 hl (k := 0) rfl (ixA rfl rfl) (by decide) rfl (fun ls hl => ?_)
          refine lv_goto (tgt := 38) hx hb dX3_leave_76 (by decide) ?_
          exact ih_38 (k + 1) (by omega) (by omega) (by omega) _ _ _ (by rw [eS_9, eSc38, su_su, su_s]; rw [show 16 + (k + 1) = 16 + k + 1 by omega, ← tk_sh_s _ _ _ _ (by omega)]) hM ls (lv_sub hl [0, 1, 2, 3] rfl)
    exact cut_38 _ (6 * j0) (by omega) (by omega) (Nat.lt_succ_self _) _ _ _ (by rw [tk_sh_0, su_self]) hM ls (lv_sub hl [0, 1, 2, 3] rfl)
  · subst er_hr_1
    refine lv_if_ne (tgt := 11) hx hb dX3_leave_5 (by decide) (fun c_ => absurd (by decide) c_) (fun _ => ?_)
    refine lv_ldc (v := -100001) hx hb hown (hts _ q1636) dX3_leave_8 ?_
    exact W.iret hx hb hr (fun t ht hW => ⟨⟨_, S, rfl, (by exact ⟨by simp [tk_leaves, hr_1], tk_topR (by decide) (by simp [tk_leaves, hr_1])⟩), by rw [ht]; exact hM.1, hM.2.1⟩, hM.2.2.F ht⟩) hM.2.2.2.2 dX3_leave_10

set_option maxHeartbeats 4000000 in
set_option maxRecDepth 100000 in
theorem met_X3_removePrize (l : Launch) {B : Nat} (D : va_G) (cA : Nat → ClassId) (ad : Nat → Nat) (S : Nat → Nat → Int32) (c0 : Int32) (n0 : Nat) (hI : tk_ok B (S 0)) (hn : n0 ≤ 5) (hns : S 7 0 = nI n0) : Met l yX3_removePrize (ws_ yX3_removePrize cX3_removePrize 4 (some .int)) (rmL 3 0 0) (mPre D cA ad S [.int c0]) (va_Qi (fun (r : Int32) (S' : Nat → Nat → Int32) => r = (tk_rems (S 0) c0).1 ∧ tk_top S S' n0 (tk_cp (S 0) (S 1) 284) r (tk_rems (S 0) c0).2) (mEnd D cA ad) (mA ad)) 0 0 (mA ad) := by
  refine Met.ofW (cc := cX3_removePrize) (maxL := 4) (ret := (some .int)) (by decide) rfl ?_
  intro p e s m args below meth c s₁ Bd hml hv
  obtain ⟨rfl, hP, hK, hD⟩ := hv
  have hx := Bd.exec
  have hb := Bd.bytes
  have hr := Bd.returns
  have hts := atoms_spec (ws := (ws_ yX3_removePrize cX3_removePrize 4 (some .int))) Bd.pre
  have hts : ∀ w ∈ lw_all, w.before _ s = true := fun w h => hts w (List.mem_cons_of_mem _ h)
  have hown : s.vm.findClass RX3 = some m.cls := findClass_of_methodNamed Bd.named
  have hlocks := Bd.notSynchronized
  have hM : mSt D cA ad (mA ad) s.heap s.heap [] S := ⟨hP, hD, va_S.rf⟩
  have hl := lv_entry ([.ref (ad 7), .int c0]) (n := 4) (Nat.le_of_ble_eq_true rfl)
  rw [lg_entry_eq]
  generalize (lg_sl ([.ref (ad 7), .int c0]) ++ List.replicate (4 - (lg_sl ([.ref (ad 7), .int c0])).length) Slot.unset).toArray = ls at hl ⊢
  have hl : lv_has ls 4 [(0, .ref (ad 7)), (1, .int c0)] := hl
  obtain ⟨np, hnp, enp, ennp, enip⟩ := ok_p hI
  refine lv_aload_n hx hb dX3_removePrize_0 rfl (lv_at hl 0 rfl) ?_
  refine lv_iload_n hx hb dX3_removePrize_1 rfl (lv_at hl 1 rfl) ?_
  refine vp_callSi (W.runV (As := [.int c0]) (rest := []) ⟨hx, hb, hml, hown, hts⟩ (met_X3_isPrize l D cA ad S c0) (cwV 1 hts (lw_V q1748 q1750 qs41 q71 q1751) rfl rfl rfl (by decide +kernel) ⟨Nat.le_of_ble_eq_true rfl, Nat.le_of_ble_eq_true rfl⟩) (mPreV hK hM) rfl rfl hl.1 rfl (lv_room (Nat.le_of_ble_eq_true rfl)) dX3_removePrize_2 ⟨Nat.le_of_ble_eq_true rfl, Nat.le_of_ble_eq_true rfl⟩) (fun r_1 hr_1 => ?_)
  rcases hr_1 with ⟨er_hr_1, hr_1⟩ | ⟨er_hr_1, hr_1⟩
  · subst er_hr_1
    obtain ⟨q0, hq0, hlq0, rfl⟩ := ok_pri hI hr_1
    have nnq0 : (nI q0).toNatClampNeg = q0 := nI_clamp (by omega)
    refine lv_if_ne (tgt := 11) hx hb dX3_removePrize_5 (by decide) (fun _ => ?_) (fun c_ => absurd c_ (by decide))
    refine lv_aload_n hx hb dX3_removePrize_11 rfl (lv_at hl 0 rfl) ?_
    refine va_callv (va_runV (As := []) (rest := []) ⟨hx, hb, hml, hown, hts⟩ (met_X3_keeps l D cA ad S ) (cwV 0 hts (lw_V q1622 q1624 qs24 q71 q1625) rfl rfl rfl (by decide +kernel) ⟨Nat.le_of_ble_eq_true rfl, Nat.le_of_ble_eq_true rfl⟩) (mPreV hK hM) rfl rfl hl.1 rfl (lv_room (Nat.le_of_ble_eq_true rfl)) dX3_removePrize_12 ⟨Nat.le_of_ble_eq_true rfl, Nat.le_of_ble_eq_true rfl⟩) hM.2.2 (fun _ _ h => h) (fun _ h => h) (fun S_3 t H1 locs ht hvm hr_2 hB hz hk hS => ?_)
    have hM : mSt D cA ad (mA ad) s.heap H1 locs S_3 := ⟨by rw [← ht]; exact hB.1, hB.2, hS⟩
    clear hB ht; generalize H1 = H at hM ⊢; clear hz hk hS
    refine W.widen (k := 0) (n := 0) (Nat.le_refl 0) (Nat.le_refl 0) ?_
    refine lv_aload_n hx hb dX3_removePrize_15 rfl (lv_at hl 0 rfl) ?_
    refine lv_iload_n hx hb dX3_removePrize_16 rfl (lv_at hl 1 rfl) ?_
    refine lv_iconst (v := 2) hx hb dX3_removePrize_17 (by decide) ?_
    refine vp_callSi (W.runV (As := [.int (nI q0), .int (nI 2)]) (rest := []) ⟨hx, hb, hml, hown, hts⟩ (met_X3_priced l D cA ad S_3 q0 2 (by first | assumption | omega | decide)) (cwV 2 hts (lw_V q1752 q1754 qs42 q71 q1755) rfl rfl rfl (by decide +kernel) ⟨Nat.le_of_ble_eq_true rfl, Nat.le_of_ble_eq_true rfl⟩) (mPreV hK hM) rfl rfl hl.1 rfl (lv_room (Nat.le_of_ble_eq_true rfl)) dX3_removePrize_18 ⟨Nat.le_of_ble_eq_true rfl, Nat.le_of_ble_eq_true rfl⟩) (fun r_4 hr_4 => ?_)
    rw [show S_3 0 = S 0 from (by rw [hr_2, su_n _ _ (by decide)])] at hr_4
    subst hr_4
    refine lv_istore_n (lv' := [(2, .int (S 0 (52 + 7 * q0 + 2))), (0, .ref (ad 7)), (1, .int (nI q0))]) hx hb dX3_removePrize_21 rfl hl (by decide) rfl (fun ls hl => ?_)
    refine lv_aload_n hx hb dX3_removePrize_22 rfl (lv_at hl 1 rfl) ?_
    refine m_get hx hb hts in_X3 hown hK hM 0 (by decide) (hts _ q1571) rfl dX3_removePrize_23 ?_
    refine lv_bipush (v := 15) hx hb dX3_removePrize_26 (by decide) ?_
    refine lv_dup2_11 hx hb dX3_removePrize_28 rfl rfl ?_
    refine m_iald hx hb hK hM 0 1 rfl 15 rfl (by omega) (v := (S 0 15)) (by rw [hr_2, su_n _ _ (by decide)]) dX3_removePrize_29 (by decide) ?_
    refine lv_iconst (v := 1) hx hb dX3_removePrize_30 (by decide) ?_
    refine lv_isub hx hb dX3_removePrize_31 ?_
    refine m_iast hx hb hK hM 0 1 rfl (fun _ => rfl) 15 rfl (by omega) dX3_removePrize_32 (by decide) (fun H locs S_5 eS_5 hM => ?_)
    refine lv_bipush (v := 7) hx hb dX3_removePrize_33 (by decide) ?_
    refine lv_iload_n hx hb dX3_removePrize_35 rfl (lv_at hl 2 rfl) ?_
    refine lv_imul hx hb dX3_removePrize_36 ?_
    rw [show ((7 : Int32) * (nI q0)) = nI (7 * q0) from (ixM rfl rfl)]
    refine lv_istore_n (lv' := [(3, .int (nI (7 * q0))), (2, .int (S 0 (52 + 7 * q0 + 2))), (0, .ref (ad 7)), (1, .int (nI q0))]) hx hb dX3_removePrize_37 rfl hl (by decide) rfl (fun ls hl => ?_)
    have cut_38 : ∀ (N : Nat) (k : Nat) (hk : 7 * q0 ≤ k) (hk2 : k ≤ 7 * (np - 1)) (hN : 7 * (np - 1) - k < N) (H : Heap) (locs : List Loc) (Sc38 : Nat → Nat → Int32) (eSc38 : Sc38 = su S_5 0 (tk_sh (S_5 0) (52 + 7 * q0) 7 (52 + k))) (hM : mSt D cA ad (mA ad) s.heap H locs Sc38), ∀ (ls : Array Slot) (hl : lv_has ls 4 [(3, .int (nI k)), (2, .int (S 0 (52 + 7 * q0 + 2))), (0, .ref (ad 7)), (1, .int (nI q0))]), W p l e (headSpec (ws_ yX3_removePrize cX3_removePrize 4 (some .int)) (rmL 3 0 0)).room s m ([.ref (ad 7), .int (nI q0)] : List Value).toArray below meth c H locs 0 0 (MQ below (va_Qi (fun (r : Int32) (S' : Nat → Nat → Int32) => r = (tk_rems (S 0) (nI q0)).1 ∧ tk_top S S' n0 (tk_cp (S 0) (S 1) 284) r (tk_rems (S 0) (nI q0)).2) (mEnd D cA ad) (mA ad)) ([.ref (ad 7), .int (nI q0)] : List Value).toArray s 0 0 (mA ad)) (F0 m 38 ls []) := by
      intro N
      induction N with
      | zero => intro k hk hk2 hN; exact absurd hN (Nat.not_lt_zero _)
      | succ N ih_38 =>
        intro k hk hk2 hN H locs Sc38 eSc38 hM ls hl
        refine lv_iload_n hx hb dX3_removePrize_38 rfl (lv_at hl 0 rfl) ?_
        refine lv_bipush (v := 7) hx hb dX3_removePrize_39 (by decide) ?_
        refine lv_aload_n hx hb dX3_removePrize_41 rfl (lv_at hl 2 rfl) ?_
        refine m_get hx hb hts in_X3 hown hK hM 0 (by decide) (hts _ q1571) rfl dX3_removePrize_42 ?_
        refine lv_bipush (v := 15) hx hb dX3_removePrize_45 (by decide) ?_
        refine m_iald hx hb hK hM 0 1 rfl 15 rfl (by omega) (v := (nI (np - 1))) (by rw [eSc38, su_s, tk_sh_o _ (by omega), eS_5, su_s, pk_us, enp]; exact ixS rfl rfl (by omega)) dX3_removePrize_47 (by decide) ?_
        refine lv_imul hx hb dX3_removePrize_48 ?_
        refine lv_icmp_ge (tgt := 79) hx hb dX3_removePrize_49 (by decide) (fun c49_b_6 => ?_) (fun c49_b_6 => ?_)
        · skip
          have c49_b_6 := Int32.not_lt.mpr c49_b_6
          have nc49_b_6 := nltF (a := k) (b := (7 * (np - 1))) rfl (ixM rfl rfl) (by omega) (by omega) c49_b_6
          obtain rfl : k = 7 * (np - 1) := by omega
          refine lv_aload_n hx hb dX3_removePrize_79 rfl (lv_at hl 2 rfl) ?_
          refine lv_iload_n hx hb dX3_removePrize_80 rfl (lv_at hl 1 rfl) ?_
          refine va_calli (va_runV (As := [.int (S 0 (52 + 7 * q0 + 2))]) (rest := []) ⟨hx, hb, hml, hown, hts⟩ (met_X3_acted l D cA ad Sc38 n0 (S 0 (52 + 7 * q0 + 2)) (by first | assumption | omega | decide) (Eq.trans (by rw [eSc38, su_n _ _ (by decide), eS_5, su_n _ _ (by decide), hr_2, su_n _ _ (by decide)]) hns)) (cwV 1 hts (lw_V q1637 q1639 qs26 q71 q1640) rfl rfl rfl (by decide +kernel) ⟨Nat.le_of_ble_eq_true rfl, Nat.le_of_ble_eq_true rfl⟩) (mPreV hK hM) rfl rfl hl.1 rfl (lv_room (Nat.le_of_ble_eq_true rfl)) dX3_removePrize_81 ⟨Nat.le_of_ble_eq_true rfl, Nat.le_of_ble_eq_true rfl⟩) hM.2.2 (fun _ _ h => h) (fun _ h => h) (fun r_7 S_8 t H1 locs ht hvm hr_7 hB hz hk hS => ?_)
          have hM : mSt D cA ad (mA ad) s.heap H1 locs S_8 := ⟨by rw [← ht]; exact hB.1, hB.2, hS⟩
          clear hB ht; generalize H1 = H at hM ⊢; clear hz hk hS
          refine W.widen (k := 0) (n := 0) (Nat.le_refl 0) (Nat.le_refl 0) ?_
          obtain ⟨hr_7a, hr_7b⟩ := hr_7
          exact W.iret hx hb hr (fun t ht hW => ⟨⟨_, S_8, rfl, (by subst hr_7a; subst eSc38; subst eS_5; subst hr_2; refine ⟨by simp [tk_rems, hr_1, nnq0, c49_b_6], tk_topI rfl (tk_smG ?_ (fun j h => by simp [su_n, h])) hr_7b⟩; rw [su_s, su_s]; refine (tk_remE (by omega)).trans ?_; simp [tk_rems, hr_1, nnq0, c49_b_6, ennp, su_n]), by rw [ht]; exact hM.1, hM.2.1⟩, hM.2.2.F ht⟩) hM.2.2.2.2 dX3_removePrize_84
        · skip
          have c49_b_6 := Int32.not_le.mp c49_b_6
          have nc49_b_6 := nltT (a := k) (b := (7 * (np - 1))) rfl (ixM rfl rfl) (by omega) (by omega) c49_b_6
          refine lv_aload_n hx hb dX3_removePrize_52 rfl (lv_at hl 2 rfl) ?_
          refine m_get hx hb hts in_X3 hown hK hM 0 (by decide) (hts _ q1571) rfl dX3_removePrize_53 ?_
          refine lv_bipush (v := 52) hx hb dX3_removePrize_56 (by decide) ?_
          refine lv_iload_n hx hb dX3_removePrize_58 rfl (lv_at hl 0 rfl) ?_
          refine lv_iadd hx hb dX3_removePrize_59 ?_
          refine lv_aload_n hx hb dX3_removePrize_60 rfl (lv_at hl 2 rfl) ?_
          refine m_get hx hb hts in_X3 hown hK hM 0 (by decide) (hts _ q1571) rfl dX3_removePrize_61 ?_
          refine lv_bipush (v := 52) hx hb dX3_removePrize_64 (by decide) ?_
          refine lv_iload_n hx hb dX3_removePrize_66 rfl (lv_at hl 0 rfl) ?_
          refine lv_iadd hx hb dX3_removePrize_67 ?_
          refine lv_bipush (v := 7) hx hb dX3_removePrize_68 (by decide) ?_
          refine lv_iadd hx hb dX3_removePrize_70 ?_
          refine m_iald hx hb hK hM 0 1 rfl ((52 + k) + 7) (ixA (ixA rfl rfl) rfl) (by omega) (v := (S_5 0 (52 + k + 7))) (by rw [eSc38, su_s, tk_sh_h _ (by omega)]) dX3_removePrize_71 (by decide) ?_
          refine m_iast hx hb hK hM 0 1 rfl (fun _ => rfl) (52 + k) (ixA rfl rfl) (by omega) dX3_removePrize_72 (by decide) (fun H locs S_9 eS_9 hM => ?_)
          refine lv_iinc (v := (nI (k + 1))) (lv' := [(3, .int (nI (k + 1))), (2, .int (S 0 (52 + 7 * q0 + 2))), (0, .ref (ad 7)), (1, .int (nI q0))]) hx hb dX3_removePrize_73 hl (k := 0) rfl (ixA rfl rfl) (by decide) rfl (fun ls hl => ?_)
          refine lv_goto (tgt := 38) hx hb dX3_removePrize_76 (by decide) ?_
          exact ih_38 (k + 1) (by omega) (by omega) (by omega) _ _ _ (by rw [eS_9, eSc38, su_su, su_s]; rw [show 52 + (k + 1) = 52 + k + 1 by omega, ← tk_sh_s _ _ _ _ (by omega)]) hM ls (lv_sub hl [0, 1, 2, 3] rfl)
    exact cut_38 _ (7 * q0) (by omega) (by omega) (Nat.lt_succ_self _) _ _ _ (by rw [tk_sh_0, su_self]) hM ls (lv_sub hl [0, 1, 2, 3] rfl)
  · subst er_hr_1
    refine lv_if_ne (tgt := 11) hx hb dX3_removePrize_5 (by decide) (fun c_ => absurd (by decide) c_) (fun _ => ?_)
    refine lv_ldc (v := -100001) hx hb hown (hts _ q1636) dX3_removePrize_8 ?_
    exact W.iret hx hb hr (fun t ht hW => ⟨⟨_, S, rfl, (by exact ⟨by simp [tk_rems, hr_1], tk_topR (by decide) (by simp [tk_rems, hr_1])⟩), by rw [ht]; exact hM.1, hM.2.1⟩, hM.2.2.F ht⟩) hM.2.2.2.2 dX3_removePrize_10

set_option maxHeartbeats 4000000 in
set_option maxRecDepth 100000 in
theorem met_X3_take (l : Launch) {B : Nat} (D : va_G) (cA : Nat → ClassId) (ad : Nat → Nat) (S : Nat → Nat → Int32) (s0 : Int32) (n0 : Nat) (hI : tk_ok B (S 0)) (hn : n0 ≤ 5) (hns : S 7 0 = nI n0) : Met l yX3_take (ws_ yX3_take cX3_take 4 (some .int)) (rmL 3 0 0) (mPre D cA ad S [.int s0]) (va_Qi (fun (r : Int32) (S' : Nat → Nat → Int32) => r = (tk_takes (S 0) s0).1 ∧ tk_top S S' n0 (tk_cp (S 0) (S 1) 284) r (tk_takes (S 0) s0).2) (mEnd D cA ad) (mA ad)) 0 0 (mA ad) := by
  refine Met.ofW (cc := cX3_take) (maxL := 4) (ret := (some .int)) (by decide) rfl ?_
  intro p e s m args below meth c s₁ Bd hml hv
  obtain ⟨rfl, hP, hK, hD⟩ := hv
  have hx := Bd.exec
  have hb := Bd.bytes
  have hr := Bd.returns
  have hts := atoms_spec (ws := (ws_ yX3_take cX3_take 4 (some .int))) Bd.pre
  have hts : ∀ w ∈ lw_all, w.before _ s = true := fun w h => hts w (List.mem_cons_of_mem _ h)
  have hown : s.vm.findClass RX3 = some m.cls := findClass_of_methodNamed Bd.named
  have hlocks := Bd.notSynchronized
  have hM : mSt D cA ad (mA ad) s.heap s.heap [] S := ⟨hP, hD, va_S.rf⟩
  have hl := lv_entry ([.ref (ad 7), .int s0]) (n := 4) (Nat.le_of_ble_eq_true rfl)
  rw [lg_entry_eq]
  generalize (lg_sl ([.ref (ad 7), .int s0]) ++ List.replicate (4 - (lg_sl ([.ref (ad 7), .int s0])).length) Slot.unset).toArray = ls at hl ⊢
  have hl : lv_has ls 4 [(0, .ref (ad 7)), (1, .int s0)] := hl
  obtain ⟨nc, hnc, enc, enn, eni⟩ := ok_n hI
  refine lv_iload_n hx hb dX3_take_0 rfl (lv_at hl 1 rfl) ?_
  refine lv_iconst (v := 0) hx hb dX3_take_1 (by decide) ?_
  refine lv_iconst (v := 1) hx hb dX3_take_2 (by decide) ?_
  refine vp_callSi (W.runS (As := [.int s0, .int (0 : Int32), .int (1 : Int32)]) (rest := []) ⟨hx, hb, hml, hown, hts⟩ (met_X3_in l s0 (0 : Int32) (1 : Int32)) (va_cwS 3 hts (lw_S q1633 q1634 q71 q1635) rfl rfl rfl (by decide +kernel) ⟨Nat.le_of_ble_eq_true rfl, Nat.le_of_ble_eq_true rfl⟩) ⟨fun a U g mk q => q, fun U hU hW => ⟨rfl, trivial⟩⟩ rfl rfl hl.1 rfl (lv_room (Nat.le_of_ble_eq_true rfl)) dX3_take_3 ⟨Nat.le_of_ble_eq_true rfl, Nat.le_of_ble_eq_true rfl⟩) (fun r_1 hr_1 => ?_)
  rcases hr_1 with ⟨er_hr_1, hr_1⟩ | ⟨er_hr_1, hr_1⟩
  · subst er_hr_1
    obtain ⟨s1, hs1, rfl⟩ := tk_inN (n := 1) (by decide) hr_1
    have nns1 : (nI s1).toNatClampNeg = s1 := nI_clamp (by omega)
    refine lv_if_ne (tgt := 12) hx hb dX3_take_6 (by decide) (fun _ => ?_) (fun c_ => absurd c_ (by decide))
    refine lv_aload_n hx hb dX3_take_12 rfl (lv_at hl 0 rfl) ?_
    refine va_callv (va_runV (As := []) (rest := []) ⟨hx, hb, hml, hown, hts⟩ (met_X3_keeps l D cA ad S ) (cwV 0 hts (lw_V q1622 q1624 qs24 q71 q1625) rfl rfl rfl (by decide +kernel) ⟨Nat.le_of_ble_eq_true rfl, Nat.le_of_ble_eq_true rfl⟩) (mPreV hK hM) rfl rfl hl.1 rfl (lv_room (Nat.le_of_ble_eq_true rfl)) dX3_take_13 ⟨Nat.le_of_ble_eq_true rfl, Nat.le_of_ble_eq_true rfl⟩) hM.2.2 (fun _ _ h => h) (fun _ h => h) (fun S_3 t H1 locs ht hvm hr_2 hB hz hk hS => ?_)
    have hM : mSt D cA ad (mA ad) s.heap H1 locs S_3 := ⟨by rw [← ht]; exact hB.1, hB.2, hS⟩
    clear hB ht; generalize H1 = H at hM ⊢; clear hz hk hS
    refine W.widen (k := 0) (n := 0) (Nat.le_refl 0) (Nat.le_refl 0) ?_
    refine lv_bipush (v := 94) hx hb dX3_take_16 (by decide) ?_
    refine lv_bipush (v := 95) hx hb dX3_take_18 (by decide) ?_
    refine lv_iload_n hx hb dX3_take_20 rfl (lv_at hl 1 rfl) ?_
    refine lv_imul hx hb dX3_take_21 ?_
    refine lv_iadd hx hb dX3_take_22 ?_
    rw [show ((94 : Int32) + ((95 : Int32) * (nI s1))) = nI (94 + (95 * s1)) from (ixA rfl (ixM rfl rfl))]
    refine lv_istore_n (lv' := [(2, .int (nI (94 + (95 * s1)))), (0, .ref (ad 7)), (1, .int (nI s1))]) hx hb dX3_take_23 rfl hl (by decide) rfl (fun ls hl => ?_)
    refine lv_aload_n hx hb dX3_take_24 rfl (lv_at hl 1 rfl) ?_
    refine m_get hx hb hts in_X3 hown hK hM 0 (by decide) (hts _ q1571) rfl dX3_take_25 ?_
    refine lv_iload_n hx hb dX3_take_28 rfl (lv_at hl 0 rfl) ?_
    refine lv_iconst (v := 1) hx hb dX3_take_29 (by decide) ?_
    refine m_iast hx hb hK hM 0 1 rfl (fun _ => rfl) (94 + (95 * s1)) rfl (by omega) dX3_take_30 (by decide) (fun H locs S_4 eS_4 hM => ?_)
    refine lv_iconst (v := 0) hx hb dX3_take_31 (by decide) ?_
    refine lv_istore_n (lv' := [(3, .int (0 : Int32)), (2, .int (nI (94 + (95 * s1)))), (0, .ref (ad 7)), (1, .int (nI s1))]) hx hb dX3_take_32 rfl hl (by decide) rfl (fun ls hl => ?_)
    have cut_33 : ∀ (N : Nat) (k : Nat) (hk : k ≤ 94) (hN : 94 - k < N) (H : Heap) (locs : List Loc) (Sc33 : Nat → Nat → Int32) (eSc33 : Sc33 = su S_4 0 (tk_pt (S_4 0) (S 0) (94 + 95 * s1 + 1) k)) (hM : mSt D cA ad (mA ad) s.heap H locs Sc33), ∀ (ls : Array Slot) (hl : lv_has ls 4 [(3, .int (nI k)), (2, .int (nI (94 + (95 * s1)))), (0, .ref (ad 7)), (1, .int (nI s1))]), W p l e (headSpec (ws_ yX3_take cX3_take 4 (some .int)) (rmL 3 0 0)).room s m ([.ref (ad 7), .int (nI s1)] : List Value).toArray below meth c H locs 0 0 (MQ below (va_Qi (fun (r : Int32) (S' : Nat → Nat → Int32) => r = (tk_takes (S 0) (nI s1)).1 ∧ tk_top S S' n0 (tk_cp (S 0) (S 1) 284) r (tk_takes (S 0) (nI s1)).2) (mEnd D cA ad) (mA ad)) ([.ref (ad 7), .int (nI s1)] : List Value).toArray s 0 0 (mA ad)) (F0 m 33 ls []) := by
      intro N
      induction N with
      | zero => intro k hk hN; exact absurd hN (Nat.not_lt_zero _)
      | succ N ih_33 =>
        intro k hk hN H locs Sc33 eSc33 hM ls hl
        refine lv_iload_n hx hb dX3_take_33 rfl (lv_at hl 0 rfl) ?_
        refine lv_bipush (v := 94) hx hb dX3_take_34 (by decide) ?_
        refine lv_icmp_ge (tgt := 61) hx hb dX3_take_36 (by decide) (fun c36_b_5 => ?_) (fun c36_b_5 => ?_)
        · skip
          have c36_b_5 := Int32.not_lt.mpr c36_b_5
          have nc36_b_5 := nltF (a := k) (b := 94) rfl rfl (by omega) (by omega) c36_b_5
          obtain rfl : k = 94 := by omega
          have e14 : Sc33 0 14 = nI nc := by rw [eSc33, su_s, tk_pt_o _ _ (by omega), eS_4, su_s, pk_un (by omega), hr_2, su_n _ _ (by decide)]; exact enc
          have ePT : tk_pts (Sc33 0) = tk_pts (S 0) := tk_pts_c (by omega) (fun i hi => by rw [eSc33, su_s, tk_pt_o _ _ (by omega), eS_4, su_s, pk_un (by omega), hr_2, su_n _ _ (by decide)])
          refine lv_aload_n hx hb dX3_take_61 rfl (lv_at hl 2 rfl) ?_
          refine lv_aload_n hx hb dX3_take_62 rfl (lv_at hl 2 rfl) ?_
          refine vp_callSi (W.runV (As := []) (rest := [.ref (ad 7)]) ⟨hx, hb, hml, hown, hts⟩ (met_X3_pointsOfAll l D cA ad Sc33 nc hnc e14) (cwV 0 hts (lw_V q1776 q1778 qs44 q71 q1779) rfl rfl rfl (by decide +kernel) ⟨Nat.le_of_ble_eq_true rfl, Nat.le_of_ble_eq_true rfl⟩) (mPreV hK hM) rfl rfl hl.1 rfl (lv_room (Nat.le_of_ble_eq_true rfl)) dX3_take_63 ⟨Nat.le_of_ble_eq_true rfl, Nat.le_of_ble_eq_true rfl⟩) (fun r_6 hr_6 => ?_)
          subst hr_6
          refine va_calli (va_runV (As := [.int (tk_pts (Sc33 0))]) (rest := []) ⟨hx, hb, hml, hown, hts⟩ (met_X3_acted l D cA ad Sc33 n0 (tk_pts (Sc33 0)) (by first | assumption | omega | decide) (Eq.trans (by rw [eSc33, su_n _ _ (by decide), eS_4, su_n _ _ (by decide), hr_2, su_n _ _ (by decide)]) hns)) (cwV 1 hts (lw_V q1637 q1639 qs26 q71 q1640) rfl rfl rfl (by decide +kernel) ⟨Nat.le_of_ble_eq_true rfl, Nat.le_of_ble_eq_true rfl⟩) (mPreV hK hM) rfl rfl hl.1 rfl (lv_room (Nat.le_of_ble_eq_true rfl)) dX3_take_66 ⟨Nat.le_of_ble_eq_true rfl, Nat.le_of_ble_eq_true rfl⟩) hM.2.2 (fun _ _ h => h) (fun _ h => h) (fun r_7 S_8 t H1 locs ht hvm hr_7 hB hz hk hS => ?_)
          have hM : mSt D cA ad (mA ad) s.heap H1 locs S_8 := ⟨by rw [← ht]; exact hB.1, hB.2, hS⟩
          clear hB ht; generalize H1 = H at hM ⊢; clear hz hk hS
          refine W.widen (k := 0) (n := 0) (Nat.le_refl 0) (Nat.le_refl 0) ?_
          obtain ⟨hr_7a, hr_7b⟩ := hr_7
          exact W.iret hx hb hr (fun t ht hW => ⟨⟨_, S_8, rfl, (by rw [ePT] at *; subst hr_7a; subst eSc33; subst eS_4; subst hr_2; refine ⟨by simp [tk_takes, hr_1, nns1, c36_b_5], tk_topI rfl (tk_smG ?_ (fun j h => by simp [su_n, h])) hr_7b⟩; rw [su_s, su_s]; refine tk_takeE.trans ?_; simp [tk_takes, hr_1, nns1, c36_b_5, su_n]), by rw [ht]; exact hM.1, hM.2.1⟩, hM.2.2.F ht⟩) hM.2.2.2.2 dX3_take_69
        · skip
          have c36_b_5 := Int32.not_le.mp c36_b_5
          have nc36_b_5 := nltT (a := k) (b := 94) rfl rfl (by omega) (by omega) c36_b_5
          refine lv_aload_n hx hb dX3_take_39 rfl (lv_at hl 2 rfl) ?_
          refine m_get hx hb hts in_X3 hown hK hM 0 (by decide) (hts _ q1571) rfl dX3_take_40 ?_
          refine lv_iload_n hx hb dX3_take_43 rfl (lv_at hl 1 rfl) ?_
          refine lv_iconst (v := 1) hx hb dX3_take_44 (by decide) ?_
          refine lv_iadd hx hb dX3_take_45 ?_
          refine lv_iload_n hx hb dX3_take_46 rfl (lv_at hl 0 rfl) ?_
          refine lv_iadd hx hb dX3_take_47 ?_
          refine lv_aload_n hx hb dX3_take_48 rfl (lv_at hl 2 rfl) ?_
          refine m_get hx hb hts in_X3 hown hK hM 0 (by decide) (hts _ q1571) rfl dX3_take_49 ?_
          refine lv_iload_n hx hb dX3_take_52 rfl (lv_at hl 0 rfl) ?_
          refine m_iald hx hb hK hM 0 1 rfl k rfl (by omega) (v := (S 0 k)) (by rw [eSc33, su_s, tk_pt_o _ _ (by omega), eS_4, su_s, pk_un (by omega), hr_2, su_n _ _ (by decide)]) dX3_take_53 (by decide) ?_
          refine m_iast hx hb hK hM 0 1 rfl (fun _ => rfl) (((94 + (95 * s1)) + 1) + k) (ixA (ixA rfl rfl) rfl) (by omega) dX3_take_54 (by decide) (fun H locs S_9 eS_9 hM => ?_)
          refine lv_iinc (v := (nI (k + 1))) (lv' := [(3, .int (nI (k + 1))), (2, .int (nI (94 + (95 * s1)))), (0, .ref (ad 7)), (1, .int (nI s1))]) hx hb dX3_take_55 hl (k := 0) rfl (ixA rfl rfl) (by decide) rfl (fun ls hl => ?_)
          refine lv_goto (tgt := 33) hx hb dX3_take_58 (by decide) ?_
          exact ih_33 (k + 1) (by omega) (by omega) _ _ _ (by rw [eS_9, eSc33, su_su, su_s, ← tk_pt_s]) hM ls (lv_sub hl [0, 1, 2, 3] rfl)
    exact cut_33 _ 0 (by omega) (Nat.lt_succ_self _) _ _ _ (by rw [tk_pt_0, su_self]) hM ls (lv_sub hl [0, 1, 2, 3] rfl)
  · subst er_hr_1
    refine lv_if_ne (tgt := 12) hx hb dX3_take_6 (by decide) (fun c_ => absurd (by decide) c_) (fun _ => ?_)
    refine lv_ldc (v := -100001) hx hb hown (hts _ q1636) dX3_take_9 ?_
    exact W.iret hx hb hr (fun t ht hW => ⟨⟨_, S, rfl, (by exact ⟨by simp [tk_takes, hr_1], tk_topR (by decide) (by simp [tk_takes, hr_1])⟩), by rw [ht]; exact hM.1, hM.2.1⟩, hM.2.2.F ht⟩) hM.2.2.2.2 dX3_take_11

set_option maxHeartbeats 4000000 in
set_option maxRecDepth 100000 in
theorem met_X3_restore (l : Launch) {B : Nat} (D : va_G) (cA : Nat → ClassId) (ad : Nat → Nat) (S : Nat → Nat → Int32) (s0 : Int32) (n0 : Nat) (hI : tk_ok B (S 0)) (hn : n0 ≤ 5) (hns : S 7 0 = nI n0) (hJ : ∀ s, s < 2 → ¬ S 0 (94 + 95 * s) = 0 → tk_ok B (fun i => S 0 (95 + 95 * s + i))) : Met l yX3_restore (ws_ yX3_restore cX3_restore 4 (some .int)) (rmL 3 0 0) (mPre D cA ad S [.int s0]) (va_Qi (fun (r : Int32) (S' : Nat → Nat → Int32) => r = (tk_rests (S 0) s0).1 ∧ tk_top S S' n0 (tk_cp (S 0) (S 1) 284) r (tk_rests (S 0) s0).2) (mEnd D cA ad) (mA ad)) 0 0 (mA ad) := by
  refine Met.ofW (cc := cX3_restore) (maxL := 4) (ret := (some .int)) (by decide) rfl ?_
  intro p e s m args below meth c s₁ Bd hml hv
  obtain ⟨rfl, hP, hK, hD⟩ := hv
  have hx := Bd.exec
  have hb := Bd.bytes
  have hr := Bd.returns
  have hts := atoms_spec (ws := (ws_ yX3_restore cX3_restore 4 (some .int))) Bd.pre
  have hts : ∀ w ∈ lw_all, w.before _ s = true := fun w h => hts w (List.mem_cons_of_mem _ h)
  have hown : s.vm.findClass RX3 = some m.cls := findClass_of_methodNamed Bd.named
  have hlocks := Bd.notSynchronized
  have hM : mSt D cA ad (mA ad) s.heap s.heap [] S := ⟨hP, hD, va_S.rf⟩
  have hl := lv_entry ([.ref (ad 7), .int s0]) (n := 4) (Nat.le_of_ble_eq_true rfl)
  rw [lg_entry_eq]
  generalize (lg_sl ([.ref (ad 7), .int s0]) ++ List.replicate (4 - (lg_sl ([.ref (ad 7), .int s0])).length) Slot.unset).toArray = ls at hl ⊢
  have hl : lv_has ls 4 [(0, .ref (ad 7)), (1, .int s0)] := hl
  obtain ⟨nc, hnc, enc, enn, eni⟩ := ok_n hI
  refine lv_iload_n hx hb dX3_restore_0 rfl (lv_at hl 1 rfl) ?_
  refine lv_iconst (v := 0) hx hb dX3_restore_1 (by decide) ?_
  refine lv_iconst (v := 1) hx hb dX3_restore_2 (by decide) ?_
  refine vp_callSi (W.runS (As := [.int s0, .int (0 : Int32), .int (1 : Int32)]) (rest := []) ⟨hx, hb, hml, hown, hts⟩ (met_X3_in l s0 (0 : Int32) (1 : Int32)) (va_cwS 3 hts (lw_S q1633 q1634 q71 q1635) rfl rfl rfl (by decide +kernel) ⟨Nat.le_of_ble_eq_true rfl, Nat.le_of_ble_eq_true rfl⟩) ⟨fun a U g mk q => q, fun U hU hW => ⟨rfl, trivial⟩⟩ rfl rfl hl.1 rfl (lv_room (Nat.le_of_ble_eq_true rfl)) dX3_restore_3 ⟨Nat.le_of_ble_eq_true rfl, Nat.le_of_ble_eq_true rfl⟩) (fun r_1 hr_1 => ?_)
  rcases hr_1 with ⟨er_hr_1, hr_1⟩ | ⟨er_hr_1, hr_1⟩
  · subst er_hr_1
    obtain ⟨s1, hs1, rfl⟩ := tk_inN (n := 1) (by decide) hr_1
    have nns1 : (nI s1).toNatClampNeg = s1 := nI_clamp (by omega)
    refine lv_if_ne (tgt := 12) hx hb dX3_restore_6 (by decide) (fun _ => ?_) (fun c_ => absurd c_ (by decide))
    refine lv_bipush (v := 94) hx hb dX3_restore_12 (by decide) ?_
    refine lv_bipush (v := 95) hx hb dX3_restore_14 (by decide) ?_
    refine lv_iload_n hx hb dX3_restore_16 rfl (lv_at hl 1 rfl) ?_
    refine lv_imul hx hb dX3_restore_17 ?_
    refine lv_iadd hx hb dX3_restore_18 ?_
    rw [show ((94 : Int32) + ((95 : Int32) * (nI s1))) = nI (94 + (95 * s1)) from (ixA rfl (ixM rfl rfl))]
    refine lv_istore_n (lv' := [(2, .int (nI (94 + (95 * s1)))), (0, .ref (ad 7)), (1, .int (nI s1))]) hx hb dX3_restore_19 rfl hl (by decide) rfl (fun ls hl => ?_)
    refine lv_aload_n hx hb dX3_restore_20 rfl (lv_at hl 1 rfl) ?_
    refine m_get hx hb hts in_X3 hown hK hM 0 (by decide) (hts _ q1571) rfl dX3_restore_21 ?_
    refine lv_iload_n hx hb dX3_restore_24 rfl (lv_at hl 0 rfl) ?_
    refine m_iald hx hb hK hM 0 1 rfl (94 + (95 * s1)) rfl (by omega) (v := (S 0 (94 + (95 * s1)))) rfl dX3_restore_25 (by decide) ?_
    refine lv_if_ne (tgt := 32) hx hb dX3_restore_26 (by decide) (fun c26_b_2 => ?_) (fun c26_b_2 => ?_)
    · skip
      obtain ⟨nd, hnd, end0, ennd, -⟩ := ok_n (hJ s1 (by omega) c26_b_2)
      have end1 : S 0 (94 + 95 * s1 + 1 + 14) = nI nd := by rw [show 94 + 95 * s1 + 1 + 14 = 95 + 95 * s1 + 14 by omega]; exact end0
      refine lv_aload_n hx hb dX3_restore_32 rfl (lv_at hl 1 rfl) ?_
      refine va_callv (va_runV (As := []) (rest := []) ⟨hx, hb, hml, hown, hts⟩ (met_X3_keeps l D cA ad S ) (cwV 0 hts (lw_V q1622 q1624 qs24 q71 q1625) rfl rfl rfl (by decide +kernel) ⟨Nat.le_of_ble_eq_true rfl, Nat.le_of_ble_eq_true rfl⟩) (mPreV hK hM) rfl rfl hl.1 rfl (lv_room (Nat.le_of_ble_eq_true rfl)) dX3_restore_33 ⟨Nat.le_of_ble_eq_true rfl, Nat.le_of_ble_eq_true rfl⟩) hM.2.2 (fun _ _ h => h) (fun _ h => h) (fun S_4 t H1 locs ht hvm hr_3 hB hz hk hS => ?_)
      have hM : mSt D cA ad (mA ad) s.heap H1 locs S_4 := ⟨by rw [← ht]; exact hB.1, hB.2, hS⟩
      clear hB ht; generalize H1 = H at hM ⊢; clear hz hk hS
      refine W.widen (k := 0) (n := 0) (Nat.le_refl 0) (Nat.le_refl 0) ?_
      refine lv_iconst (v := 0) hx hb dX3_restore_36 (by decide) ?_
      refine lv_istore_n (lv' := [(3, .int (0 : Int32)), (2, .int (nI (94 + (95 * s1)))), (0, .ref (ad 7)), (1, .int (nI s1))]) hx hb dX3_restore_37 rfl hl (by decide) rfl (fun ls hl => ?_)
      have cut_38 : ∀ (N : Nat) (k : Nat) (hk : k ≤ 94) (hN : 94 - k < N) (H : Heap) (locs : List Loc) (Sc38 : Nat → Nat → Int32) (eSc38 : Sc38 = su S_4 0 (tk_cp (fun i => S 0 (94 + 95 * s1 + 1 + i)) (S 0) k)) (hM : mSt D cA ad (mA ad) s.heap H locs Sc38), ∀ (ls : Array Slot) (hl : lv_has ls 4 [(3, .int (nI k)), (2, .int (nI (94 + (95 * s1)))), (0, .ref (ad 7)), (1, .int (nI s1))]), W p l e (headSpec (ws_ yX3_restore cX3_restore 4 (some .int)) (rmL 3 0 0)).room s m ([.ref (ad 7), .int (nI s1)] : List Value).toArray below meth c H locs 0 0 (MQ below (va_Qi (fun (r : Int32) (S' : Nat → Nat → Int32) => r = (tk_rests (S 0) (nI s1)).1 ∧ tk_top S S' n0 (tk_cp (S 0) (S 1) 284) r (tk_rests (S 0) (nI s1)).2) (mEnd D cA ad) (mA ad)) ([.ref (ad 7), .int (nI s1)] : List Value).toArray s 0 0 (mA ad)) (F0 m 38 ls []) := by
        intro N
        induction N with
        | zero => intro k hk hN; exact absurd hN (Nat.not_lt_zero _)
        | succ N ih_38 =>
          intro k hk hN H locs Sc38 eSc38 hM ls hl
          refine lv_iload_n hx hb dX3_restore_38 rfl (lv_at hl 0 rfl) ?_
          refine lv_bipush (v := 94) hx hb dX3_restore_39 (by decide) ?_
          refine lv_icmp_ge (tgt := 66) hx hb dX3_restore_41 (by decide) (fun c41_b_5 => ?_) (fun c41_b_5 => ?_)
          · skip
            have c41_b_5 := Int32.not_lt.mpr c41_b_5
            have nc41_b_5 := nltF (a := k) (b := 94) rfl rfl (by omega) (by omega) c41_b_5
            obtain rfl : k = 94 := by omega
            have e14 : Sc38 0 14 = nI nd := by rw [eSc38, su_s, tk_cp_l _ _ (by omega)]; exact end1
            have ePT : tk_pts (Sc38 0) = tk_pts (fun i => S 0 (95 + 95 * s1 + i)) := tk_pts_c (by show (S 0 (95 + 95 * s1 + 14)).toNatClampNeg ≤ 6; rw [ennd]; exact hnd) (fun i hi => by rw [eSc38, su_s, tk_cp_l _ _ hi, show 94 + 95 * s1 + 1 + i = 95 + 95 * s1 + i by omega])
            refine lv_aload_n hx hb dX3_restore_66 rfl (lv_at hl 2 rfl) ?_
            refine lv_aload_n hx hb dX3_restore_67 rfl (lv_at hl 2 rfl) ?_
            refine vp_callSi (W.runV (As := []) (rest := [.ref (ad 7)]) ⟨hx, hb, hml, hown, hts⟩ (met_X3_pointsOfAll l D cA ad Sc38 nd hnd e14) (cwV 0 hts (lw_V q1776 q1778 qs44 q71 q1779) rfl rfl rfl (by decide +kernel) ⟨Nat.le_of_ble_eq_true rfl, Nat.le_of_ble_eq_true rfl⟩) (mPreV hK hM) rfl rfl hl.1 rfl (lv_room (Nat.le_of_ble_eq_true rfl)) dX3_restore_68 ⟨Nat.le_of_ble_eq_true rfl, Nat.le_of_ble_eq_true rfl⟩) (fun r_6 hr_6 => ?_)
            subst hr_6
            refine va_calli (va_runV (As := [.int (tk_pts (Sc38 0))]) (rest := []) ⟨hx, hb, hml, hown, hts⟩ (met_X3_acted l D cA ad Sc38 n0 (tk_pts (Sc38 0)) (by first | assumption | omega | decide) (Eq.trans (by rw [eSc38, su_n _ _ (by decide), hr_3, su_n _ _ (by decide)]) hns)) (cwV 1 hts (lw_V q1637 q1639 qs26 q71 q1640) rfl rfl rfl (by decide +kernel) ⟨Nat.le_of_ble_eq_true rfl, Nat.le_of_ble_eq_true rfl⟩) (mPreV hK hM) rfl rfl hl.1 rfl (lv_room (Nat.le_of_ble_eq_true rfl)) dX3_restore_71 ⟨Nat.le_of_ble_eq_true rfl, Nat.le_of_ble_eq_true rfl⟩) hM.2.2 (fun _ _ h => h) (fun _ h => h) (fun r_7 S_8 t H1 locs ht hvm hr_7 hB hz hk hS => ?_)
            have hM : mSt D cA ad (mA ad) s.heap H1 locs S_8 := ⟨by rw [← ht]; exact hB.1, hB.2, hS⟩
            clear hB ht; generalize H1 = H at hM ⊢; clear hz hk hS
            refine W.widen (k := 0) (n := 0) (Nat.le_refl 0) (Nat.le_refl 0) ?_
            obtain ⟨hr_7a, hr_7b⟩ := hr_7
            exact W.iret hx hb hr (fun t ht hW => ⟨⟨_, S_8, rfl, (by rw [ePT] at *; subst hr_7a; subst eSc38; subst hr_3; refine ⟨by simp [tk_rests, hr_1, nns1, c26_b_2, c41_b_5], tk_topI rfl (tk_smG ?_ (fun j h => by simp [su_n, h])) hr_7b⟩; rw [su_s]; refine tk_restE.trans ?_; simp [tk_rests, hr_1, nns1, c26_b_2, c41_b_5]), by rw [ht]; exact hM.1, hM.2.1⟩, hM.2.2.F ht⟩) hM.2.2.2.2 dX3_restore_74
          · skip
            have c41_b_5 := Int32.not_le.mp c41_b_5
            have nc41_b_5 := nltT (a := k) (b := 94) rfl rfl (by omega) (by omega) c41_b_5
            refine lv_aload_n hx hb dX3_restore_44 rfl (lv_at hl 2 rfl) ?_
            refine m_get hx hb hts in_X3 hown hK hM 0 (by decide) (hts _ q1571) rfl dX3_restore_45 ?_
            refine lv_iload_n hx hb dX3_restore_48 rfl (lv_at hl 0 rfl) ?_
            refine lv_aload_n hx hb dX3_restore_49 rfl (lv_at hl 2 rfl) ?_
            refine m_get hx hb hts in_X3 hown hK hM 0 (by decide) (hts _ q1571) rfl dX3_restore_50 ?_
            refine lv_iload_n hx hb dX3_restore_53 rfl (lv_at hl 1 rfl) ?_
            refine lv_iconst (v := 1) hx hb dX3_restore_54 (by decide) ?_
            refine lv_iadd hx hb dX3_restore_55 ?_
            refine lv_iload_n hx hb dX3_restore_56 rfl (lv_at hl 0 rfl) ?_
            refine lv_iadd hx hb dX3_restore_57 ?_
            refine m_iald hx hb hK hM 0 1 rfl (((94 + (95 * s1)) + 1) + k) (ixA (ixA rfl rfl) rfl) (by omega) (v := (S 0 (94 + 95 * s1 + 1 + k))) (by rw [eSc38, su_s, tk_cp_h _ _ (by omega)]) dX3_restore_58 (by decide) ?_
            refine m_iast hx hb hK hM 0 1 rfl (fun _ => rfl) k rfl (by omega) dX3_restore_59 (by decide) (fun H locs S_9 eS_9 hM => ?_)
            refine lv_iinc (v := (nI (k + 1))) (lv' := [(3, .int (nI (k + 1))), (2, .int (nI (94 + (95 * s1)))), (0, .ref (ad 7)), (1, .int (nI s1))]) hx hb dX3_restore_60 hl (k := 0) rfl (ixA rfl rfl) (by decide) rfl (fun ls hl => ?_)
            refine lv_goto (tgt := 38) hx hb dX3_restore_63 (by decide) ?_
            exact ih_38 (k + 1) (by omega) (by omega) _ _ _ (by rw [eS_9, eSc38, su_su, su_s, ← tk_cp_s]) hM ls (lv_sub hl [0, 1, 2, 3] rfl)
      exact cut_38 _ 0 (by omega) (Nat.lt_succ_self _) _ _ _ (by rw [tk_cp_0, show S 0 = S_4 0 from by rw [hr_3, su_n _ _ (by decide)], su_self]) hM ls (lv_sub hl [0, 1, 2, 3] rfl)
    · skip
      refine lv_ldc (v := -100002) hx hb hown (hts _ q1731) dX3_restore_29 ?_
      exact W.iret hx hb hr (fun t ht hW => ⟨⟨_, S, rfl, (by exact ⟨by simp [tk_rests, hr_1, nns1, c26_b_2], tk_topR (by decide) (by simp [tk_rests, hr_1, nns1, c26_b_2])⟩), by rw [ht]; exact hM.1, hM.2.1⟩, hM.2.2.F ht⟩) hM.2.2.2.2 dX3_restore_31
  · subst er_hr_1
    refine lv_if_ne (tgt := 12) hx hb dX3_restore_6 (by decide) (fun c_ => absurd (by decide) c_) (fun _ => ?_)
    refine lv_ldc (v := -100001) hx hb hown (hts _ q1636) dX3_restore_9 ?_
    exact W.iret hx hb hr (fun t ht hW => ⟨⟨_, S, rfl, (by exact ⟨by simp [tk_rests, hr_1], tk_topR (by decide) (by simp [tk_rests, hr_1])⟩), by rw [ht]; exact hM.1, hM.2.1⟩, hM.2.2.F ht⟩) hM.2.2.2.2 dX3_restore_11

set_option maxHeartbeats 4000000 in
set_option maxRecDepth 100000 in
theorem met_X3_undo (l : Launch) (D : va_G) (cA : Nat → ClassId) (ad : Nat → Nat) (S : Nat → Nat → Int32) (n0 : Nat) (hn : n0 ≤ 5) (hns : S 7 0 = nI n0) : Met l yX3_undo (ws_ yX3_undo cX3_undo 2 (some .int)) (rmL 1 0 0) (mPre D cA ad S []) (va_Qi (fun (r : Int32) (S' : Nat → Nat → Int32) => (n0 = 0 → r = -100002 ∧ S' = S) ∧ (n0 ≠ 0 → r = nI (n0 - 1) ∧ S' = su (su S 7 (su (S 7) 0 (nI (n0 - 1)))) 0 (tk_cp (fun k => S 3 (284 * (n0 - 1) + k)) (S 0) 284))) (mEnd D cA ad) (mA ad)) 0 0 (mA ad) := by
  refine Met.ofW (cc := cX3_undo) (maxL := 2) (ret := (some .int)) (by decide) rfl ?_
  intro p e s m args below meth c s₁ Bd hml hv
  obtain ⟨rfl, hP, hK, hD⟩ := hv
  have hx := Bd.exec
  have hb := Bd.bytes
  have hr := Bd.returns
  have hts := atoms_spec (ws := (ws_ yX3_undo cX3_undo 2 (some .int))) Bd.pre
  have hts : ∀ w ∈ lw_all, w.before _ s = true := fun w h => hts w (List.mem_cons_of_mem _ h)
  have hown : s.vm.findClass RX3 = some m.cls := findClass_of_methodNamed Bd.named
  have hlocks := Bd.notSynchronized
  have hM : mSt D cA ad (mA ad) s.heap s.heap [] S := ⟨hP, hD, va_S.rf⟩
  have hl := lv_entry ([.ref (ad 7)]) (n := 2) (Nat.le_of_ble_eq_true rfl)
  rw [lg_entry_eq]
  generalize (lg_sl ([.ref (ad 7)]) ++ List.replicate (2 - (lg_sl ([.ref (ad 7)])).length) Slot.unset).toArray = ls at hl ⊢
  have hl : lv_has ls 2 [(0, .ref (ad 7))] := hl
  refine lv_aload_n hx hb dX3_undo_0 rfl (lv_at hl 0 rfl) ?_
  refine m_get hx hb hts in_X3 hown hK hM 4 (by decide) (hts _ q1575) rfl dX3_undo_1 ?_
  refine lv_if_ne (tgt := 10) hx hb dX3_undo_4 (by decide) (fun c4_b_1 => ?_) (fun c4_b_1 => ?_)
  · skip
    have nc4_b_1 := neqF (a := n0) (b := 0) hns rfl (by omega) (by omega) c4_b_1
    refine lv_aload_n hx hb dX3_undo_10 rfl (lv_at hl 0 rfl) ?_
    refine lv_dup hx hb dX3_undo_11 rfl ?_
    refine m_get hx hb hts in_X3 hown hK hM 4 (by decide) (hts _ q1575) rfl dX3_undo_12 ?_
    refine lv_iconst (v := 1) hx hb dX3_undo_15 (by decide) ?_
    refine lv_isub hx hb dX3_undo_16 ?_
    refine m_put hx hb hts in_X3 hown hK hM 4 0 (by decide) (hts _ q1575) rfl rfl rfl rfl dX3_undo_17 (fun H locs S_2 eS_2 hM => ?_)
    refine lv_iconst (v := 0) hx hb dX3_undo_20 (by decide) ?_
    refine lv_istore_n (lv' := [(1, .int (0 : Int32)), (0, .ref (ad 7))]) hx hb dX3_undo_21 rfl hl (by decide) rfl (fun ls hl => ?_)
    have cut_22 : ∀ (N : Nat) (k : Nat) (hk : k ≤ 284) (hN : 284 - k < N) (H : Heap) (locs : List Loc) (Sc22 : Nat → Nat → Int32) (eSc22 : Sc22 = su S_2 0 (tk_cp (fun k => S 3 (284 * (n0 - 1) + k)) (S 0) k)) (hM : mSt D cA ad (mA ad) s.heap H locs Sc22), ∀ (ls : Array Slot) (hl : lv_has ls 2 [(1, .int (nI k)), (0, .ref (ad 7))]), W p l e (headSpec (ws_ yX3_undo cX3_undo 2 (some .int)) (rmL 1 0 0)).room s m ([.ref (ad 7)] : List Value).toArray below meth c H locs 0 0 (MQ below (va_Qi (fun (r : Int32) (S' : Nat → Nat → Int32) => (n0 = 0 → r = -100002 ∧ S' = S) ∧ (n0 ≠ 0 → r = nI (n0 - 1) ∧ S' = su (su S 7 (su (S 7) 0 (nI (n0 - 1)))) 0 (tk_cp (fun k => S 3 (284 * (n0 - 1) + k)) (S 0) 284))) (mEnd D cA ad) (mA ad)) ([.ref (ad 7)] : List Value).toArray s 0 0 (mA ad)) (F0 m 22 ls []) := by
      intro N
      induction N with
      | zero => intro k hk hN; exact absurd hN (Nat.not_lt_zero _)
      | succ N ih_22 =>
        intro k hk hN H locs Sc22 eSc22 hM ls hl
        refine lv_iload_n hx hb dX3_undo_22 rfl (lv_at hl 0 rfl) ?_
        refine lv_sipush (v := 284) hx hb dX3_undo_23 (by decide) ?_
        refine lv_icmp_ge (tgt := 56) hx hb dX3_undo_26 (by decide) (fun c26_b_3 => ?_) (fun c26_b_3 => ?_)
        · skip
          have c26_b_3 := Int32.not_lt.mpr c26_b_3
          have nc26_b_3 := nltF (a := k) (b := 284) rfl rfl (by omega) (by omega) c26_b_3
          obtain rfl : k = 284 := by omega
          refine lv_aload_n hx hb dX3_undo_56 rfl (lv_at hl 1 rfl) ?_
          refine m_get hx hb hts in_X3 hown hK hM 4 (by decide) (hts _ q1575) (v := .int ((S 7 0) - (1 : Int32))) (m_fld rfl (by rw [eSc22, su_n _ _ (by decide), eS_2, su_s, su_s])) dX3_undo_57 ?_
          exact W.iret hx hb hr (fun t ht hW => ⟨⟨_, Sc22, rfl, (by subst eSc22; subst eS_2; exact ⟨fun q => absurd q nc4_b_1, fun _ => ⟨by rw [hns]; exact ixS (x := n0) (y := 1) rfl rfl (by omega), by rw [hns, show nI n0 - 1 = nI (n0 - 1) from ixS (x := n0) (y := 1) rfl rfl (by omega)]⟩⟩), by rw [ht]; exact hM.1, hM.2.1⟩, hM.2.2.F ht⟩) hM.2.2.2.2 dX3_undo_60
        · skip
          have c26_b_3 := Int32.not_le.mp c26_b_3
          have nc26_b_3 := nltT (a := k) (b := 284) rfl rfl (by omega) (by omega) c26_b_3
          refine lv_aload_n hx hb dX3_undo_29 rfl (lv_at hl 1 rfl) ?_
          refine m_get hx hb hts in_X3 hown hK hM 0 (by decide) (hts _ q1571) rfl dX3_undo_30 ?_
          refine lv_iload_n hx hb dX3_undo_33 rfl (lv_at hl 0 rfl) ?_
          refine lv_aload_n hx hb dX3_undo_34 rfl (lv_at hl 1 rfl) ?_
          refine m_get hx hb hts in_X3 hown hK hM 3 (by decide) (hts _ q1574) rfl dX3_undo_35 ?_
          refine lv_sipush (v := 284) hx hb dX3_undo_38 (by decide) ?_
          refine lv_aload_n hx hb dX3_undo_41 rfl (lv_at hl 1 rfl) ?_
          refine m_get hx hb hts in_X3 hown hK hM 4 (by decide) (hts _ q1575) (v := .int ((S 7 0) - (1 : Int32))) (m_fld rfl (by rw [eSc22, su_n _ _ (by decide), eS_2, su_s, su_s])) dX3_undo_42 ?_
          refine lv_imul hx hb dX3_undo_45 ?_
          refine lv_iload_n hx hb dX3_undo_46 rfl (lv_at hl 0 rfl) ?_
          refine lv_iadd hx hb dX3_undo_47 ?_
          refine m_iald hx hb hK hM 3 4 rfl ((284 * (n0 - 1)) + k) (ixA (ixM rfl (ixS hns rfl (by omega))) rfl) (by omega) (v := (S 3 ((284 * (n0 - 1)) + k))) (by rw [eSc22, su_n _ _ (by decide), eS_2, su_n _ _ (by decide)]) dX3_undo_48 (by decide) ?_
          refine m_iast hx hb hK hM 0 1 rfl (fun _ => rfl) k rfl (by omega) dX3_undo_49 (by decide) (fun H locs S_4 eS_4 hM => ?_)
          refine lv_iinc (v := (nI (k + 1))) (lv' := [(1, .int (nI (k + 1))), (0, .ref (ad 7))]) hx hb dX3_undo_50 hl (k := 0) rfl (ixA rfl rfl) (by decide) rfl (fun ls hl => ?_)
          refine lv_goto (tgt := 22) hx hb dX3_undo_53 (by decide) ?_
          exact ih_22 (k + 1) (by omega) (by omega) _ _ _ (by rw [eS_4, eSc22, su_su, su_s, ← tk_cp_s]) hM ls (lv_sub hl [0, 1] rfl)
    exact cut_22 _ 0 (by omega) (Nat.lt_succ_self _) _ _ _ (by rw [tk_cp_0, show S 0 = S_2 0 from by rw [eS_2, su_n _ _ (by decide)], su_self]) hM ls (lv_sub hl [0, 1] rfl)
  · skip
    have nc4_b_1 := neqT (a := n0) (b := 0) hns rfl (by omega) (by omega) c4_b_1
    refine lv_ldc (v := -100002) hx hb hown (hts _ q1731) dX3_undo_7 ?_
    exact W.iret hx hb hr (fun t ht hW => ⟨⟨_, S, rfl, (by exact ⟨fun _ => ⟨rfl, rfl⟩, fun q => absurd nc4_b_1 q⟩), by rw [ht]; exact hM.1, hM.2.1⟩, hM.2.2.F ht⟩) hM.2.2.2.2 dX3_undo_9
