set_option maxHeartbeats 4000000 in
set_option maxRecDepth 100000 in
theorem met_X3_kinds (l : Launch) {B : Nat} (D : va_G) (cA : Nat → ClassId) (ad : Nat → Nat) (S : Nat → Nat → Int32) (k0 : Int32) (w0 : Int32) (s0 : Int32) (hI : tk_ok B (S 0)) : Met l yX3_kinds (ws_ yX3_kinds cX3_kinds 5 (some .int)) (rmL 3 0 0) (mPre D cA ad S [.int k0, .int w0, .int s0]) (va_Qi (fun (r : Int32) (S' : Nat → Nat → Int32) => r = (tk_kinds (S 0) k0 w0 s0).1 ∧ tk_sm S S' (tk_kinds (S 0) k0 w0 s0).2) (mEnd D cA ad) (mA ad)) 0 0 (mA ad) := by
  refine Met.ofW (cc := cX3_kinds) (maxL := 5) (ret := (some .int)) (by decide) rfl ?_
  intro p e s m args below meth c s₁ Bd hml hv
  obtain ⟨rfl, hP, hK, hD⟩ := hv
  have hx := Bd.exec
  have hb := Bd.bytes
  have hr := Bd.returns
  have hts := atoms_spec (ws := (ws_ yX3_kinds cX3_kinds 5 (some .int))) Bd.pre
  have hts : ∀ w ∈ lw_all, w.before _ s = true := fun w h => hts w (List.mem_cons_of_mem _ h)
  have hown : s.vm.findClass RX3 = some m.cls := findClass_of_methodNamed Bd.named
  have hlocks := Bd.notSynchronized
  have hM : mSt D cA ad (mA ad) s.heap s.heap [] S := ⟨hP, hD, va_S.rf⟩
  have hl := lv_entry ([.ref (ad 7), .int k0, .int w0, .int s0]) (n := 5) (Nat.le_of_ble_eq_true rfl)
  rw [lg_entry_eq]
  generalize (lg_sl ([.ref (ad 7), .int k0, .int w0, .int s0]) ++ List.replicate (5 - (lg_sl ([.ref (ad 7), .int k0, .int w0, .int s0])).length) Slot.unset).toArray = ls at hl ⊢
  have hl : lv_has ls 5 [(0, .ref (ad 7)), (1, .int k0), (2, .int w0), (3, .int s0)] := hl
  refine lv_iload_n hx hb dX3_kinds_0 rfl (lv_at hl 1 rfl) ?_
  refine vp_callSi (W.runS (As := [.int k0]) (rest := []) ⟨hx, hb, hml, hown, hts⟩ (met_X3_isKind l k0) (va_cwS 1 hts (lw_S q1630 q1631 q71 q1632) rfl rfl rfl (by decide +kernel) ⟨Nat.le_of_ble_eq_true rfl, Nat.le_of_ble_eq_true rfl⟩) ⟨fun a U g mk q => q, fun U hU hW => ⟨rfl, trivial⟩⟩ rfl rfl hl.1 rfl (lv_room (Nat.le_of_ble_eq_true rfl)) dX3_kinds_1 ⟨Nat.le_of_ble_eq_true rfl, Nat.le_of_ble_eq_true rfl⟩) (fun r_1 hr_1 => ?_)
  rcases hr_1 with ⟨er_hr_1, hr_1⟩ | ⟨er_hr_1, hr_1⟩
  · subst er_hr_1
    obtain ⟨kk, hkk, rfl⟩ := tk_k4 hr_1
    have nnk : (nI kk).toNatClampNeg = kk := nI_clamp (by omega)
    refine lv_if_eq (tgt := 29) hx hb dX3_kinds_4 (by decide) (fun c_ => absurd c_ (by decide)) (fun _ => ?_)
    refine lv_iload_n hx hb dX3_kinds_7 rfl (lv_at hl 2 rfl) ?_
    refine lv_bipush (v := 100) hx hb dX3_kinds_8 (by decide) ?_
    refine lv_sipush (v := 5000) hx hb dX3_kinds_10 (by decide) ?_
    refine vp_callSi (W.runS (As := [.int w0, .int (100 : Int32), .int (5000 : Int32)]) (rest := []) ⟨hx, hb, hml, hown, hts⟩ (met_X3_in l w0 (100 : Int32) (5000 : Int32)) (va_cwS 3 hts (lw_S q1633 q1634 q71 q1635) rfl rfl rfl (by decide +kernel) ⟨Nat.le_of_ble_eq_true rfl, Nat.le_of_ble_eq_true rfl⟩) ⟨fun a U g mk q => q, fun U hU hW => ⟨rfl, trivial⟩⟩ rfl rfl hl.1 rfl (lv_room (Nat.le_of_ble_eq_true rfl)) dX3_kinds_13 ⟨Nat.le_of_ble_eq_true rfl, Nat.le_of_ble_eq_true rfl⟩) (fun r_2 hr_2 => ?_)
    rcases hr_2 with ⟨er_hr_2, hr_2⟩ | ⟨er_hr_2, hr_2⟩
    · subst er_hr_2
      refine lv_if_eq (tgt := 29) hx hb dX3_kinds_16 (by decide) (fun c_ => absurd c_ (by decide)) (fun _ => ?_)
      refine lv_iload_n hx hb dX3_kinds_19 rfl (lv_at hl 3 rfl) ?_
      refine lv_iconst (v := 0) hx hb dX3_kinds_20 (by decide) ?_
      refine lv_bipush (v := 50) hx hb dX3_kinds_21 (by decide) ?_
      refine vp_callSi (W.runS (As := [.int s0, .int (0 : Int32), .int (50 : Int32)]) (rest := []) ⟨hx, hb, hml, hown, hts⟩ (met_X3_in l s0 (0 : Int32) (50 : Int32)) (va_cwS 3 hts (lw_S q1633 q1634 q71 q1635) rfl rfl rfl (by decide +kernel) ⟨Nat.le_of_ble_eq_true rfl, Nat.le_of_ble_eq_true rfl⟩) ⟨fun a U g mk q => q, fun U hU hW => ⟨rfl, trivial⟩⟩ rfl rfl hl.1 rfl (lv_room (Nat.le_of_ble_eq_true rfl)) dX3_kinds_23 ⟨Nat.le_of_ble_eq_true rfl, Nat.le_of_ble_eq_true rfl⟩) (fun r_3 hr_3 => ?_)
      rcases hr_3 with ⟨er_hr_3, hr_3⟩ | ⟨er_hr_3, hr_3⟩
      · subst er_hr_3
        refine lv_if_ne (tgt := 32) hx hb dX3_kinds_26 (by decide) (fun _ => ?_) (fun c_ => absurd c_ (by decide))
        refine lv_aload_n hx hb dX3_kinds_32 rfl (lv_at hl 0 rfl) ?_
        refine m_get hx hb hts in_X3 hown hK hM 0 (by decide) (hts _ q1571) rfl dX3_kinds_33 ?_
        refine lv_iload_n hx hb dX3_kinds_36 rfl (lv_at hl 1 rfl) ?_
        refine m_iald hx hb hK hM 0 1 rfl kk rfl (by omega) (v := (S 0 kk)) rfl dX3_kinds_37 (by decide) ?_
        refine lv_istore (lv' := [(4, .int (S 0 kk)), (0, .ref (ad 7)), (1, .int (nI kk)), (2, .int w0), (3, .int s0)]) hx hb dX3_kinds_38 hl (by decide) rfl (fun ls hl => ?_)
        refine lv_aload_n hx hb dX3_kinds_40 rfl (lv_at hl 1 rfl) ?_
        refine m_get hx hb hts in_X3 hown hK hM 0 (by decide) (hts _ q1571) rfl dX3_kinds_41 ?_
        refine lv_iload_n hx hb dX3_kinds_44 rfl (lv_at hl 2 rfl) ?_
        refine lv_iload_n hx hb dX3_kinds_45 rfl (lv_at hl 3 rfl) ?_
        refine m_iast hx hb hK hM 0 1 rfl (fun _ => rfl) kk rfl (by omega) dX3_kinds_46 (by decide) (fun H locs S_4 eS_4 hM => ?_)
        refine lv_aload_n hx hb dX3_kinds_47 rfl (lv_at hl 1 rfl) ?_
        refine m_get hx hb hts in_X3 hown hK hM 0 (by decide) (hts _ q1571) rfl dX3_kinds_48 ?_
        refine lv_iconst (v := 4) hx hb dX3_kinds_51 (by decide) ?_
        refine lv_iload_n hx hb dX3_kinds_52 rfl (lv_at hl 2 rfl) ?_
        refine lv_iadd hx hb dX3_kinds_53 ?_
        refine lv_iload_n hx hb dX3_kinds_54 rfl (lv_at hl 4 rfl) ?_
        refine m_iast hx hb hK hM 0 1 rfl (fun _ => rfl) (4 + kk) (ixA rfl rfl) (by omega) dX3_kinds_55 (by decide) (fun H locs S_5 eS_5 hM => ?_)
        refine lv_iload hx hb dX3_kinds_56 (lv_at hl 0 rfl) ?_
        exact W.iret hx hb hr (fun t ht hW => ⟨⟨_, S_5, rfl, (by subst eS_5; subst eS_4; refine ⟨by simp [tk_kinds, hr_1, nnk, hr_2, hr_3], ?_⟩; (try simp only [su_su, su_s]); exact tk_smE (by simp [tk_kinds, hr_1, nnk, hr_2, hr_3])), by rw [ht]; exact hM.1, hM.2.1⟩, hM.2.2.F ht⟩) hM.2.2.2.2 dX3_kinds_58
      · subst er_hr_3
        refine lv_if_ne (tgt := 32) hx hb dX3_kinds_26 (by decide) (fun c_ => absurd (by decide) c_) (fun _ => ?_)
        refine lv_ldc (v := -100001) hx hb hown (hts _ q1636) dX3_kinds_29 ?_
        exact W.iret hx hb hr (fun t ht hW => ⟨⟨_, S, rfl, (by exact ⟨by simp [tk_kinds, hr_1, nnk, hr_2, hr_3], tk_smR (by simp [tk_kinds, hr_1, nnk, hr_2, hr_3])⟩), by rw [ht]; exact hM.1, hM.2.1⟩, hM.2.2.F ht⟩) hM.2.2.2.2 dX3_kinds_31
    · subst er_hr_2
      refine lv_if_eq (tgt := 29) hx hb dX3_kinds_16 (by decide) (fun _ => ?_) (fun c_ => absurd (by decide) c_)
      refine lv_ldc (v := -100001) hx hb hown (hts _ q1636) dX3_kinds_29 ?_
      exact W.iret hx hb hr (fun t ht hW => ⟨⟨_, S, rfl, (by exact ⟨by simp [tk_kinds, hr_1, nnk, hr_2], tk_smR (by simp [tk_kinds, hr_1, nnk, hr_2])⟩), by rw [ht]; exact hM.1, hM.2.1⟩, hM.2.2.F ht⟩) hM.2.2.2.2 dX3_kinds_31
  · subst er_hr_1
    refine lv_if_eq (tgt := 29) hx hb dX3_kinds_4 (by decide) (fun _ => ?_) (fun c_ => absurd (by decide) c_)
    refine lv_ldc (v := -100001) hx hb hown (hts _ q1636) dX3_kinds_29 ?_
    exact W.iret hx hb hr (fun t ht hW => ⟨⟨_, S, rfl, (by exact ⟨by simp [tk_kinds, hr_1], tk_smR (by simp [tk_kinds, hr_1])⟩), by rw [ht]; exact hM.1, hM.2.1⟩, hM.2.2.F ht⟩) hM.2.2.2.2 dX3_kinds_31

set_option maxHeartbeats 4000000 in
set_option maxRecDepth 100000 in
theorem met_X3_scales (l : Launch) {B : Nat} (D : va_G) (cA : Nat → ClassId) (ad : Nat → Nat) (S : Nat → Nat → Int32) (s0 : Int32) (l0 : Int32) (hI : tk_ok B (S 0)) : Met l yX3_scales (ws_ yX3_scales cX3_scales 3 (some .int)) (rmL 2 0 0) (mPre D cA ad S [.int s0, .int l0]) (va_Qi (fun (r : Int32) (S' : Nat → Nat → Int32) => r = (tk_scales (S 0) s0 l0).1 ∧ tk_sm S S' (tk_scales (S 0) s0 l0).2) (mEnd D cA ad) (mA ad)) 0 0 (mA ad) := by
  refine Met.ofW (cc := cX3_scales) (maxL := 3) (ret := (some .int)) (by decide) rfl ?_
  intro p e s m args below meth c s₁ Bd hml hv
  obtain ⟨rfl, hP, hK, hD⟩ := hv
  have hx := Bd.exec
  have hb := Bd.bytes
  have hr := Bd.returns
  have hts := atoms_spec (ws := (ws_ yX3_scales cX3_scales 3 (some .int))) Bd.pre
  have hts : ∀ w ∈ lw_all, w.before _ s = true := fun w h => hts w (List.mem_cons_of_mem _ h)
  have hown : s.vm.findClass RX3 = some m.cls := findClass_of_methodNamed Bd.named
  have hlocks := Bd.notSynchronized
  have hM : mSt D cA ad (mA ad) s.heap s.heap [] S := ⟨hP, hD, va_S.rf⟩
  have hl := lv_entry ([.ref (ad 7), .int s0, .int l0]) (n := 3) (Nat.le_of_ble_eq_true rfl)
  rw [lg_entry_eq]
  generalize (lg_sl ([.ref (ad 7), .int s0, .int l0]) ++ List.replicate (3 - (lg_sl ([.ref (ad 7), .int s0, .int l0])).length) Slot.unset).toArray = ls at hl ⊢
  have hl : lv_has ls 3 [(0, .ref (ad 7)), (1, .int s0), (2, .int l0)] := hl
  refine lv_iload_n hx hb dX3_scales_0 rfl (lv_at hl 1 rfl) ?_
  refine lv_iconst (v := 1) hx hb dX3_scales_1 (by decide) ?_
  refine lv_sipush (v := 1000) hx hb dX3_scales_2 (by decide) ?_
  refine vp_callSi (W.runS (As := [.int s0, .int (1 : Int32), .int (1000 : Int32)]) (rest := []) ⟨hx, hb, hml, hown, hts⟩ (met_X3_in l s0 (1 : Int32) (1000 : Int32)) (va_cwS 3 hts (lw_S q1633 q1634 q71 q1635) rfl rfl rfl (by decide +kernel) ⟨Nat.le_of_ble_eq_true rfl, Nat.le_of_ble_eq_true rfl⟩) ⟨fun a U g mk q => q, fun U hU hW => ⟨rfl, trivial⟩⟩ rfl rfl hl.1 rfl (lv_room (Nat.le_of_ble_eq_true rfl)) dX3_scales_5 ⟨Nat.le_of_ble_eq_true rfl, Nat.le_of_ble_eq_true rfl⟩) (fun r_1 hr_1 => ?_)
  rcases hr_1 with ⟨er_hr_1, hr_1⟩ | ⟨er_hr_1, hr_1⟩
  · subst er_hr_1
    refine lv_if_eq (tgt := 22) hx hb dX3_scales_8 (by decide) (fun c_ => absurd c_ (by decide)) (fun _ => ?_)
    refine lv_iload_n hx hb dX3_scales_11 rfl (lv_at hl 2 rfl) ?_
    refine lv_iconst (v := 0) hx hb dX3_scales_12 (by decide) ?_
    refine lv_sipush (v := 2000) hx hb dX3_scales_13 (by decide) ?_
    refine vp_callSi (W.runS (As := [.int l0, .int (0 : Int32), .int (2000 : Int32)]) (rest := []) ⟨hx, hb, hml, hown, hts⟩ (met_X3_in l l0 (0 : Int32) (2000 : Int32)) (va_cwS 3 hts (lw_S q1633 q1634 q71 q1635) rfl rfl rfl (by decide +kernel) ⟨Nat.le_of_ble_eq_true rfl, Nat.le_of_ble_eq_true rfl⟩) ⟨fun a U g mk q => q, fun U hU hW => ⟨rfl, trivial⟩⟩ rfl rfl hl.1 rfl (lv_room (Nat.le_of_ble_eq_true rfl)) dX3_scales_16 ⟨Nat.le_of_ble_eq_true rfl, Nat.le_of_ble_eq_true rfl⟩) (fun r_2 hr_2 => ?_)
    rcases hr_2 with ⟨er_hr_2, hr_2⟩ | ⟨er_hr_2, hr_2⟩
    · subst er_hr_2
      refine lv_if_ne (tgt := 25) hx hb dX3_scales_19 (by decide) (fun _ => ?_) (fun c_ => absurd c_ (by decide))
      refine lv_aload_n hx hb dX3_scales_25 rfl (lv_at hl 0 rfl) ?_
      refine m_get hx hb hts in_X3 hown hK hM 0 (by decide) (hts _ q1571) rfl dX3_scales_26 ?_
      refine lv_bipush (v := 8) hx hb dX3_scales_29 (by decide) ?_
      refine lv_iload_n hx hb dX3_scales_31 rfl (lv_at hl 1 rfl) ?_
      refine m_iast hx hb hK hM 0 1 rfl (fun _ => rfl) 8 rfl (by omega) dX3_scales_32 (by decide) (fun H locs S_3 eS_3 hM => ?_)
      refine lv_aload_n hx hb dX3_scales_33 rfl (lv_at hl 0 rfl) ?_
      refine m_get hx hb hts in_X3 hown hK hM 0 (by decide) (hts _ q1571) rfl dX3_scales_34 ?_
      refine lv_bipush (v := 9) hx hb dX3_scales_37 (by decide) ?_
      refine lv_iload_n hx hb dX3_scales_39 rfl (lv_at hl 2 rfl) ?_
      refine m_iast hx hb hK hM 0 1 rfl (fun _ => rfl) 9 rfl (by omega) dX3_scales_40 (by decide) (fun H locs S_4 eS_4 hM => ?_)
      refine lv_aload_n hx hb dX3_scales_41 rfl (lv_at hl 0 rfl) ?_
      refine m_get hx hb hts in_X3 hown hK hM 0 (by decide) (hts _ q1571) rfl dX3_scales_42 ?_
      refine lv_bipush (v := 10) hx hb dX3_scales_45 (by decide) ?_
      refine lv_aload_n hx hb dX3_scales_47 rfl (lv_at hl 0 rfl) ?_
      refine m_get hx hb hts in_X3 hown hK hM 0 (by decide) (hts _ q1571) rfl dX3_scales_48 ?_
      refine lv_bipush (v := 10) hx hb dX3_scales_51 (by decide) ?_
      refine m_iald hx hb hK hM 0 1 rfl 10 rfl (by omega) (v := (S 0 10)) (by rw [eS_4, su_s, pk_un (by omega), eS_3, su_s, pk_un (by omega)]) dX3_scales_53 (by decide) ?_
      refine lv_iload_n hx hb dX3_scales_54 rfl (lv_at hl 2 rfl) ?_
      refine lv_icmp_le (tgt := 62) hx hb dX3_scales_55 (by decide) (fun c55_b_5 => ?_) (fun c55_b_5 => ?_)
      · skip
        have c55_b_5 := Int32.not_lt.mpr c55_b_5
        refine lv_aload_n hx hb dX3_scales_62 rfl (lv_at hl 0 rfl) ?_
        refine m_get hx hb hts in_X3 hown hK hM 0 (by decide) (hts _ q1571) rfl dX3_scales_63 ?_
        refine lv_bipush (v := 10) hx hb dX3_scales_66 (by decide) ?_
        refine m_iald hx hb hK hM 0 1 rfl 10 rfl (by omega) (v := (S 0 10)) (by rw [eS_4, su_s, pk_un (by omega), eS_3, su_s, pk_un (by omega)]) dX3_scales_68 (by decide) ?_
        refine lv_iload_n hx hb dX3_scales_69 rfl (lv_at hl 2 rfl) ?_
        refine lv_ineg hx hb dX3_scales_70 ?_
        refine lv_icmp_ge (tgt := 79) hx hb dX3_scales_71 (by decide) (fun c71_b_6 => ?_) (fun c71_b_6 => ?_)
        · skip
          have c71_b_6 := Int32.not_lt.mpr c71_b_6
          refine lv_aload_n hx hb dX3_scales_79 rfl (lv_at hl 0 rfl) ?_
          refine m_get hx hb hts in_X3 hown hK hM 0 (by decide) (hts _ q1571) rfl dX3_scales_80 ?_
          refine lv_bipush (v := 10) hx hb dX3_scales_83 (by decide) ?_
          refine m_iald hx hb hK hM 0 1 rfl 10 rfl (by omega) (v := (S 0 10)) (by rw [eS_4, su_s, pk_un (by omega), eS_3, su_s, pk_un (by omega)]) dX3_scales_85 (by decide) ?_
          refine m_iast hx hb hK hM 0 1 rfl (fun _ => rfl) 10 rfl (by omega) dX3_scales_86 (by decide) (fun H locs S_7 eS_7 hM => ?_)
          refine lv_aload_n hx hb dX3_scales_87 rfl (lv_at hl 0 rfl) ?_
          refine m_get hx hb hts in_X3 hown hK hM 0 (by decide) (hts _ q1571) rfl dX3_scales_88 ?_
          refine lv_bipush (v := 10) hx hb dX3_scales_91 (by decide) ?_
          refine m_iald hx hb hK hM 0 1 rfl 10 rfl (by omega) (v := (S 0 10)) (by rw [eS_7, su_s, pk_us]) dX3_scales_93 (by decide) ?_
          exact W.iret hx hb hr (fun t ht hW => ⟨⟨_, S_7, rfl, (by subst eS_7; subst eS_4; subst eS_3; refine ⟨by simp [tk_scales, hr_1, hr_2, c55_b_5, c71_b_6], ?_⟩; (try simp only [su_su, su_s]); exact tk_smE (by simp [tk_scales, hr_1, hr_2, c55_b_5, c71_b_6])), by rw [ht]; exact hM.1, hM.2.1⟩, hM.2.2.F ht⟩) hM.2.2.2.2 dX3_scales_94
        · skip
          have c71_b_6 := Int32.not_le.mp c71_b_6
          refine lv_iload_n hx hb dX3_scales_74 rfl (lv_at hl 2 rfl) ?_
          refine lv_ineg hx hb dX3_scales_75 ?_
          refine lv_goto (tgt := 86) hx hb dX3_scales_76 (by decide) ?_
          refine m_iast hx hb hK hM 0 1 rfl (fun _ => rfl) 10 rfl (by omega) dX3_scales_86 (by decide) (fun H locs S_8 eS_8 hM => ?_)
          refine lv_aload_n hx hb dX3_scales_87 rfl (lv_at hl 0 rfl) ?_
          refine m_get hx hb hts in_X3 hown hK hM 0 (by decide) (hts _ q1571) rfl dX3_scales_88 ?_
          refine lv_bipush (v := 10) hx hb dX3_scales_91 (by decide) ?_
          refine m_iald hx hb hK hM 0 1 rfl 10 rfl (by omega) (v := (-l0)) (by rw [eS_8, su_s, pk_us]) dX3_scales_93 (by decide) ?_
          exact W.iret hx hb hr (fun t ht hW => ⟨⟨_, S_8, rfl, (by subst eS_8; subst eS_4; subst eS_3; refine ⟨by simp [tk_scales, hr_1, hr_2, c55_b_5, c71_b_6], ?_⟩; (try simp only [su_su, su_s]); exact tk_smE (by simp [tk_scales, hr_1, hr_2, c55_b_5, c71_b_6])), by rw [ht]; exact hM.1, hM.2.1⟩, hM.2.2.F ht⟩) hM.2.2.2.2 dX3_scales_94
      · skip
        have c55_b_5 := Int32.not_le.mp c55_b_5
        refine lv_iload_n hx hb dX3_scales_58 rfl (lv_at hl 2 rfl) ?_
        refine lv_goto (tgt := 86) hx hb dX3_scales_59 (by decide) ?_
        refine m_iast hx hb hK hM 0 1 rfl (fun _ => rfl) 10 rfl (by omega) dX3_scales_86 (by decide) (fun H locs S_9 eS_9 hM => ?_)
        refine lv_aload_n hx hb dX3_scales_87 rfl (lv_at hl 0 rfl) ?_
        refine m_get hx hb hts in_X3 hown hK hM 0 (by decide) (hts _ q1571) rfl dX3_scales_88 ?_
        refine lv_bipush (v := 10) hx hb dX3_scales_91 (by decide) ?_
        refine m_iald hx hb hK hM 0 1 rfl 10 rfl (by omega) (v := l0) (by rw [eS_9, su_s, pk_us]) dX3_scales_93 (by decide) ?_
        exact W.iret hx hb hr (fun t ht hW => ⟨⟨_, S_9, rfl, (by subst eS_9; subst eS_4; subst eS_3; refine ⟨by simp [tk_scales, hr_1, hr_2, c55_b_5], ?_⟩; (try simp only [su_su, su_s]); exact tk_smE (by simp [tk_scales, hr_1, hr_2, c55_b_5])), by rw [ht]; exact hM.1, hM.2.1⟩, hM.2.2.F ht⟩) hM.2.2.2.2 dX3_scales_94
    · subst er_hr_2
      refine lv_if_ne (tgt := 25) hx hb dX3_scales_19 (by decide) (fun c_ => absurd (by decide) c_) (fun _ => ?_)
      refine lv_ldc (v := -100001) hx hb hown (hts _ q1636) dX3_scales_22 ?_
      exact W.iret hx hb hr (fun t ht hW => ⟨⟨_, S, rfl, (by exact ⟨by simp [tk_scales, hr_1, hr_2], tk_smR (by simp [tk_scales, hr_1, hr_2])⟩), by rw [ht]; exact hM.1, hM.2.1⟩, hM.2.2.F ht⟩) hM.2.2.2.2 dX3_scales_24
  · subst er_hr_1
    refine lv_if_eq (tgt := 22) hx hb dX3_scales_8 (by decide) (fun _ => ?_) (fun c_ => absurd (by decide) c_)
    refine lv_ldc (v := -100001) hx hb hown (hts _ q1636) dX3_scales_22 ?_
    exact W.iret hx hb hr (fun t ht hW => ⟨⟨_, S, rfl, (by exact ⟨by simp [tk_scales, hr_1], tk_smR (by simp [tk_scales, hr_1])⟩), by rw [ht]; exact hM.1, hM.2.1⟩, hM.2.2.F ht⟩) hM.2.2.2.2 dX3_scales_24

set_option maxHeartbeats 4000000 in
set_option maxRecDepth 100000 in
theorem met_X3_sets (l : Launch) {B : Nat} (D : va_G) (cA : Nat → ClassId) (ad : Nat → Nat) (S : Nat → Nat → Int32) (p0 : Nat) (v0 : Int32) (lo : Int32) (hi : Int32) (hI : tk_ok B (S 0)) (hp0 : p0 < 284) : Met l yX3_sets (ws_ yX3_sets cX3_sets 6 (some .int)) (rmL 2 0 0) (mPre D cA ad S [.int (nI p0), .int v0, .int lo, .int hi]) (va_Qi (fun (r : Int32) (S' : Nat → Nat → Int32) => r = (tk_sets (S 0) p0 v0 lo hi).1 ∧ tk_sm S S' (tk_sets (S 0) p0 v0 lo hi).2) (mEnd D cA ad) (mA ad)) 0 0 (mA ad) := by
  refine Met.ofW (cc := cX3_sets) (maxL := 6) (ret := (some .int)) (by decide) rfl ?_
  intro p e s m args below meth c s₁ Bd hml hv
  obtain ⟨rfl, hP, hK, hD⟩ := hv
  have hx := Bd.exec
  have hb := Bd.bytes
  have hr := Bd.returns
  have hts := atoms_spec (ws := (ws_ yX3_sets cX3_sets 6 (some .int))) Bd.pre
  have hts : ∀ w ∈ lw_all, w.before _ s = true := fun w h => hts w (List.mem_cons_of_mem _ h)
  have hown : s.vm.findClass RX3 = some m.cls := findClass_of_methodNamed Bd.named
  have hlocks := Bd.notSynchronized
  have hM : mSt D cA ad (mA ad) s.heap s.heap [] S := ⟨hP, hD, va_S.rf⟩
  have hl := lv_entry ([.ref (ad 7), .int (nI p0), .int v0, .int lo, .int hi]) (n := 6) (Nat.le_of_ble_eq_true rfl)
  rw [lg_entry_eq]
  generalize (lg_sl ([.ref (ad 7), .int (nI p0), .int v0, .int lo, .int hi]) ++ List.replicate (6 - (lg_sl ([.ref (ad 7), .int (nI p0), .int v0, .int lo, .int hi])).length) Slot.unset).toArray = ls at hl ⊢
  have hl : lv_has ls 6 [(0, .ref (ad 7)), (1, .int (nI p0)), (2, .int v0), (3, .int lo), (4, .int hi)] := hl
  refine lv_iload_n hx hb dX3_sets_0 rfl (lv_at hl 2 rfl) ?_
  refine lv_iload_n hx hb dX3_sets_1 rfl (lv_at hl 3 rfl) ?_
  refine lv_iload hx hb dX3_sets_2 (lv_at hl 4 rfl) ?_
  refine vp_callSi (W.runS (As := [.int v0, .int lo, .int hi]) (rest := []) ⟨hx, hb, hml, hown, hts⟩ (met_X3_in l v0 lo hi) (va_cwS 3 hts (lw_S q1633 q1634 q71 q1635) rfl rfl rfl (by decide +kernel) ⟨Nat.le_of_ble_eq_true rfl, Nat.le_of_ble_eq_true rfl⟩) ⟨fun a U g mk q => q, fun U hU hW => ⟨rfl, trivial⟩⟩ rfl rfl hl.1 rfl (lv_room (Nat.le_of_ble_eq_true rfl)) dX3_sets_4 ⟨Nat.le_of_ble_eq_true rfl, Nat.le_of_ble_eq_true rfl⟩) (fun r_1 hr_1 => ?_)
  rcases hr_1 with ⟨er_hr_1, hr_1⟩ | ⟨er_hr_1, hr_1⟩
  · subst er_hr_1
    refine lv_if_ne (tgt := 13) hx hb dX3_sets_7 (by decide) (fun _ => ?_) (fun c_ => absurd c_ (by decide))
    refine lv_aload_n hx hb dX3_sets_13 rfl (lv_at hl 0 rfl) ?_
    refine m_get hx hb hts in_X3 hown hK hM 0 (by decide) (hts _ q1571) rfl dX3_sets_14 ?_
    refine lv_iload_n hx hb dX3_sets_17 rfl (lv_at hl 1 rfl) ?_
    refine m_iald hx hb hK hM 0 1 rfl p0 rfl (by omega) (v := (S 0 p0)) rfl dX3_sets_18 (by decide) ?_
    refine lv_istore (lv' := [(5, .int (S 0 p0)), (0, .ref (ad 7)), (1, .int (nI p0)), (2, .int v0), (3, .int lo), (4, .int hi)]) hx hb dX3_sets_19 hl (by decide) rfl (fun ls hl => ?_)
    refine lv_aload_n hx hb dX3_sets_21 rfl (lv_at hl 1 rfl) ?_
    refine m_get hx hb hts in_X3 hown hK hM 0 (by decide) (hts _ q1571) rfl dX3_sets_22 ?_
    refine lv_iload_n hx hb dX3_sets_25 rfl (lv_at hl 2 rfl) ?_
    refine lv_iload_n hx hb dX3_sets_26 rfl (lv_at hl 3 rfl) ?_
    refine m_iast hx hb hK hM 0 1 rfl (fun _ => rfl) p0 rfl (by omega) dX3_sets_27 (by decide) (fun H locs S_2 eS_2 hM => ?_)
    refine lv_iload hx hb dX3_sets_28 (lv_at hl 0 rfl) ?_
    exact W.iret hx hb hr (fun t ht hW => ⟨⟨_, S_2, rfl, (by subst eS_2; refine ⟨by simp [tk_sets, hr_1], ?_⟩; (try simp only [su_su, su_s]); exact tk_smE (by simp [tk_sets, hr_1])), by rw [ht]; exact hM.1, hM.2.1⟩, hM.2.2.F ht⟩) hM.2.2.2.2 dX3_sets_30
  · subst er_hr_1
    refine lv_if_ne (tgt := 13) hx hb dX3_sets_7 (by decide) (fun c_ => absurd (by decide) c_) (fun _ => ?_)
    refine lv_ldc (v := -100001) hx hb hown (hts _ q1636) dX3_sets_10 ?_
    exact W.iret hx hb hr (fun t ht hW => ⟨⟨_, S, rfl, (by exact ⟨by simp [tk_sets, hr_1], tk_smR (by simp [tk_sets, hr_1])⟩), by rw [ht]; exact hM.1, hM.2.1⟩, hM.2.2.F ht⟩) hM.2.2.2.2 dX3_sets_12

set_option maxHeartbeats 4000000 in
set_option maxRecDepth 100000 in
theorem met_X3_comes (l : Launch) {B : Nat} (D : va_G) (cA : Nat → ClassId) (ad : Nat → Nat) (S : Nat → Nat → Int32) (p0 : Int32) (hI : tk_ok B (S 0)) : Met l yX3_comes (ws_ yX3_comes cX3_comes 3 (some .int)) (rmL 2 0 0) (mPre D cA ad S [.int p0]) (va_Qi (fun (r : Int32) (S' : Nat → Nat → Int32) => r = (tk_comes (S 0) p0).1 ∧ tk_sm S S' (tk_comes (S 0) p0).2) (mEnd D cA ad) (mA ad)) 0 0 (mA ad) := by
  refine Met.ofW (cc := cX3_comes) (maxL := 3) (ret := (some .int)) (by decide) rfl ?_
  intro p e s m args below meth c s₁ Bd hml hv
  obtain ⟨rfl, hP, hK, hD⟩ := hv
  have hx := Bd.exec
  have hb := Bd.bytes
  have hr := Bd.returns
  have hts := atoms_spec (ws := (ws_ yX3_comes cX3_comes 3 (some .int))) Bd.pre
  have hts : ∀ w ∈ lw_all, w.before _ s = true := fun w h => hts w (List.mem_cons_of_mem _ h)
  have hown : s.vm.findClass RX3 = some m.cls := findClass_of_methodNamed Bd.named
  have hlocks := Bd.notSynchronized
  have hM : mSt D cA ad (mA ad) s.heap s.heap [] S := ⟨hP, hD, va_S.rf⟩
  have hl := lv_entry ([.ref (ad 7), .int p0]) (n := 3) (Nat.le_of_ble_eq_true rfl)
  rw [lg_entry_eq]
  generalize (lg_sl ([.ref (ad 7), .int p0]) ++ List.replicate (3 - (lg_sl ([.ref (ad 7), .int p0])).length) Slot.unset).toArray = ls at hl ⊢
  have hl : lv_has ls 3 [(0, .ref (ad 7)), (1, .int p0)] := hl
  obtain ⟨nc, hnc, enc, enn, eni⟩ := ok_n hI
  refine lv_iload_n hx hb dX3_comes_0 rfl (lv_at hl 1 rfl) ?_
  refine lv_iconst (v := 0) hx hb dX3_comes_1 (by decide) ?_
  refine lv_sipush (v := 9999) hx hb dX3_comes_2 (by decide) ?_
  refine vp_callSi (W.runS (As := [.int p0, .int (0 : Int32), .int (9999 : Int32)]) (rest := []) ⟨hx, hb, hml, hown, hts⟩ (met_X3_in l p0 (0 : Int32) (9999 : Int32)) (va_cwS 3 hts (lw_S q1633 q1634 q71 q1635) rfl rfl rfl (by decide +kernel) ⟨Nat.le_of_ble_eq_true rfl, Nat.le_of_ble_eq_true rfl⟩) ⟨fun a U g mk q => q, fun U hU hW => ⟨rfl, trivial⟩⟩ rfl rfl hl.1 rfl (lv_room (Nat.le_of_ble_eq_true rfl)) dX3_comes_5 ⟨Nat.le_of_ble_eq_true rfl, Nat.le_of_ble_eq_true rfl⟩) (fun r_1 hr_1 => ?_)
  rcases hr_1 with ⟨er_hr_1, hr_1⟩ | ⟨er_hr_1, hr_1⟩
  · subst er_hr_1
    refine lv_if_ne (tgt := 14) hx hb dX3_comes_8 (by decide) (fun _ => ?_) (fun c_ => absurd c_ (by decide))
    refine lv_aload_n hx hb dX3_comes_14 rfl (lv_at hl 0 rfl) ?_
    refine m_get hx hb hts in_X3 hown hK hM 0 (by decide) (hts _ q1571) rfl dX3_comes_15 ?_
    refine lv_bipush (v := 14) hx hb dX3_comes_18 (by decide) ?_
    refine m_iald hx hb hK hM 0 1 rfl 14 rfl (by omega) (v := (S 0 14)) rfl dX3_comes_20 (by decide) ?_
    refine lv_bipush (v := 6) hx hb dX3_comes_21 (by decide) ?_
    refine lv_icmp_ne (tgt := 29) hx hb dX3_comes_23 (by decide) (fun c23_b_2 => ?_) (fun c23_b_2 => ?_)
    · skip
      have nc23_b_2 := neqF (a := nc) (b := 6) enc rfl (by omega) (by omega) c23_b_2
      refine lv_bipush (v := 16) hx hb dX3_comes_29 (by decide) ?_
      refine lv_bipush (v := 6) hx hb dX3_comes_31 (by decide) ?_
      refine lv_aload_n hx hb dX3_comes_33 rfl (lv_at hl 0 rfl) ?_
      refine m_get hx hb hts in_X3 hown hK hM 0 (by decide) (hts _ q1571) rfl dX3_comes_34 ?_
      refine lv_bipush (v := 14) hx hb dX3_comes_37 (by decide) ?_
      refine m_iald hx hb hK hM 0 1 rfl 14 rfl (by omega) (v := (S 0 14)) rfl dX3_comes_39 (by decide) ?_
      refine lv_imul hx hb dX3_comes_40 ?_
      refine lv_iadd hx hb dX3_comes_41 ?_
      refine lv_istore_n (lv' := [(2, .int ((16 : Int32) + ((6 : Int32) * (S 0 14)))), (0, .ref (ad 7)), (1, .int p0)]) hx hb dX3_comes_42 rfl hl (by decide) rfl (fun ls hl => ?_)
      refine lv_aload_n hx hb dX3_comes_43 rfl (lv_at hl 1 rfl) ?_
      refine m_get hx hb hts in_X3 hown hK hM 0 (by decide) (hts _ q1571) rfl dX3_comes_44 ?_
      refine lv_iload_n hx hb dX3_comes_47 rfl (lv_at hl 0 rfl) ?_
      refine lv_iload_n hx hb dX3_comes_48 rfl (lv_at hl 2 rfl) ?_
      refine m_iast hx hb hK hM 0 1 rfl (fun _ => rfl) (16 + (6 * nc)) (ixA rfl (ixM rfl enc)) (by omega) dX3_comes_49 (by decide) (fun H locs S_3 eS_3 hM => ?_)
      refine lv_aload_n hx hb dX3_comes_50 rfl (lv_at hl 1 rfl) ?_
      refine m_get hx hb hts in_X3 hown hK hM 0 (by decide) (hts _ q1571) rfl dX3_comes_51 ?_
      refine lv_iload_n hx hb dX3_comes_54 rfl (lv_at hl 0 rfl) ?_
      refine lv_iconst (v := 1) hx hb dX3_comes_55 (by decide) ?_
      refine lv_iadd hx hb dX3_comes_56 ?_
      refine lv_iconst (v := 0) hx hb dX3_comes_57 (by decide) ?_
      refine m_iast hx hb hK hM 0 1 rfl (fun _ => rfl) ((16 + (6 * nc)) + 1) (ixA (ixA rfl (ixM rfl enc)) rfl) (by omega) dX3_comes_58 (by decide) (fun H locs S_4 eS_4 hM => ?_)
      refine lv_aload_n hx hb dX3_comes_59 rfl (lv_at hl 1 rfl) ?_
      refine m_get hx hb hts in_X3 hown hK hM 0 (by decide) (hts _ q1571) rfl dX3_comes_60 ?_
      refine lv_bipush (v := 14) hx hb dX3_comes_63 (by decide) ?_
      refine lv_dup2_11 hx hb dX3_comes_65 rfl rfl ?_
      refine m_iald hx hb hK hM 0 1 rfl 14 rfl (by omega) (v := (S 0 14)) (by rw [eS_4, su_s, pk_un (by omega), eS_3, su_s, pk_un (by omega)]) dX3_comes_66 (by decide) ?_
      refine lv_iconst (v := 1) hx hb dX3_comes_67 (by decide) ?_
      refine lv_iadd hx hb dX3_comes_68 ?_
      refine m_iast hx hb hK hM 0 1 rfl (fun _ => rfl) 14 rfl (by omega) dX3_comes_69 (by decide) (fun H locs S_5 eS_5 hM => ?_)
      refine lv_aload_n hx hb dX3_comes_70 rfl (lv_at hl 1 rfl) ?_
      refine m_get hx hb hts in_X3 hown hK hM 0 (by decide) (hts _ q1571) rfl dX3_comes_71 ?_
      refine lv_bipush (v := 14) hx hb dX3_comes_74 (by decide) ?_
      refine m_iald hx hb hK hM 0 1 rfl 14 rfl (by omega) (v := ((S 0 14) + (1 : Int32))) (by rw [eS_5, su_s, pk_us]) dX3_comes_76 (by decide) ?_
      refine lv_iconst (v := 1) hx hb dX3_comes_77 (by decide) ?_
      refine lv_isub hx hb dX3_comes_78 ?_
      exact W.iret hx hb hr (fun t ht hW => ⟨⟨_, S_5, rfl, (by subst eS_5; subst eS_4; subst eS_3; refine ⟨by simp [tk_comes, hr_1, c23_b_2, enn], ?_⟩; (try simp only [su_su, su_s]); exact tk_smE (by simp [tk_comes, hr_1, c23_b_2, enn])), by rw [ht]; exact hM.1, hM.2.1⟩, hM.2.2.F ht⟩) hM.2.2.2.2 dX3_comes_79
    · skip
      have nc23_b_2 := neqT (a := nc) (b := 6) enc rfl (by omega) (by omega) c23_b_2
      refine lv_ldc (v := -100003) hx hb hown (hts _ q1677) dX3_comes_26 ?_
      exact W.iret hx hb hr (fun t ht hW => ⟨⟨_, S, rfl, (by exact ⟨by simp [tk_comes, hr_1, c23_b_2], tk_smR (by simp [tk_comes, hr_1, c23_b_2])⟩), by rw [ht]; exact hM.1, hM.2.1⟩, hM.2.2.F ht⟩) hM.2.2.2.2 dX3_comes_28
  · subst er_hr_1
    refine lv_if_ne (tgt := 14) hx hb dX3_comes_8 (by decide) (fun c_ => absurd (by decide) c_) (fun _ => ?_)
    refine lv_ldc (v := -100001) hx hb hown (hts _ q1636) dX3_comes_11 ?_
    exact W.iret hx hb hr (fun t ht hW => ⟨⟨_, S, rfl, (by exact ⟨by simp [tk_comes, hr_1], tk_smR (by simp [tk_comes, hr_1])⟩), by rw [ht]; exact hM.1, hM.2.1⟩, hM.2.2.F ht⟩) hM.2.2.2.2 dX3_comes_13

set_option maxHeartbeats 4000000 in
set_option maxRecDepth 100000 in
theorem met_X3_weighs (l : Launch) {B : Nat} (D : va_G) (cA : Nat → ClassId) (ad : Nat → Nat) (S : Nat → Nat → Int32) (c0 : Int32) (k0 : Int32) (n0 : Int32) (v0 : Int32) (hI : tk_ok B (S 0)) : Met l yX3_weighs (ws_ yX3_weighs cX3_weighs 8 (some .int)) (rmL 5 0 0) (mPre D cA ad S [.int c0, .int k0, .int n0, .int v0]) (va_Qi (fun (r : Int32) (S' : Nat → Nat → Int32) => r = (tk_weighs (S 0) c0 k0 n0 v0).1 ∧ tk_sm S S' (tk_weighs (S 0) c0 k0 n0 v0).2) (mEnd D cA ad) (mA ad)) 0 0 (mA ad) := by
  refine Met.ofW (cc := cX3_weighs) (maxL := 8) (ret := (some .int)) (by decide) rfl ?_
  intro p e s m args below meth c s₁ Bd hml hv
  obtain ⟨rfl, hP, hK, hD⟩ := hv
  have hx := Bd.exec
  have hb := Bd.bytes
  have hr := Bd.returns
  have hts := atoms_spec (ws := (ws_ yX3_weighs cX3_weighs 8 (some .int))) Bd.pre
  have hts : ∀ w ∈ lw_all, w.before _ s = true := fun w h => hts w (List.mem_cons_of_mem _ h)
  have hown : s.vm.findClass RX3 = some m.cls := findClass_of_methodNamed Bd.named
  have hlocks := Bd.notSynchronized
  have hM : mSt D cA ad (mA ad) s.heap s.heap [] S := ⟨hP, hD, va_S.rf⟩
  have hl := lv_entry ([.ref (ad 7), .int c0, .int k0, .int n0, .int v0]) (n := 8) (Nat.le_of_ble_eq_true rfl)
  rw [lg_entry_eq]
  generalize (lg_sl ([.ref (ad 7), .int c0, .int k0, .int n0, .int v0]) ++ List.replicate (8 - (lg_sl ([.ref (ad 7), .int c0, .int k0, .int n0, .int v0])).length) Slot.unset).toArray = ls at hl ⊢
  have hl : lv_has ls 8 [(0, .ref (ad 7)), (1, .int c0), (2, .int k0), (3, .int n0), (4, .int v0)] := hl
  refine lv_aload_n hx hb dX3_weighs_0 rfl (lv_at hl 0 rfl) ?_
  refine lv_iload_n hx hb dX3_weighs_1 rfl (lv_at hl 1 rfl) ?_
  refine vp_callSi (W.runV (As := [.int c0]) (rest := []) ⟨hx, hb, hml, hown, hts⟩ (met_X3_isCustomer l D cA ad S c0) (cwV 1 hts (lw_V q1682 q1684 qs31 q71 q1685) rfl rfl rfl (by decide +kernel) ⟨Nat.le_of_ble_eq_true rfl, Nat.le_of_ble_eq_true rfl⟩) (mPreV hK hM) rfl rfl hl.1 rfl (lv_room (Nat.le_of_ble_eq_true rfl)) dX3_weighs_2 ⟨Nat.le_of_ble_eq_true rfl, Nat.le_of_ble_eq_true rfl⟩) (fun r_1 hr_1 => ?_)
  rcases hr_1 with ⟨er_hr_1, hr_1⟩ | ⟨er_hr_1, hr_1⟩
  · subst er_hr_1
    obtain ⟨j0, hj0, hlj0, rfl⟩ := ok_cus hI hr_1
    have nnj0 : (nI j0).toNatClampNeg = j0 := nI_clamp (by omega)
    refine lv_if_eq (tgt := 55) hx hb dX3_weighs_5 (by decide) (fun c_ => absurd c_ (by decide)) (fun _ => ?_)
    refine lv_iload_n hx hb dX3_weighs_8 rfl (lv_at hl 2 rfl) ?_
    refine vp_callSi (W.runS (As := [.int k0]) (rest := []) ⟨hx, hb, hml, hown, hts⟩ (met_X3_isKind l k0) (va_cwS 1 hts (lw_S q1630 q1631 q71 q1632) rfl rfl rfl (by decide +kernel) ⟨Nat.le_of_ble_eq_true rfl, Nat.le_of_ble_eq_true rfl⟩) ⟨fun a U g mk q => q, fun U hU hW => ⟨rfl, trivial⟩⟩ rfl rfl hl.1 rfl (lv_room (Nat.le_of_ble_eq_true rfl)) dX3_weighs_9 ⟨Nat.le_of_ble_eq_true rfl, Nat.le_of_ble_eq_true rfl⟩) (fun r_2 hr_2 => ?_)
    rcases hr_2 with ⟨er_hr_2, hr_2⟩ | ⟨er_hr_2, hr_2⟩
    · subst er_hr_2
      obtain ⟨kk, hkk, rfl⟩ := tk_k4 hr_2
      have nnk : (nI kk).toNatClampNeg = kk := nI_clamp (by omega)
      refine lv_if_eq (tgt := 55) hx hb dX3_weighs_12 (by decide) (fun c_ => absurd c_ (by decide)) (fun _ => ?_)
      refine lv_iload_n hx hb dX3_weighs_15 rfl (lv_at hl 3 rfl) ?_
      refine lv_iconst (v := 1) hx hb dX3_weighs_16 (by decide) ?_
      refine lv_sipush (v := 500) hx hb dX3_weighs_17 (by decide) ?_
      refine vp_callSi (W.runS (As := [.int n0, .int (1 : Int32), .int (500 : Int32)]) (rest := []) ⟨hx, hb, hml, hown, hts⟩ (met_X3_in l n0 (1 : Int32) (500 : Int32)) (va_cwS 3 hts (lw_S q1633 q1634 q71 q1635) rfl rfl rfl (by decide +kernel) ⟨Nat.le_of_ble_eq_true rfl, Nat.le_of_ble_eq_true rfl⟩) ⟨fun a U g mk q => q, fun U hU hW => ⟨rfl, trivial⟩⟩ rfl rfl hl.1 rfl (lv_room (Nat.le_of_ble_eq_true rfl)) dX3_weighs_20 ⟨Nat.le_of_ble_eq_true rfl, Nat.le_of_ble_eq_true rfl⟩) (fun r_3 hr_3 => ?_)
      rcases hr_3 with ⟨er_hr_3, hr_3⟩ | ⟨er_hr_3, hr_3⟩
      · subst er_hr_3
        refine lv_if_eq (tgt := 55) hx hb dX3_weighs_23 (by decide) (fun c_ => absurd c_ (by decide)) (fun _ => ?_)
        refine lv_iload hx hb dX3_weighs_26 (lv_at hl 4 rfl) ?_
        refine lv_iload_n hx hb dX3_weighs_28 rfl (lv_at hl 3 rfl) ?_
        refine lv_ineg hx hb dX3_weighs_29 ?_
        refine lv_aload_n hx hb dX3_weighs_30 rfl (lv_at hl 0 rfl) ?_
        refine m_get hx hb hts in_X3 hown hK hM 0 (by decide) (hts _ q1571) rfl dX3_weighs_31 ?_
        refine lv_iconst (v := 4) hx hb dX3_weighs_34 (by decide) ?_
        refine lv_iload_n hx hb dX3_weighs_35 rfl (lv_at hl 2 rfl) ?_
        refine lv_iadd hx hb dX3_weighs_36 ?_
        refine m_iald hx hb hK hM 0 1 rfl (4 + kk) (ixA rfl rfl) (by omega) (v := (S 0 (4 + kk))) rfl dX3_weighs_37 (by decide) ?_
        refine lv_imul hx hb dX3_weighs_38 ?_
        refine lv_iload_n hx hb dX3_weighs_39 rfl (lv_at hl 3 rfl) ?_
        refine lv_aload_n hx hb dX3_weighs_40 rfl (lv_at hl 0 rfl) ?_
        refine m_get hx hb hts in_X3 hown hK hM 0 (by decide) (hts _ q1571) rfl dX3_weighs_41 ?_
        refine lv_iconst (v := 4) hx hb dX3_weighs_44 (by decide) ?_
        refine lv_iload_n hx hb dX3_weighs_45 rfl (lv_at hl 2 rfl) ?_
        refine lv_iadd hx hb dX3_weighs_46 ?_
        refine m_iald hx hb hK hM 0 1 rfl (4 + kk) (ixA rfl rfl) (by omega) (v := (S 0 (4 + kk))) rfl dX3_weighs_47 (by decide) ?_
        refine lv_imul hx hb dX3_weighs_48 ?_
        refine vp_callSi (W.runS (As := [.int v0, .int ((-n0) * (S 0 (4 + kk))), .int (n0 * (S 0 (4 + kk)))]) (rest := []) ⟨hx, hb, hml, hown, hts⟩ (met_X3_in l v0 ((-n0) * (S 0 (4 + kk))) (n0 * (S 0 (4 + kk)))) (va_cwS 3 hts (lw_S q1633 q1634 q71 q1635) rfl rfl rfl (by decide +kernel) ⟨Nat.le_of_ble_eq_true rfl, Nat.le_of_ble_eq_true rfl⟩) ⟨fun a U g mk q => q, fun U hU hW => ⟨rfl, trivial⟩⟩ rfl rfl hl.1 rfl (lv_room (Nat.le_of_ble_eq_true rfl)) dX3_weighs_49 ⟨Nat.le_of_ble_eq_true rfl, Nat.le_of_ble_eq_true rfl⟩) (fun r_4 hr_4 => ?_)
        rcases hr_4 with ⟨er_hr_4, hr_4⟩ | ⟨er_hr_4, hr_4⟩
        · subst er_hr_4
          refine lv_if_ne (tgt := 58) hx hb dX3_weighs_52 (by decide) (fun _ => ?_) (fun c_ => absurd c_ (by decide))
          refine lv_aload_n hx hb dX3_weighs_58 rfl (lv_at hl 0 rfl) ?_
          refine lv_iload_n hx hb dX3_weighs_59 rfl (lv_at hl 3 rfl) ?_
          refine lv_aload_n hx hb dX3_weighs_60 rfl (lv_at hl 0 rfl) ?_
          refine m_get hx hb hts in_X3 hown hK hM 0 (by decide) (hts _ q1571) rfl dX3_weighs_61 ?_
          refine lv_iload_n hx hb dX3_weighs_64 rfl (lv_at hl 2 rfl) ?_
          refine m_iald hx hb hK hM 0 1 rfl kk rfl (by omega) (v := (S 0 kk)) rfl dX3_weighs_65 (by decide) ?_
          refine lv_imul hx hb dX3_weighs_66 ?_
          refine lv_iload hx hb dX3_weighs_67 (lv_at hl 4 rfl) ?_
          refine lv_iadd hx hb dX3_weighs_69 ?_
          refine lv_aload_n hx hb dX3_weighs_70 rfl (lv_at hl 0 rfl) ?_
          refine m_get hx hb hts in_X3 hown hK hM 0 (by decide) (hts _ q1571) rfl dX3_weighs_71 ?_
          refine lv_bipush (v := 10) hx hb dX3_weighs_74 (by decide) ?_
          refine m_iald hx hb hK hM 0 1 rfl 10 rfl (by omega) (v := (S 0 10)) rfl dX3_weighs_76 (by decide) ?_
          refine lv_iadd hx hb dX3_weighs_77 ?_
          refine lv_aload_n hx hb dX3_weighs_78 rfl (lv_at hl 0 rfl) ?_
          refine m_get hx hb hts in_X3 hown hK hM 0 (by decide) (hts _ q1571) rfl dX3_weighs_79 ?_
          refine lv_bipush (v := 8) hx hb dX3_weighs_82 (by decide) ?_
          refine m_iald hx hb hK hM 0 1 rfl 8 rfl (by omega) (v := (S 0 8)) rfl dX3_weighs_84 (by decide) ?_
          refine vp_callSi (W.runV (As := [.int (((n0 * (S 0 kk)) + v0) + (S 0 10)), .int (S 0 8)]) (rest := []) ⟨hx, hb, hml, hown, hts⟩ (met_X3_readsBy l D cA ad S (((n0 * (S 0 kk)) + v0) + (S 0 10)) (S 0 8) (ok_step2 hI)) (cwV 2 hts (lw_V q1698 q1700 qs34 q71 q1701) rfl rfl rfl (by decide +kernel) ⟨Nat.le_of_ble_eq_true rfl, Nat.le_of_ble_eq_true rfl⟩) (mPreV hK hM) rfl rfl hl.1 rfl (lv_room (Nat.le_of_ble_eq_true rfl)) dX3_weighs_85 ⟨Nat.le_of_ble_eq_true rfl, Nat.le_of_ble_eq_true rfl⟩) (fun r_5 hr_5 => ?_)
          subst hr_5
          refine lv_istore (lv' := [(5, .int (tk_rd (((n0 * (S 0 kk)) + v0) + (S 0 10)) (S 0 8))), (0, .ref (ad 7)), (1, .int (nI j0)), (2, .int (nI kk)), (3, .int n0), (4, .int v0)]) hx hb dX3_weighs_88 hl (by decide) rfl (fun ls hl => ?_)
          refine lv_aload_n hx hb dX3_weighs_90 rfl (lv_at hl 1 rfl) ?_
          refine lv_iload hx hb dX3_weighs_91 (lv_at hl 0 rfl) ?_
          refine lv_iload_n hx hb dX3_weighs_93 rfl (lv_at hl 3 rfl) ?_
          refine lv_aload_n hx hb dX3_weighs_94 rfl (lv_at hl 1 rfl) ?_
          refine m_get hx hb hts in_X3 hown hK hM 0 (by decide) (hts _ q1571) rfl dX3_weighs_95 ?_
          refine lv_bipush (v := 11) hx hb dX3_weighs_98 (by decide) ?_
          refine m_iald hx hb hK hM 0 1 rfl 11 rfl (by omega) (v := (S 0 11)) rfl dX3_weighs_100 (by decide) ?_
          refine va_calli (va_runV (As := [.int (tk_rd (((n0 * (S 0 kk)) + v0) + (S 0 10)) (S 0 8)), .int (nI kk), .int (S 0 11)]) (rest := []) ⟨hx, hb, hml, hown, hts⟩ (met_X3_guesses l D cA ad S (tk_rd (((n0 * (S 0 kk)) + v0) + (S 0 10)) (S 0 8)) kk (S 0 11) hI hkk) (cwV 3 hts (lw_V q1705 q1707 qs35 q71 q1708) rfl rfl rfl (by decide +kernel) ⟨Nat.le_of_ble_eq_true rfl, Nat.le_of_ble_eq_true rfl⟩) (mPreV hK hM) rfl rfl hl.1 rfl (lv_room (Nat.le_of_ble_eq_true rfl)) dX3_weighs_101 ⟨Nat.le_of_ble_eq_true rfl, Nat.le_of_ble_eq_true rfl⟩) hM.2.2 (fun _ _ h => h) (fun _ h => h) (fun r_6 S_7 t H1 locs ht hvm hr_6 hB hz hk hS => ?_)
          have hM : mSt D cA ad (mA ad) s.heap H1 locs S_7 := ⟨by rw [← ht]; exact hB.1, hB.2, hS⟩
          clear hB ht; generalize H1 = H at hM ⊢; clear hz hk hS
          refine W.widen (k := 0) (n := 0) (Nat.le_refl 0) (Nat.le_refl 0) ?_
          obtain ⟨hr_6a, hr_6b⟩ := hr_6
          refine lv_istore (lv' := [(6, .int r_6), (5, .int (tk_rd (((n0 * (S 0 kk)) + v0) + (S 0 10)) (S 0 8))), (0, .ref (ad 7)), (1, .int (nI j0)), (2, .int (nI kk)), (3, .int n0), (4, .int v0)]) hx hb dX3_weighs_104 hl (by decide) rfl (fun ls hl => ?_)
          refine lv_bipush (v := 16) hx hb dX3_weighs_106 (by decide) ?_
          refine lv_bipush (v := 6) hx hb dX3_weighs_108 (by decide) ?_
          refine lv_iload_n hx hb dX3_weighs_110 rfl (lv_at hl 3 rfl) ?_
          refine lv_imul hx hb dX3_weighs_111 ?_
          refine lv_iadd hx hb dX3_weighs_112 ?_
          refine lv_istore (lv' := [(7, .int ((16 : Int32) + ((6 : Int32) * (nI j0)))), (6, .int r_6), (5, .int (tk_rd (((n0 * (S 0 kk)) + v0) + (S 0 10)) (S 0 8))), (0, .ref (ad 7)), (1, .int (nI j0)), (2, .int (nI kk)), (3, .int n0), (4, .int v0)]) hx hb dX3_weighs_113 hl (by decide) rfl (fun ls hl => ?_)
          refine lv_aload_n hx hb dX3_weighs_115 rfl (lv_at hl 3 rfl) ?_
          refine m_get hx hb hts in_X3 hown hK hM 0 (by decide) (hts _ q1571) rfl dX3_weighs_116 ?_
          refine lv_iload hx hb dX3_weighs_119 (lv_at hl 0 rfl) ?_
          refine lv_dup2_11 hx hb dX3_weighs_121 rfl rfl ?_
          refine m_iald hx hb hK hM 0 1 rfl (16 + (6 * j0)) (ixA rfl (ixM rfl rfl)) (by omega) (v := (S 0 (16 + (6 * j0)))) (by rw [hr_6b, tk_alS_0 _ _ _ (by decide)]) dX3_weighs_122 (by decide) ?_
          refine lv_iload hx hb dX3_weighs_123 (lv_at hl 1 rfl) ?_
          refine lv_iadd hx hb dX3_weighs_125 ?_
          refine m_iast hx hb hK hM 0 1 rfl (fun _ => rfl) (16 + (6 * j0)) (ixA rfl (ixM rfl rfl)) (by omega) dX3_weighs_126 (by decide) (fun H locs S_8 eS_8 hM => ?_)
          refine lv_aload_n hx hb dX3_weighs_127 rfl (lv_at hl 3 rfl) ?_
          refine m_get hx hb hts in_X3 hown hK hM 0 (by decide) (hts _ q1571) rfl dX3_weighs_128 ?_
          refine lv_iload hx hb dX3_weighs_131 (lv_at hl 0 rfl) ?_
          refine lv_iconst (v := 1) hx hb dX3_weighs_133 (by decide) ?_
          refine lv_iadd hx hb dX3_weighs_134 ?_
          refine lv_iconst (v := 1) hx hb dX3_weighs_135 (by decide) ?_
          refine m_iast hx hb hK hM 0 1 rfl (fun _ => rfl) ((16 + (6 * j0)) + 1) (ixA (ixA rfl (ixM rfl rfl)) rfl) (by omega) dX3_weighs_136 (by decide) (fun H locs S_9 eS_9 hM => ?_)
          refine lv_aload_n hx hb dX3_weighs_137 rfl (lv_at hl 3 rfl) ?_
          refine m_get hx hb hts in_X3 hown hK hM 0 (by decide) (hts _ q1571) rfl dX3_weighs_138 ?_
          refine lv_iload hx hb dX3_weighs_141 (lv_at hl 0 rfl) ?_
          refine lv_iconst (v := 2) hx hb dX3_weighs_143 (by decide) ?_
          refine lv_iadd hx hb dX3_weighs_144 ?_
          refine lv_iload_n hx hb dX3_weighs_145 rfl (lv_at hl 5 rfl) ?_
          refine m_iast hx hb hK hM 0 1 rfl (fun _ => rfl) ((16 + (6 * j0)) + 2) (ixA (ixA rfl (ixM rfl rfl)) rfl) (by omega) dX3_weighs_146 (by decide) (fun H locs S_10 eS_10 hM => ?_)
          refine lv_aload_n hx hb dX3_weighs_147 rfl (lv_at hl 3 rfl) ?_
          refine m_get hx hb hts in_X3 hown hK hM 0 (by decide) (hts _ q1571) rfl dX3_weighs_148 ?_
          refine lv_iload hx hb dX3_weighs_151 (lv_at hl 0 rfl) ?_
          refine lv_iconst (v := 3) hx hb dX3_weighs_153 (by decide) ?_
          refine lv_iadd hx hb dX3_weighs_154 ?_
          refine lv_iload_n hx hb dX3_weighs_155 rfl (lv_at hl 6 rfl) ?_
          refine m_iast hx hb hK hM 0 1 rfl (fun _ => rfl) ((16 + (6 * j0)) + 3) (ixA (ixA rfl (ixM rfl rfl)) rfl) (by omega) dX3_weighs_156 (by decide) (fun H locs S_11 eS_11 hM => ?_)
          refine lv_aload_n hx hb dX3_weighs_157 rfl (lv_at hl 3 rfl) ?_
          refine m_get hx hb hts in_X3 hown hK hM 0 (by decide) (hts _ q1571) rfl dX3_weighs_158 ?_
          refine lv_iload hx hb dX3_weighs_161 (lv_at hl 0 rfl) ?_
          refine lv_iconst (v := 4) hx hb dX3_weighs_163 (by decide) ?_
          refine lv_iadd hx hb dX3_weighs_164 ?_
          refine lv_iload hx hb dX3_weighs_165 (lv_at hl 2 rfl) ?_
          refine m_iast hx hb hK hM 0 1 rfl (fun _ => rfl) ((16 + (6 * j0)) + 4) (ixA (ixA rfl (ixM rfl rfl)) rfl) (by omega) dX3_weighs_167 (by decide) (fun H locs S_12 eS_12 hM => ?_)
          refine lv_aload_n hx hb dX3_weighs_168 rfl (lv_at hl 3 rfl) ?_
          refine m_get hx hb hts in_X3 hown hK hM 0 (by decide) (hts _ q1571) rfl dX3_weighs_169 ?_
          refine lv_iload hx hb dX3_weighs_172 (lv_at hl 0 rfl) ?_
          refine lv_iconst (v := 5) hx hb dX3_weighs_174 (by decide) ?_
          refine lv_iadd hx hb dX3_weighs_175 ?_
          refine lv_iload hx hb dX3_weighs_176 (lv_at hl 1 rfl) ?_
          refine m_iast hx hb hK hM 0 1 rfl (fun _ => rfl) ((16 + (6 * j0)) + 5) (ixA (ixA rfl (ixM rfl rfl)) rfl) (by omega) dX3_weighs_178 (by decide) (fun H locs S_13 eS_13 hM => ?_)
          refine lv_aload_n hx hb dX3_weighs_179 rfl (lv_at hl 3 rfl) ?_
          refine m_get hx hb hts in_X3 hown hK hM 0 (by decide) (hts _ q1571) rfl dX3_weighs_180 ?_
          refine lv_bipush (v := 13) hx hb dX3_weighs_183 (by decide) ?_
          refine lv_dup2_11 hx hb dX3_weighs_185 rfl rfl ?_
          refine m_iald hx hb hK hM 0 1 rfl 13 rfl (by omega) (v := (S 0 13)) (by rw [eS_13, su_s, pk_un (by omega), eS_12, su_s, pk_un (by omega), eS_11, su_s, pk_un (by omega), eS_10, su_s, pk_un (by omega), eS_9, su_s, pk_un (by omega), eS_8, su_s, pk_un (by omega), hr_6b, tk_alS_0 _ _ _ (by decide)]) dX3_weighs_186 (by decide) ?_
          refine lv_iload hx hb dX3_weighs_187 (lv_at hl 1 rfl) ?_
          refine lv_iload_n hx hb dX3_weighs_189 rfl (lv_at hl 6 rfl) ?_
          refine lv_isub hx hb dX3_weighs_190 ?_
          refine lv_iadd hx hb dX3_weighs_191 ?_
          refine m_iast hx hb hK hM 0 1 rfl (fun _ => rfl) 13 rfl (by omega) dX3_weighs_192 (by decide) (fun H locs S_14 eS_14 hM => ?_)
          refine lv_iload hx hb dX3_weighs_193 (lv_at hl 1 rfl) ?_
          exact W.iret hx hb hr (fun t ht hW => ⟨⟨_, S_14, rfl, (by subst eS_14; subst eS_13; subst eS_12; subst eS_11; subst eS_10; subst eS_9; subst eS_8; subst hr_6b; subst hr_6a; refine ⟨by simp [tk_weighs, tk_weighW, tk_weighR, hr_1, nnj0, hr_2, nnk, hr_3, hr_4, tk_alS_0], ?_⟩; simp only [su_su, su_s, tk_alS_0 _ _ _ (show (0 : Nat) ≠ 7 by decide)]; exact tk_smA (by simp [tk_weighs, tk_weighW, tk_weighR, hr_1, nnj0, hr_2, nnk, hr_3, hr_4, tk_alS_0])), by rw [ht]; exact hM.1, hM.2.1⟩, hM.2.2.F ht⟩) hM.2.2.2.2 dX3_weighs_195
        · subst er_hr_4
          refine lv_if_ne (tgt := 58) hx hb dX3_weighs_52 (by decide) (fun c_ => absurd (by decide) c_) (fun _ => ?_)
          refine lv_ldc (v := -100001) hx hb hown (hts _ q1636) dX3_weighs_55 ?_
          exact W.iret hx hb hr (fun t ht hW => ⟨⟨_, S, rfl, (by exact ⟨by simp [tk_weighs, tk_weighW, tk_weighR, hr_1, nnj0, hr_2, nnk, hr_3, hr_4], tk_smR (by simp [tk_weighs, tk_weighW, tk_weighR, hr_1, nnj0, hr_2, nnk, hr_3, hr_4])⟩), by rw [ht]; exact hM.1, hM.2.1⟩, hM.2.2.F ht⟩) hM.2.2.2.2 dX3_weighs_57
      · subst er_hr_3
        refine lv_if_eq (tgt := 55) hx hb dX3_weighs_23 (by decide) (fun _ => ?_) (fun c_ => absurd (by decide) c_)
        refine lv_ldc (v := -100001) hx hb hown (hts _ q1636) dX3_weighs_55 ?_
        exact W.iret hx hb hr (fun t ht hW => ⟨⟨_, S, rfl, (by exact ⟨by simp [tk_weighs, tk_weighW, tk_weighR, hr_1, nnj0, hr_2, nnk, hr_3], tk_smR (by simp [tk_weighs, tk_weighW, tk_weighR, hr_1, nnj0, hr_2, nnk, hr_3])⟩), by rw [ht]; exact hM.1, hM.2.1⟩, hM.2.2.F ht⟩) hM.2.2.2.2 dX3_weighs_57
    · subst er_hr_2
      refine lv_if_eq (tgt := 55) hx hb dX3_weighs_12 (by decide) (fun _ => ?_) (fun c_ => absurd (by decide) c_)
      refine lv_ldc (v := -100001) hx hb hown (hts _ q1636) dX3_weighs_55 ?_
      exact W.iret hx hb hr (fun t ht hW => ⟨⟨_, S, rfl, (by exact ⟨by simp [tk_weighs, tk_weighW, tk_weighR, hr_1, nnj0, hr_2], tk_smR (by simp [tk_weighs, tk_weighW, tk_weighR, hr_1, nnj0, hr_2])⟩), by rw [ht]; exact hM.1, hM.2.1⟩, hM.2.2.F ht⟩) hM.2.2.2.2 dX3_weighs_57
  · subst er_hr_1
    refine lv_if_eq (tgt := 55) hx hb dX3_weighs_5 (by decide) (fun _ => ?_) (fun c_ => absurd (by decide) c_)
    refine lv_ldc (v := -100001) hx hb hown (hts _ q1636) dX3_weighs_55 ?_
    exact W.iret hx hb hr (fun t ht hW => ⟨⟨_, S, rfl, (by exact ⟨by simp [tk_weighs, tk_weighW, tk_weighR, hr_1], tk_smR (by simp [tk_weighs, tk_weighW, tk_weighR, hr_1])⟩), by rw [ht]; exact hM.1, hM.2.1⟩, hM.2.2.F ht⟩) hM.2.2.2.2 dX3_weighs_57
