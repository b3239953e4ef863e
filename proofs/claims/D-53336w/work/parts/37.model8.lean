set_option maxHeartbeats 4000000 in
set_option maxRecDepth 100000 in
theorem met_X3_mixes (l : Launch) {B : Nat} (D : va_G) (cA : Nat → ClassId) (ad : Nat → Nat) (S : Nat → Nat → Int32) (o0 : Nat) (a0 : Int32) (q0 : Nat) (b0 : Int32) (r0 : Int32) (hI : tk_ok B (S 0)) (ho0 : o0 < 4) (hq0 : q0 < 4) : Met l yX3_mixes (ws_ yX3_mixes cX3_mixes 8 (some .boolean)) (rmL 3 0 0) (mPre D cA ad S [.int (nI o0), .int a0, .int (nI q0), .int b0, .int r0]) (vp_Si (fun r => pB r (tk_mx (S 0) o0 a0 q0 b0 r0))) 0 0 (fun _ => False) := by
  refine Met.ofW (cc := cX3_mixes) (maxL := 8) (ret := (some .boolean)) (by decide) rfl ?_
  intro p e s m args below meth c s₁ Bd hml hv
  obtain ⟨rfl, hP, hK, hD⟩ := hv
  have hx := Bd.exec
  have hb := Bd.bytes
  have hr := Bd.returns
  have hts := atoms_spec (ws := (ws_ yX3_mixes cX3_mixes 8 (some .boolean))) Bd.pre
  have hts : ∀ w ∈ lw_all, w.before _ s = true := fun w h => hts w (List.mem_cons_of_mem _ h)
  have hown : s.vm.findClass RX3 = some m.cls := findClass_of_methodNamed Bd.named
  have hlocks := Bd.notSynchronized
  have hM : mSt D cA ad (mA ad) s.heap s.heap [] S := ⟨hP, hD, va_S.rf⟩
  have hl := lv_entry ([.ref (ad 7), .int (nI o0), .int a0, .int (nI q0), .int b0, .int r0]) (n := 8) (Nat.le_of_ble_eq_true rfl)
  rw [lg_entry_eq]
  generalize (lg_sl ([.ref (ad 7), .int (nI o0), .int a0, .int (nI q0), .int b0, .int r0]) ++ List.replicate (8 - (lg_sl ([.ref (ad 7), .int (nI o0), .int a0, .int (nI q0), .int b0, .int r0])).length) Slot.unset).toArray = ls at hl ⊢
  have hl : lv_has ls 8 [(0, .ref (ad 7)), (1, .int (nI o0)), (2, .int a0), (3, .int (nI q0)), (4, .int b0), (5, .int r0)] := hl
  refine lv_iload_n hx hb dX3_mixes_0 rfl (lv_at hl 2 rfl) ?_
  refine lv_aload_n hx hb dX3_mixes_1 rfl (lv_at hl 0 rfl) ?_
  refine m_get hx hb hts in_X3 hown hK hM 0 (by decide) (hts _ q1571) rfl dX3_mixes_2 ?_
  refine lv_iload_n hx hb dX3_mixes_5 rfl (lv_at hl 1 rfl) ?_
  refine m_iald hx hb hK hM 0 1 rfl o0 rfl (by omega) (v := (S 0 o0)) rfl dX3_mixes_6 (by decide) ?_
  refine lv_aload_n hx hb dX3_mixes_7 rfl (lv_at hl 0 rfl) ?_
  refine m_get hx hb hts in_X3 hown hK hM 0 (by decide) (hts _ q1571) rfl dX3_mixes_8 ?_
  refine lv_iconst (v := 4) hx hb dX3_mixes_11 (by decide) ?_
  refine lv_iload_n hx hb dX3_mixes_12 rfl (lv_at hl 1 rfl) ?_
  refine lv_iadd hx hb dX3_mixes_13 ?_
  refine m_iald hx hb hK hM 0 1 rfl (4 + o0) (ixA rfl rfl) (by omega) (v := (S 0 (4 + o0))) rfl dX3_mixes_14 (by decide) ?_
  refine lv_isub hx hb dX3_mixes_15 ?_
  refine lv_imul hx hb dX3_mixes_16 ?_
  refine lv_iload hx hb dX3_mixes_17 (lv_at hl 4 rfl) ?_
  refine lv_aload_n hx hb dX3_mixes_19 rfl (lv_at hl 0 rfl) ?_
  refine m_get hx hb hts in_X3 hown hK hM 0 (by decide) (hts _ q1571) rfl dX3_mixes_20 ?_
  refine lv_iload_n hx hb dX3_mixes_23 rfl (lv_at hl 3 rfl) ?_
  refine m_iald hx hb hK hM 0 1 rfl q0 rfl (by omega) (v := (S 0 q0)) rfl dX3_mixes_24 (by decide) ?_
  refine lv_aload_n hx hb dX3_mixes_25 rfl (lv_at hl 0 rfl) ?_
  refine m_get hx hb hts in_X3 hown hK hM 0 (by decide) (hts _ q1571) rfl dX3_mixes_26 ?_
  refine lv_iconst (v := 4) hx hb dX3_mixes_29 (by decide) ?_
  refine lv_iload_n hx hb dX3_mixes_30 rfl (lv_at hl 3 rfl) ?_
  refine lv_iadd hx hb dX3_mixes_31 ?_
  refine m_iald hx hb hK hM 0 1 rfl (4 + q0) (ixA rfl rfl) (by omega) (v := (S 0 (4 + q0))) rfl dX3_mixes_32 (by decide) ?_
  refine lv_isub hx hb dX3_mixes_33 ?_
  refine lv_imul hx hb dX3_mixes_34 ?_
  refine lv_iadd hx hb dX3_mixes_35 ?_
  refine lv_aload_n hx hb dX3_mixes_36 rfl (lv_at hl 0 rfl) ?_
  refine m_get hx hb hts in_X3 hown hK hM 0 (by decide) (hts _ q1571) rfl dX3_mixes_37 ?_
  refine lv_bipush (v := 9) hx hb dX3_mixes_40 (by decide) ?_
  refine m_iald hx hb hK hM 0 1 rfl 9 rfl (by omega) (v := (S 0 9)) rfl dX3_mixes_42 (by decide) ?_
  refine lv_isub hx hb dX3_mixes_43 ?_
  refine lv_istore (lv' := [(6, .int (((a0 * ((S 0 o0) - (S 0 (4 + o0)))) + (b0 * ((S 0 q0) - (S 0 (4 + q0))))) - (S 0 9))), (0, .ref (ad 7)), (1, .int (nI o0)), (2, .int a0), (3, .int (nI q0)), (4, .int b0), (5, .int r0)]) hx hb dX3_mixes_44 hl (by decide) rfl (fun ls hl => ?_)
  refine lv_iload_n hx hb dX3_mixes_46 rfl (lv_at hl 3 rfl) ?_
  refine lv_aload_n hx hb dX3_mixes_47 rfl (lv_at hl 1 rfl) ?_
  refine m_get hx hb hts in_X3 hown hK hM 0 (by decide) (hts _ q1571) rfl dX3_mixes_48 ?_
  refine lv_iload_n hx hb dX3_mixes_51 rfl (lv_at hl 2 rfl) ?_
  refine m_iald hx hb hK hM 0 1 rfl o0 rfl (by omega) (v := (S 0 o0)) rfl dX3_mixes_52 (by decide) ?_
  refine lv_aload_n hx hb dX3_mixes_53 rfl (lv_at hl 1 rfl) ?_
  refine m_get hx hb hts in_X3 hown hK hM 0 (by decide) (hts _ q1571) rfl dX3_mixes_54 ?_
  refine lv_iconst (v := 4) hx hb dX3_mixes_57 (by decide) ?_
  refine lv_iload_n hx hb dX3_mixes_58 rfl (lv_at hl 2 rfl) ?_
  refine lv_iadd hx hb dX3_mixes_59 ?_
  refine m_iald hx hb hK hM 0 1 rfl (4 + o0) (ixA rfl rfl) (by omega) (v := (S 0 (4 + o0))) rfl dX3_mixes_60 (by decide) ?_
  refine lv_iadd hx hb dX3_mixes_61 ?_
  refine lv_imul hx hb dX3_mixes_62 ?_
  refine lv_iload hx hb dX3_mixes_63 (lv_at hl 5 rfl) ?_
  refine lv_aload_n hx hb dX3_mixes_65 rfl (lv_at hl 1 rfl) ?_
  refine m_get hx hb hts in_X3 hown hK hM 0 (by decide) (hts _ q1571) rfl dX3_mixes_66 ?_
  refine lv_iload_n hx hb dX3_mixes_69 rfl (lv_at hl 4 rfl) ?_
  refine m_iald hx hb hK hM 0 1 rfl q0 rfl (by omega) (v := (S 0 q0)) rfl dX3_mixes_70 (by decide) ?_
  refine lv_aload_n hx hb dX3_mixes_71 rfl (lv_at hl 1 rfl) ?_
  refine m_get hx hb hts in_X3 hown hK hM 0 (by decide) (hts _ q1571) rfl dX3_mixes_72 ?_
  refine lv_iconst (v := 4) hx hb dX3_mixes_75 (by decide) ?_
  refine lv_iload_n hx hb dX3_mixes_76 rfl (lv_at hl 4 rfl) ?_
  refine lv_iadd hx hb dX3_mixes_77 ?_
  refine m_iald hx hb hK hM 0 1 rfl (4 + q0) (ixA rfl rfl) (by omega) (v := (S 0 (4 + q0))) rfl dX3_mixes_78 (by decide) ?_
  refine lv_iadd hx hb dX3_mixes_79 ?_
  refine lv_imul hx hb dX3_mixes_80 ?_
  refine lv_iadd hx hb dX3_mixes_81 ?_
  refine lv_aload_n hx hb dX3_mixes_82 rfl (lv_at hl 1 rfl) ?_
  refine m_get hx hb hts in_X3 hown hK hM 0 (by decide) (hts _ q1571) rfl dX3_mixes_83 ?_
  refine lv_bipush (v := 9) hx hb dX3_mixes_86 (by decide) ?_
  refine m_iald hx hb hK hM 0 1 rfl 9 rfl (by omega) (v := (S 0 9)) rfl dX3_mixes_88 (by decide) ?_
  refine lv_iadd hx hb dX3_mixes_89 ?_
  refine lv_istore (lv' := [(7, .int (((a0 * ((S 0 o0) + (S 0 (4 + o0)))) + (b0 * ((S 0 q0) + (S 0 (4 + q0))))) + (S 0 9))), (6, .int (((a0 * ((S 0 o0) - (S 0 (4 + o0)))) + (b0 * ((S 0 q0) - (S 0 (4 + q0))))) - (S 0 9))), (0, .ref (ad 7)), (1, .int (nI o0)), (2, .int a0), (3, .int (nI q0)), (4, .int b0), (5, .int r0)]) hx hb dX3_mixes_90 hl (by decide) rfl (fun ls hl => ?_)
  refine lv_iload hx hb dX3_mixes_92 (lv_at hl 7 rfl) ?_
  refine lv_aload_n hx hb dX3_mixes_94 rfl (lv_at hl 2 rfl) ?_
  refine m_get hx hb hts in_X3 hown hK hM 0 (by decide) (hts _ q1571) rfl dX3_mixes_95 ?_
  refine lv_bipush (v := 8) hx hb dX3_mixes_98 (by decide) ?_
  refine m_iald hx hb hK hM 0 1 rfl 8 rfl (by omega) (v := (S 0 8)) rfl dX3_mixes_100 (by decide) ?_
  refine lv_irem hx hb dX3_mixes_101 (ok_step hI) ?_
  refine lv_if_ne (tgt := 131) hx hb dX3_mixes_102 (by decide) (fun c102_b_1 => ?_) (fun c102_b_1 => ?_)
  · skip
    refine lv_iconst (v := 0) hx hb dX3_mixes_131 (by decide) ?_
    exact W.zret hx hb hr rfl (fun t ht hW => ⟨_, rfl, Or.inr ⟨rfl, by simp [tk_mx, tk_mu, c102_b_1]⟩, ht⟩) (fun _ h => absurd h List.not_mem_nil) dX3_mixes_132
  · skip
    refine lv_iload hx hb dX3_mixes_105 (lv_at hl 1 rfl) ?_
    refine lv_aload_n hx hb dX3_mixes_107 rfl (lv_at hl 2 rfl) ?_
    refine lv_iload hx hb dX3_mixes_108 (lv_at hl 7 rfl) ?_
    refine vp_callSi (W.runV (As := [.int r0]) (rest := [.int (((a0 * ((S 0 o0) - (S 0 (4 + o0)))) + (b0 * ((S 0 q0) - (S 0 (4 + q0))))) - (S 0 9))]) ⟨hx, hb, hml, hown, hts⟩ (met_X3_highest l D cA ad S r0) (cwV 1 hts (lw_V q1718 q1720 qs38 q71 q1721) rfl rfl rfl (by decide +kernel) ⟨Nat.le_of_ble_eq_true rfl, Nat.le_of_ble_eq_true rfl⟩) (mPreV hK hM) rfl rfl hl.1 rfl (lv_room (Nat.le_of_ble_eq_true rfl)) dX3_mixes_110 ⟨Nat.le_of_ble_eq_true rfl, Nat.le_of_ble_eq_true rfl⟩) (fun r_2 hr_2 => ?_)
    subst hr_2
    refine lv_icmp_gt (tgt := 131) hx hb dX3_mixes_113 (by decide) (fun c113_b_3 => ?_) (fun c113_b_3 => ?_)
    · skip
      refine lv_iconst (v := 0) hx hb dX3_mixes_131 (by decide) ?_
      exact W.zret hx hb hr rfl (fun t ht hW => ⟨_, rfl, Or.inr ⟨rfl, by simp [tk_mx, tk_mu, c102_b_1, c113_b_3]⟩, ht⟩) (fun _ h => absurd h List.not_mem_nil) dX3_mixes_132
    · skip
      refine lv_iload hx hb dX3_mixes_116 (lv_at hl 0 rfl) ?_
      refine lv_aload_n hx hb dX3_mixes_118 rfl (lv_at hl 2 rfl) ?_
      refine lv_iload hx hb dX3_mixes_119 (lv_at hl 7 rfl) ?_
      refine vp_callSi (W.runV (As := [.int r0]) (rest := [.int (((a0 * ((S 0 o0) + (S 0 (4 + o0)))) + (b0 * ((S 0 q0) + (S 0 (4 + q0))))) + (S 0 9))]) ⟨hx, hb, hml, hown, hts⟩ (met_X3_lowest l D cA ad S r0) (cwV 1 hts (lw_V q1713 q1715 qs37 q71 q1716) rfl rfl rfl (by decide +kernel) ⟨Nat.le_of_ble_eq_true rfl, Nat.le_of_ble_eq_true rfl⟩) (mPreV hK hM) rfl rfl hl.1 rfl (lv_room (Nat.le_of_ble_eq_true rfl)) dX3_mixes_121 ⟨Nat.le_of_ble_eq_true rfl, Nat.le_of_ble_eq_true rfl⟩) (fun r_4 hr_4 => ?_)
      subst hr_4
      refine lv_icmp_lt (tgt := 131) hx hb dX3_mixes_124 (by decide) (fun c124_b_5 => ?_) (fun c124_b_5 => ?_)
      · skip
        refine lv_iconst (v := 0) hx hb dX3_mixes_131 (by decide) ?_
        exact W.zret hx hb hr rfl (fun t ht hW => ⟨_, rfl, Or.inr ⟨rfl, by simp [tk_mx, tk_mu, c102_b_1, c113_b_3, c124_b_5]⟩, ht⟩) (fun _ h => absurd h List.not_mem_nil) dX3_mixes_132
      · skip
        refine lv_iconst (v := 1) hx hb dX3_mixes_127 (by decide) ?_
        refine lv_goto (tgt := 132) hx hb dX3_mixes_128 (by decide) ?_
        exact W.zret hx hb hr rfl (fun t ht hW => ⟨_, rfl, Or.inl ⟨rfl, by simp [tk_mx, tk_mu, c102_b_1, c113_b_3, c124_b_5]⟩, ht⟩) (fun _ h => absurd h List.not_mem_nil) dX3_mixes_132

set_option maxHeartbeats 4000000 in
set_option maxRecDepth 100000 in
theorem met_X3_mixed (l : Launch) {B : Nat} (D : va_G) (cA : Nat → ClassId) (ad : Nat → Nat) (S : Nat → Nat → Int32) (o0 : Int32) (p0 : Int32) (r0 : Int32) (w0 : Int32) (hI : tk_ok B (S 0)) : Met l yX3_mixed (ws_ yX3_mixed cX3_mixed 10 (some .int)) (rmL 4 0 0) (mPre D cA ad S [.int o0, .int p0, .int r0, .int w0]) (vp_Si (fun r => r = tk_mixq (S 0) o0 p0 r0 w0)) 0 0 (fun _ => False) := by
  refine Met.ofW (cc := cX3_mixed) (maxL := 10) (ret := (some .int)) (by decide) rfl ?_
  intro p e s m args below meth c s₁ Bd hml hv
  obtain ⟨rfl, hP, hK, hD⟩ := hv
  have hx := Bd.exec
  have hb := Bd.bytes
  have hr := Bd.returns
  have hts := atoms_spec (ws := (ws_ yX3_mixed cX3_mixed 10 (some .int))) Bd.pre
  have hts : ∀ w ∈ lw_all, w.before _ s = true := fun w h => hts w (List.mem_cons_of_mem _ h)
  have hown : s.vm.findClass RX3 = some m.cls := findClass_of_methodNamed Bd.named
  have hlocks := Bd.notSynchronized
  have hM : mSt D cA ad (mA ad) s.heap s.heap [] S := ⟨hP, hD, va_S.rf⟩
  have hl := lv_entry ([.ref (ad 7), .int o0, .int p0, .int r0, .int w0]) (n := 10) (Nat.le_of_ble_eq_true rfl)
  rw [lg_entry_eq]
  generalize (lg_sl ([.ref (ad 7), .int o0, .int p0, .int r0, .int w0]) ++ List.replicate (10 - (lg_sl ([.ref (ad 7), .int o0, .int p0, .int r0, .int w0])).length) Slot.unset).toArray = ls at hl ⊢
  have hl : lv_has ls 10 [(0, .ref (ad 7)), (1, .int o0), (2, .int p0), (3, .int r0), (4, .int w0)] := hl
  refine lv_iload_n hx hb dX3_mixed_0 rfl (lv_at hl 1 rfl) ?_
  refine vp_callSi (W.runS (As := [.int o0]) (rest := []) ⟨hx, hb, hml, hown, hts⟩ (met_X3_isKind l o0) (va_cwS 1 hts (lw_S q1630 q1631 q71 q1632) rfl rfl rfl (by decide +kernel) ⟨Nat.le_of_ble_eq_true rfl, Nat.le_of_ble_eq_true rfl⟩) ⟨fun a U g mk q => q, fun U hU hW => ⟨rfl, trivial⟩⟩ rfl rfl hl.1 rfl (lv_room (Nat.le_of_ble_eq_true rfl)) dX3_mixed_1 ⟨Nat.le_of_ble_eq_true rfl, Nat.le_of_ble_eq_true rfl⟩) (fun r_1 hr_1 => ?_)
  rcases hr_1 with ⟨er_hr_1, hr_1⟩ | ⟨er_hr_1, hr_1⟩
  · subst er_hr_1
    obtain ⟨oo, hoo, rfl⟩ := tk_k4 hr_1
    have nno : (nI oo).toNatClampNeg = oo := nI_clamp (by omega)
    refine lv_if_eq (tgt := 39) hx hb dX3_mixed_4 (by decide) (fun c_ => absurd c_ (by decide)) (fun _ => ?_)
    refine lv_iload_n hx hb dX3_mixed_7 rfl (lv_at hl 2 rfl) ?_
    refine vp_callSi (W.runS (As := [.int p0]) (rest := []) ⟨hx, hb, hml, hown, hts⟩ (met_X3_isKind l p0) (va_cwS 1 hts (lw_S q1630 q1631 q71 q1632) rfl rfl rfl (by decide +kernel) ⟨Nat.le_of_ble_eq_true rfl, Nat.le_of_ble_eq_true rfl⟩) ⟨fun a U g mk q => q, fun U hU hW => ⟨rfl, trivial⟩⟩ rfl rfl hl.1 rfl (lv_room (Nat.le_of_ble_eq_true rfl)) dX3_mixed_8 ⟨Nat.le_of_ble_eq_true rfl, Nat.le_of_ble_eq_true rfl⟩) (fun r_2 hr_2 => ?_)
    rcases hr_2 with ⟨er_hr_2, hr_2⟩ | ⟨er_hr_2, hr_2⟩
    · subst er_hr_2
      obtain ⟨pp, hpp, rfl⟩ := tk_k4 hr_2
      have nnp : (nI pp).toNatClampNeg = pp := nI_clamp (by omega)
      refine lv_if_eq (tgt := 39) hx hb dX3_mixed_11 (by decide) (fun c_ => absurd c_ (by decide)) (fun _ => ?_)
      refine lv_iload_n hx hb dX3_mixed_14 rfl (lv_at hl 3 rfl) ?_
      refine lv_iconst (v := 0) hx hb dX3_mixed_15 (by decide) ?_
      refine lv_ldc (v := 3000000) hx hb hown (hts _ q1867) dX3_mixed_16 ?_
      refine vp_callSi (W.runS (As := [.int r0, .int (0 : Int32), .int (3000000 : Int32)]) (rest := []) ⟨hx, hb, hml, hown, hts⟩ (met_X3_in l r0 (0 : Int32) (3000000 : Int32)) (va_cwS 3 hts (lw_S q1633 q1634 q71 q1635) rfl rfl rfl (by decide +kernel) ⟨Nat.le_of_ble_eq_true rfl, Nat.le_of_ble_eq_true rfl⟩) ⟨fun a U g mk q => q, fun U hU hW => ⟨rfl, trivial⟩⟩ rfl rfl hl.1 rfl (lv_room (Nat.le_of_ble_eq_true rfl)) dX3_mixed_18 ⟨Nat.le_of_ble_eq_true rfl, Nat.le_of_ble_eq_true rfl⟩) (fun r_3 hr_3 => ?_)
      rcases hr_3 with ⟨er_hr_3, hr_3⟩ | ⟨er_hr_3, hr_3⟩
      · subst er_hr_3
        refine lv_if_eq (tgt := 39) hx hb dX3_mixed_21 (by decide) (fun c_ => absurd c_ (by decide)) (fun _ => ?_)
        refine lv_iload hx hb dX3_mixed_24 (lv_at hl 4 rfl) ?_
        refine lv_iconst (v := 0) hx hb dX3_mixed_26 (by decide) ?_
        refine lv_iconst (v := 2) hx hb dX3_mixed_27 (by decide) ?_
        refine vp_callSi (W.runS (As := [.int w0, .int (0 : Int32), .int (2 : Int32)]) (rest := []) ⟨hx, hb, hml, hown, hts⟩ (met_X3_in l w0 (0 : Int32) (2 : Int32)) (va_cwS 3 hts (lw_S q1633 q1634 q71 q1635) rfl rfl rfl (by decide +kernel) ⟨Nat.le_of_ble_eq_true rfl, Nat.le_of_ble_eq_true rfl⟩) ⟨fun a U g mk q => q, fun U hU hW => ⟨rfl, trivial⟩⟩ rfl rfl hl.1 rfl (lv_room (Nat.le_of_ble_eq_true rfl)) dX3_mixed_28 ⟨Nat.le_of_ble_eq_true rfl, Nat.le_of_ble_eq_true rfl⟩) (fun r_4 hr_4 => ?_)
        rcases hr_4 with ⟨er_hr_4, hr_4⟩ | ⟨er_hr_4, hr_4⟩
        · subst er_hr_4
          refine lv_if_eq (tgt := 39) hx hb dX3_mixed_31 (by decide) (fun c_ => absurd c_ (by decide)) (fun _ => ?_)
          refine lv_iload_n hx hb dX3_mixed_34 rfl (lv_at hl 1 rfl) ?_
          refine lv_iload_n hx hb dX3_mixed_35 rfl (lv_at hl 2 rfl) ?_
          refine lv_icmp_ne (tgt := 42) hx hb dX3_mixed_36 (by decide) (fun c36_b_5 => ?_) (fun c36_b_5 => ?_)
          · skip
            refine lv_iconst (v := 0) hx hb dX3_mixed_42 (by decide) ?_
            refine lv_istore (lv' := [(5, .int (0 : Int32)), (0, .ref (ad 7)), (1, .int (nI oo)), (2, .int (nI pp)), (3, .int r0), (4, .int w0)]) hx hb dX3_mixed_43 hl (by decide) rfl (fun ls hl => ?_)
            refine lv_ldc (v := -100009) hx hb hown (hts _ q1722) dX3_mixed_45 ?_
            refine lv_istore (lv' := [(6, .int (-100009 : Int32)), (5, .int (0 : Int32)), (0, .ref (ad 7)), (1, .int (nI oo)), (2, .int (nI pp)), (3, .int r0), (4, .int w0)]) hx hb dX3_mixed_47 hl (by decide) rfl (fun ls hl => ?_)
            refine lv_ldc (v := -100009) hx hb hown (hts _ q1722) dX3_mixed_49 ?_
            refine lv_istore (lv' := [(7, .int (-100009 : Int32)), (6, .int (-100009 : Int32)), (5, .int (0 : Int32)), (0, .ref (ad 7)), (1, .int (nI oo)), (2, .int (nI pp)), (3, .int r0), (4, .int w0)]) hx hb dX3_mixed_51 hl (by decide) rfl (fun ls hl => ?_)
            refine lv_iconst (v := 0) hx hb dX3_mixed_53 (by decide) ?_
            refine lv_istore (lv' := [(8, .int (0 : Int32)), (7, .int (-100009 : Int32)), (6, .int (-100009 : Int32)), (5, .int (0 : Int32)), (0, .ref (ad 7)), (1, .int (nI oo)), (2, .int (nI pp)), (3, .int r0), (4, .int w0)]) hx hb dX3_mixed_54 hl (by decide) rfl (fun ls hl => ?_)
            have cut_56 : ∀ (N : Nat) (j : Nat) (x5 x6 x7 : Int32) (hj : j ≤ 61) (em1 : (tk_mxo (fun a b => tk_mx (S 0) oo (nI a) pp (nI b) r0) j).1 = x5) (em2 : (tk_mxo (fun a b => tk_mx (S 0) oo (nI a) pp (nI b) r0) j).2.1 = x6) (em3 : (tk_mxo (fun a b => tk_mx (S 0) oo (nI a) pp (nI b) r0) j).2.2 = x7) (hN : 61 - j < N) , ∀ (ls : Array Slot) (hl : lv_has ls 10 [(8, .int (nI j)), (5, .int x5), (6, .int x6), (7, .int x7), (0, .ref (ad 7)), (1, .int (nI oo)), (2, .int (nI pp)), (3, .int r0), (4, .int w0)]), W p l e (headSpec (ws_ yX3_mixed cX3_mixed 10 (some .int)) (rmL 4 0 0)).room s m ([.ref (ad 7), .int (nI oo), .int (nI pp), .int r0, .int w0] : List Value).toArray below meth c s.heap [] 0 0 (MQ below (vp_Si (fun r => r = tk_mixq (S 0) (nI oo) (nI pp) r0 w0)) ([.ref (ad 7), .int (nI oo), .int (nI pp), .int r0, .int w0] : List Value).toArray s 0 0 (fun _ => False)) (F0 m 56 ls []) := by
              intro N
              induction N with
              | zero => intro j x5 x6 x7 hj em1 em2 em3 hN; exact absurd hN (Nat.not_lt_zero _)
              | succ N ih_56 =>
                intro j x5 x6 x7 hj em1 em2 em3 hN  ls hl
                refine lv_iload hx hb dX3_mixed_56 (lv_at hl 0 rfl) ?_
                refine lv_bipush (v := 60) hx hb dX3_mixed_58 (by decide) ?_
                refine lv_icmp_gt (tgt := 125) hx hb dX3_mixed_60 (by decide) (fun c60_b_6 => ?_) (fun c60_b_6 => ?_)
                · skip
                  have nc60_b_6 := ngtT (a := j) (b := 60) rfl rfl (by omega) (by omega) c60_b_6
                  obtain rfl : j = 61 := by omega
                  refine lv_iload hx hb dX3_mixed_125 (lv_at hl 8 rfl) ?_
                  refine lv_if_ne (tgt := 135) hx hb dX3_mixed_127 (by decide) (fun c127_b_7 => ?_) (fun c127_b_7 => ?_)
                  · skip
                    refine lv_iload hx hb dX3_mixed_135 (lv_at hl 8 rfl) ?_
                    refine lv_iconst (v := 1) hx hb dX3_mixed_137 (by decide) ?_
                    refine lv_icmp_ne (tgt := 146) hx hb dX3_mixed_138 (by decide) (fun c138_b_8 => ?_) (fun c138_b_8 => ?_)
                    · skip
                      refine lv_iload hx hb dX3_mixed_146 (lv_at hl 3 rfl) ?_
                      exact W.iret hx hb hr (fun t ht hW => ⟨_, rfl, (by simp [tk_mixq, tk_pick, ti1, hr_1, nno, hr_2, nnp, hr_3, hr_4, c36_b_5, c60_b_6, c127_b_7, c138_b_8, em1, em2, em3]), ht⟩) (fun _ h => absurd h List.not_mem_nil) dX3_mixed_148
                    · skip
                      refine lv_iload hx hb dX3_mixed_141 (lv_at hl 2 rfl) ?_
                      refine lv_goto (tgt := 148) hx hb dX3_mixed_143 (by decide) ?_
                      exact W.iret hx hb hr (fun t ht hW => ⟨_, rfl, (by simp [tk_mixq, tk_pick, ti1, hr_1, nno, hr_2, nnp, hr_3, hr_4, c36_b_5, c60_b_6, c127_b_7, c138_b_8, em1, em2, em3]), ht⟩) (fun _ h => absurd h List.not_mem_nil) dX3_mixed_148
                  · skip
                    refine lv_iload hx hb dX3_mixed_130 (lv_at hl 1 rfl) ?_
                    refine lv_goto (tgt := 148) hx hb dX3_mixed_132 (by decide) ?_
                    exact W.iret hx hb hr (fun t ht hW => ⟨_, rfl, (by simp [tk_mixq, tk_pick, ti1, hr_1, nno, hr_2, nnp, hr_3, hr_4, c36_b_5, c60_b_6, c127_b_7, em1, em2, em3]), ht⟩) (fun _ h => absurd h List.not_mem_nil) dX3_mixed_148
                · skip
                  have nc60_b_6 := ngtF (a := j) (b := 60) rfl rfl (by omega) (by omega) c60_b_6
                  refine lv_iconst (v := 0) hx hb dX3_mixed_63 (by decide) ?_
                  refine lv_istore (lv' := [(9, .int (0 : Int32)), (8, .int (nI j)), (5, .int x5), (6, .int x6), (7, .int x7), (0, .ref (ad 7)), (1, .int (nI oo)), (2, .int (nI pp)), (3, .int r0), (4, .int w0)]) hx hb dX3_mixed_64 hl (by decide) rfl (fun ls hl => ?_)
                  have cut_66 : ∀ (N : Nat) (k : Nat) (y5 y6 y7 : Int32) (hk : k ≤ j + 1) (fm1 : (tk_mxi (fun a b => tk_mx (S 0) oo (nI a) pp (nI b) r0) j (tk_mxo (fun a b => tk_mx (S 0) oo (nI a) pp (nI b) r0) j) k).1 = y5) (fm2 : (tk_mxi (fun a b => tk_mx (S 0) oo (nI a) pp (nI b) r0) j (tk_mxo (fun a b => tk_mx (S 0) oo (nI a) pp (nI b) r0) j) k).2.1 = y6) (fm3 : (tk_mxi (fun a b => tk_mx (S 0) oo (nI a) pp (nI b) r0) j (tk_mxo (fun a b => tk_mx (S 0) oo (nI a) pp (nI b) r0) j) k).2.2 = y7) (hN : j + 1 - k < N) , ∀ (ls : Array Slot) (hl : lv_has ls 10 [(9, .int (nI k)), (5, .int y5), (6, .int y6), (7, .int y7), (8, .int (nI j)), (0, .ref (ad 7)), (1, .int (nI oo)), (2, .int (nI pp)), (3, .int r0), (4, .int w0)]), W p l e (headSpec (ws_ yX3_mixed cX3_mixed 10 (some .int)) (rmL 4 0 0)).room s m ([.ref (ad 7), .int (nI oo), .int (nI pp), .int r0, .int w0] : List Value).toArray below meth c s.heap [] 0 0 (MQ below (vp_Si (fun r => r = tk_mixq (S 0) (nI oo) (nI pp) r0 w0)) ([.ref (ad 7), .int (nI oo), .int (nI pp), .int r0, .int w0] : List Value).toArray s 0 0 (fun _ => False)) (F0 m 66 ls []) := by
                    intro N
                    induction N with
                    | zero => intro k y5 y6 y7 hk fm1 fm2 fm3 hN; exact absurd hN (Nat.not_lt_zero _)
                    | succ N ih_66 =>
                      intro k y5 y6 y7 hk fm1 fm2 fm3 hN  ls hl
                      refine lv_iload hx hb dX3_mixed_66 (lv_at hl 0 rfl) ?_
                      refine lv_iload hx hb dX3_mixed_68 (lv_at hl 4 rfl) ?_
                      refine lv_icmp_gt (tgt := 119) hx hb dX3_mixed_70 (by decide) (fun c70_b_9 => ?_) (fun c70_b_9 => ?_)
                      · skip
                        have nc70_b_9 := ngtT (a := k) (b := j) rfl rfl (by omega) (by omega) c70_b_9
                        obtain rfl : k = j + 1 := by omega
                        refine lv_iinc (v := (nI (j + 1))) (lv' := [(8, .int (nI (j + 1))), (9, .int (nI (j + 1))), (5, .int y5), (6, .int y6), (7, .int y7), (0, .ref (ad 7)), (1, .int (nI oo)), (2, .int (nI pp)), (3, .int r0), (4, .int w0)]) hx hb dX3_mixed_119 hl (k := 4) rfl (ixA rfl rfl) (by decide) rfl (fun ls hl => ?_)
                        refine lv_goto (tgt := 56) hx hb dX3_mixed_122 (by decide) ?_
                        exact ih_56 (j + 1) _ _ _ (by omega) fm1 fm2 fm3 (by omega)  ls (lv_sub hl [0, 2, 3, 4, 5, 6, 7, 8, 9] rfl)
                      · skip
                        have nc70_b_9 := ngtF (a := k) (b := j) rfl rfl (by omega) (by omega) c70_b_9
                        refine lv_aload_n hx hb dX3_mixed_73 rfl (lv_at hl 5 rfl) ?_
                        refine lv_iload_n hx hb dX3_mixed_74 rfl (lv_at hl 6 rfl) ?_
                        refine lv_iload hx hb dX3_mixed_75 (lv_at hl 0 rfl) ?_
                        refine lv_iload_n hx hb dX3_mixed_77 rfl (lv_at hl 7 rfl) ?_
                        refine lv_iload hx hb dX3_mixed_78 (lv_at hl 4 rfl) ?_
                        refine lv_iload hx hb dX3_mixed_80 (lv_at hl 0 rfl) ?_
                        refine lv_isub hx hb dX3_mixed_82 ?_
                        rw [show ((nI j) - (nI k)) = nI (j - k) from (ixS rfl rfl (by omega))]
                        refine lv_iload_n hx hb dX3_mixed_83 rfl (lv_at hl 8 rfl) ?_
                        refine vp_callSi (W.runV (As := [.int (nI oo), .int (nI k), .int (nI pp), .int (nI (j - k)), .int r0]) (rest := []) ⟨hx, hb, hml, hown, hts⟩ (met_X3_mixes l D cA ad S oo (nI k) pp (nI (j - k)) r0 hI hoo hpp) (cwV 5 hts (lw_V q1892 q1894 qs56 q71 q1895) rfl rfl rfl (by decide +kernel) ⟨Nat.le_of_ble_eq_true rfl, Nat.le_of_ble_eq_true rfl⟩) (mPreV hK hM) rfl rfl hl.1 rfl (lv_room (Nat.le_of_ble_eq_true rfl)) dX3_mixed_84 ⟨Nat.le_of_ble_eq_true rfl, Nat.le_of_ble_eq_true rfl⟩) (fun r_10 hr_10 => ?_)
                        rcases hr_10 with ⟨er_hr_10, hr_10⟩ | ⟨er_hr_10, hr_10⟩
                        · subst er_hr_10
                          refine lv_if_eq (tgt := 113) hx hb dX3_mixed_87 (by decide) (fun c_ => absurd c_ (by decide)) (fun _ => ?_)
                          refine lv_iinc (v := (y5 + (1 : Int32))) (lv' := [(5, .int (y5 + (1 : Int32))), (9, .int (nI k)), (6, .int y6), (7, .int y7), (8, .int (nI j)), (0, .ref (ad 7)), (1, .int (nI oo)), (2, .int (nI pp)), (3, .int r0), (4, .int w0)]) hx hb dX3_mixed_90 hl (k := 1) rfl rfl (by decide) rfl (fun ls hl => ?_)
                          refine lv_iload hx hb dX3_mixed_93 (lv_at hl 2 rfl) ?_
                          refine lv_ldc (v := -100009) hx hb hown (hts _ q1722) dX3_mixed_95 ?_
                          refine lv_icmp_ne (tgt := 105) hx hb dX3_mixed_97 (by decide) (fun c97_b_11 => ?_) (fun c97_b_11 => ?_)
                          · skip
                            refine lv_iload hx hb dX3_mixed_105 (lv_at hl 2 rfl) ?_
                            refine lv_istore (lv' := [(6, .int y6), (5, .int (y5 + (1 : Int32))), (9, .int (nI k)), (7, .int y7), (8, .int (nI j)), (0, .ref (ad 7)), (1, .int (nI oo)), (2, .int (nI pp)), (3, .int r0), (4, .int w0)]) hx hb dX3_mixed_107 hl (by decide) rfl (fun ls hl => ?_)
                            refine lv_iload hx hb dX3_mixed_109 (lv_at hl 4 rfl) ?_
                            refine lv_istore (lv' := [(7, .int (nI j)), (6, .int y6), (5, .int (y5 + (1 : Int32))), (9, .int (nI k)), (8, .int (nI j)), (0, .ref (ad 7)), (1, .int (nI oo)), (2, .int (nI pp)), (3, .int r0), (4, .int w0)]) hx hb dX3_mixed_111 hl (by decide) rfl (fun ls hl => ?_)
                            refine lv_iinc (v := (nI (k + 1))) (lv' := [(9, .int (nI (k + 1))), (7, .int (nI j)), (6, .int y6), (5, .int (y5 + (1 : Int32))), (8, .int (nI j)), (0, .ref (ad 7)), (1, .int (nI oo)), (2, .int (nI pp)), (3, .int r0), (4, .int w0)]) hx hb dX3_mixed_113 hl (k := 3) rfl (ixA rfl rfl) (by decide) rfl (fun ls hl => ?_)
                            refine lv_goto (tgt := 66) hx hb dX3_mixed_116 (by decide) ?_
                            exact ih_66 (k + 1) _ _ _ (by omega) (by simp [tk_mxi, tk_mxs, nI_1, fm1, fm2, fm3, hr_1, nno, hr_2, nnp, hr_3, hr_4, c36_b_5, c60_b_6, c70_b_9, hr_10, c97_b_11]) (by simp [tk_mxi, tk_mxs, nI_1, fm1, fm2, fm3, hr_1, nno, hr_2, nnp, hr_3, hr_4, c36_b_5, c60_b_6, c70_b_9, hr_10, c97_b_11]) (by simp [tk_mxi, tk_mxs, nI_1, fm1, fm2, fm3, hr_1, nno, hr_2, nnp, hr_3, hr_4, c36_b_5, c60_b_6, c70_b_9, hr_10, c97_b_11]) (by omega)  ls (lv_sub hl [0, 3, 2, 1, 4, 5, 6, 7, 8, 9] rfl)
                          · skip
                            refine lv_iload hx hb dX3_mixed_100 (lv_at hl 4 rfl) ?_
                            refine lv_goto (tgt := 107) hx hb dX3_mixed_102 (by decide) ?_
                            refine lv_istore (lv' := [(6, .int (nI j)), (5, .int (y5 + (1 : Int32))), (9, .int (nI k)), (7, .int y7), (8, .int (nI j)), (0, .ref (ad 7)), (1, .int (nI oo)), (2, .int (nI pp)), (3, .int r0), (4, .int w0)]) hx hb dX3_mixed_107 hl (by decide) rfl (fun ls hl => ?_)
                            refine lv_iload hx hb dX3_mixed_109 (lv_at hl 4 rfl) ?_
                            refine lv_istore (lv' := [(7, .int (nI j)), (6, .int (nI j)), (5, .int (y5 + (1 : Int32))), (9, .int (nI k)), (8, .int (nI j)), (0, .ref (ad 7)), (1, .int (nI oo)), (2, .int (nI pp)), (3, .int r0), (4, .int w0)]) hx hb dX3_mixed_111 hl (by decide) rfl (fun ls hl => ?_)
                            refine lv_iinc (v := (nI (k + 1))) (lv' := [(9, .int (nI (k + 1))), (7, .int (nI j)), (6, .int (nI j)), (5, .int (y5 + (1 : Int32))), (8, .int (nI j)), (0, .ref (ad 7)), (1, .int (nI oo)), (2, .int (nI pp)), (3, .int r0), (4, .int w0)]) hx hb dX3_mixed_113 hl (k := 3) rfl (ixA rfl rfl) (by decide) rfl (fun ls hl => ?_)
                            refine lv_goto (tgt := 66) hx hb dX3_mixed_116 (by decide) ?_
                            exact ih_66 (k + 1) _ _ _ (by omega) (by simp [tk_mxi, tk_mxs, nI_1, fm1, fm2, fm3, hr_1, nno, hr_2, nnp, hr_3, hr_4, c36_b_5, c60_b_6, c70_b_9, hr_10, c97_b_11]) (by simp [tk_mxi, tk_mxs, nI_1, fm1, fm2, fm3, hr_1, nno, hr_2, nnp, hr_3, hr_4, c36_b_5, c60_b_6, c70_b_9, hr_10, c97_b_11]) (by simp [tk_mxi, tk_mxs, nI_1, fm1, fm2, fm3, hr_1, nno, hr_2, nnp, hr_3, hr_4, c36_b_5, c60_b_6, c70_b_9, hr_10, c97_b_11]) (by omega)  ls (lv_sub hl [0, 3, 2, 1, 4, 5, 6, 7, 8, 9] rfl)
                        · subst er_hr_10
                          refine lv_if_eq (tgt := 113) hx hb dX3_mixed_87 (by decide) (fun _ => ?_) (fun c_ => absurd (by decide) c_)
                          refine lv_iinc (v := (nI (k + 1))) (lv' := [(9, .int (nI (k + 1))), (5, .int y5), (6, .int y6), (7, .int y7), (8, .int (nI j)), (0, .ref (ad 7)), (1, .int (nI oo)), (2, .int (nI pp)), (3, .int r0), (4, .int w0)]) hx hb dX3_mixed_113 hl (k := 0) rfl (ixA rfl rfl) (by decide) rfl (fun ls hl => ?_)
                          refine lv_goto (tgt := 66) hx hb dX3_mixed_116 (by decide) ?_
                          exact ih_66 (k + 1) _ _ _ (by omega) (by simp [tk_mxi, tk_mxs, nI_1, fm1, fm2, fm3, hr_1, nno, hr_2, nnp, hr_3, hr_4, c36_b_5, c60_b_6, c70_b_9, hr_10]) (by simp [tk_mxi, tk_mxs, nI_1, fm1, fm2, fm3, hr_1, nno, hr_2, nnp, hr_3, hr_4, c36_b_5, c60_b_6, c70_b_9, hr_10]) (by simp [tk_mxi, tk_mxs, nI_1, fm1, fm2, fm3, hr_1, nno, hr_2, nnp, hr_3, hr_4, c36_b_5, c60_b_6, c70_b_9, hr_10]) (by omega)  ls (lv_sub hl [0, 1, 2, 3, 4, 5, 6, 7, 8, 9] rfl)
                  exact cut_66 _ 0 _ _ _ (by omega) em1 em2 em3 (Nat.lt_succ_self _)  ls (lv_sub hl [0, 2, 3, 4, 1, 5, 6, 7, 8, 9] rfl)
            exact cut_56 _ 0 _ _ _ (by omega) rfl rfl rfl (Nat.lt_succ_self _)  ls (lv_sub hl [0, 3, 2, 1, 4, 5, 6, 7, 8] rfl)
          · skip
            refine lv_ldc (v := -100001) hx hb hown (hts _ q1636) dX3_mixed_39 ?_
            exact W.iret hx hb hr (fun t ht hW => ⟨_, rfl, (by simp [tk_mixq, hr_1, nno, hr_2, nnp, hr_3, hr_4, c36_b_5]), ht⟩) (fun _ h => absurd h List.not_mem_nil) dX3_mixed_41
        · subst er_hr_4
          refine lv_if_eq (tgt := 39) hx hb dX3_mixed_31 (by decide) (fun _ => ?_) (fun c_ => absurd (by decide) c_)
          refine lv_ldc (v := -100001) hx hb hown (hts _ q1636) dX3_mixed_39 ?_
          exact W.iret hx hb hr (fun t ht hW => ⟨_, rfl, (by simp [tk_mixq, hr_1, nno, hr_2, nnp, hr_3, hr_4]), ht⟩) (fun _ h => absurd h List.not_mem_nil) dX3_mixed_41
      · subst er_hr_3
        refine lv_if_eq (tgt := 39) hx hb dX3_mixed_21 (by decide) (fun _ => ?_) (fun c_ => absurd (by decide) c_)
        refine lv_ldc (v := -100001) hx hb hown (hts _ q1636) dX3_mixed_39 ?_
        exact W.iret hx hb hr (fun t ht hW => ⟨_, rfl, (by simp [tk_mixq, hr_1, nno, hr_2, nnp, hr_3]), ht⟩) (fun _ h => absurd h List.not_mem_nil) dX3_mixed_41
    · subst er_hr_2
      refine lv_if_eq (tgt := 39) hx hb dX3_mixed_11 (by decide) (fun _ => ?_) (fun c_ => absurd (by decide) c_)
      refine lv_ldc (v := -100001) hx hb hown (hts _ q1636) dX3_mixed_39 ?_
      exact W.iret hx hb hr (fun t ht hW => ⟨_, rfl, (by simp [tk_mixq, hr_1, nno, hr_2]), ht⟩) (fun _ h => absurd h List.not_mem_nil) dX3_mixed_41
  · subst er_hr_1
    refine lv_if_eq (tgt := 39) hx hb dX3_mixed_4 (by decide) (fun _ => ?_) (fun c_ => absurd (by decide) c_)
    refine lv_ldc (v := -100001) hx hb hown (hts _ q1636) dX3_mixed_39 ?_
    exact W.iret hx hb hr (fun t ht hW => ⟨_, rfl, (by simp [tk_mixq, hr_1]), ht⟩) (fun _ h => absurd h List.not_mem_nil) dX3_mixed_41
