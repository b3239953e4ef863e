set_option maxHeartbeats 4000000 in
set_option maxRecDepth 100000 in
theorem met_X3_claims (l : Launch) {B : Nat} (D : va_G) (cA : Nat → ClassId) (ad : Nat → Nat) (S : Nat → Nat → Int32) (c0 : Int32) (n0 : Int32) (hI : tk_ok B (S 0)) : Met l yX3_claims (ws_ yX3_claims cX3_claims 6 (some .int)) (rmL 4 0 0) (mPre D cA ad S [.int c0, .int n0]) (va_Qi (fun (r : Int32) (S' : Nat → Nat → Int32) => r = (tk_claims (S 0) c0 n0).1 ∧ tk_sm S S' (tk_claims (S 0) c0 n0).2) (mEnd D cA ad) (mA ad)) 0 0 (mA ad) := by
  refine Met.ofW (cc := cX3_claims) (maxL := 6) (ret := (some .int)) (by decide) rfl ?_
  intro p e s m args below meth c s₁ Bd hml hv
  obtain ⟨rfl, hP, hK, hD⟩ := hv
  have hx := Bd.exec
  have hb := Bd.bytes
  have hr := Bd.returns
  have hts := atoms_spec (ws := (ws_ yX3_claims cX3_claims 6 (some .int))) Bd.pre
  have hts : ∀ w ∈ lw_all, w.before _ s = true := fun w h => hts w (List.mem_cons_of_mem _ h)
  have hown : s.vm.findClass RX3 = some m.cls := findClass_of_methodNamed Bd.named
  have hlocks := Bd.notSynchronized
  have hM : mSt D cA ad (mA ad) s.heap s.heap [] S := ⟨hP, hD, va_S.rf⟩
  have hl := lv_entry ([.ref (ad 7), .int c0, .int n0]) (n := 6) (Nat.le_of_ble_eq_true rfl)
  rw [lg_entry_eq]
  generalize (lg_sl ([.ref (ad 7), .int c0, .int n0]) ++ List.replicate (6 - (lg_sl ([.ref (ad 7), .int c0, .int n0])).length) Slot.unset).toArray = ls at hl ⊢
  have hl : lv_has ls 6 [(0, .ref (ad 7)), (1, .int c0), (2, .int n0)] := hl
  refine lv_aload_n hx hb dX3_claims_0 rfl (lv_at hl 0 rfl) ?_
  refine lv_iload_n hx hb dX3_claims_1 rfl (lv_at hl 1 rfl) ?_
  refine vp_callSi (W.runV (As := [.int c0]) (rest := []) ⟨hx, hb, hml, hown, hts⟩ (met_X3_isCustomer l D cA ad S c0) (cwV 1 hts (lw_V q1682 q1684 qs31 q71 q1685) rfl rfl rfl (by decide +kernel) ⟨Nat.le_of_ble_eq_true rfl, Nat.le_of_ble_eq_true rfl⟩) (mPreV hK hM) rfl rfl hl.1 rfl (lv_room (Nat.le_of_ble_eq_true rfl)) dX3_claims_2 ⟨Nat.le_of_ble_eq_true rfl, Nat.le_of_ble_eq_true rfl⟩) (fun r_1 hr_1 => ?_)
  rcases hr_1 with ⟨er_hr_1, hr_1⟩ | ⟨er_hr_1, hr_1⟩
  · subst er_hr_1
    obtain ⟨j0, hj0, hlj0, rfl⟩ := ok_cus hI hr_1
    have nnj0 : (nI j0).toNatClampNeg = j0 := nI_clamp (by omega)
    refine lv_if_eq (tgt := 19) hx hb dX3_claims_5 (by decide) (fun c_ => absurd c_ (by decide)) (fun _ => ?_)
    refine lv_iload_n hx hb dX3_claims_8 rfl (lv_at hl 2 rfl) ?_
    refine lv_iconst (v := 0) hx hb dX3_claims_9 (by decide) ?_
    refine lv_sipush (v := 9999) hx hb dX3_claims_10 (by decide) ?_
    refine vp_callSi (W.runS (As := [.int n0, .int (0 : Int32), .int (9999 : Int32)]) (rest := []) ⟨hx, hb, hml, hown, hts⟩ (met_X3_in l n0 (0 : Int32) (9999 : Int32)) (va_cwS 3 hts (lw_S q1633 q1634 q71 q1635) rfl rfl rfl (by decide +kernel) ⟨Nat.le_of_ble_eq_true rfl, Nat.le_of_ble_eq_true rfl⟩) ⟨fun a U g mk q => q, fun U hU hW => ⟨rfl, trivial⟩⟩ rfl rfl hl.1 rfl (lv_room (Nat.le_of_ble_eq_true rfl)) dX3_claims_13 ⟨Nat.le_of_ble_eq_true rfl, Nat.le_of_ble_eq_true rfl⟩) (fun r_2 hr_2 => ?_)
    rcases hr_2 with ⟨er_hr_2, hr_2⟩ | ⟨er_hr_2, hr_2⟩
    · subst er_hr_2
      refine lv_if_ne (tgt := 22) hx hb dX3_claims_16 (by decide) (fun _ => ?_) (fun c_ => absurd c_ (by decide))
      refine lv_aload_n hx hb dX3_claims_22 rfl (lv_at hl 0 rfl) ?_
      refine lv_iload_n hx hb dX3_claims_23 rfl (lv_at hl 1 rfl) ?_
      refine lv_iconst (v := 3) hx hb dX3_claims_24 (by decide) ?_
      refine vp_callSi (W.runV (As := [.int (nI j0), .int (nI 3)]) (rest := []) ⟨hx, hb, hml, hown, hts⟩ (met_X3_of l D cA ad S j0 3 (by first | assumption | omega | decide)) (cwV 2 hts (lw_V q1686 q1688 qs32 q71 q1689) rfl rfl rfl (by decide +kernel) ⟨Nat.le_of_ble_eq_true rfl, Nat.le_of_ble_eq_true rfl⟩) (mPreV hK hM) rfl rfl hl.1 rfl (lv_room (Nat.le_of_ble_eq_true rfl)) dX3_claims_25 ⟨Nat.le_of_ble_eq_true rfl, Nat.le_of_ble_eq_true rfl⟩) (fun r_3 hr_3 => ?_)
      subst hr_3
      refine lv_istore_n (lv' := [(3, .int (S 0 (16 + 6 * j0 + 3))), (0, .ref (ad 7)), (1, .int (nI j0)), (2, .int n0)]) hx hb dX3_claims_28 rfl hl (by decide) rfl (fun ls hl => ?_)
      refine lv_aload_n hx hb dX3_claims_29 rfl (lv_at hl 1 rfl) ?_
      refine lv_iload_n hx hb dX3_claims_30 rfl (lv_at hl 2 rfl) ?_
      refine lv_iconst (v := 5) hx hb dX3_claims_31 (by decide) ?_
      refine vp_callSi (W.runV (As := [.int (nI j0), .int (nI 5)]) (rest := []) ⟨hx, hb, hml, hown, hts⟩ (met_X3_of l D cA ad S j0 5 (by first | assumption | omega | decide)) (cwV 2 hts (lw_V q1686 q1688 qs32 q71 q1689) rfl rfl rfl (by decide +kernel) ⟨Nat.le_of_ble_eq_true rfl, Nat.le_of_ble_eq_true rfl⟩) (mPreV hK hM) rfl rfl hl.1 rfl (lv_room (Nat.le_of_ble_eq_true rfl)) dX3_claims_32 ⟨Nat.le_of_ble_eq_true rfl, Nat.le_of_ble_eq_true rfl⟩) (fun r_4 hr_4 => ?_)
      subst hr_4
      refine lv_istore (lv' := [(4, .int (S 0 (16 + 6 * j0 + 5))), (3, .int (S 0 (16 + 6 * j0 + 3))), (0, .ref (ad 7)), (1, .int (nI j0)), (2, .int n0)]) hx hb dX3_claims_35 hl (by decide) rfl (fun ls hl => ?_)
      refine lv_aload_n hx hb dX3_claims_37 rfl (lv_at hl 2 rfl) ?_
      refine lv_iload_n hx hb dX3_claims_38 rfl (lv_at hl 3 rfl) ?_
      refine lv_iconst (v := 1) hx hb dX3_claims_39 (by decide) ?_
      refine vp_callSi (W.runV (As := [.int (nI j0), .int (nI 1)]) (rest := []) ⟨hx, hb, hml, hown, hts⟩ (met_X3_of l D cA ad S j0 1 (by first | assumption | omega | decide)) (cwV 2 hts (lw_V q1686 q1688 qs32 q71 q1689) rfl rfl rfl (by decide +kernel) ⟨Nat.le_of_ble_eq_true rfl, Nat.le_of_ble_eq_true rfl⟩) (mPreV hK hM) rfl rfl hl.1 rfl (lv_room (Nat.le_of_ble_eq_true rfl)) dX3_claims_40 ⟨Nat.le_of_ble_eq_true rfl, Nat.le_of_ble_eq_true rfl⟩) (fun r_5 hr_5 => ?_)
      subst hr_5
      refine lv_if_eq (tgt := 52) hx hb dX3_claims_43 (by decide) (fun c43_b_6 => ?_) (fun c43_b_6 => ?_)
      · skip
        refine lv_ldc (v := -100002) hx hb hown (hts _ q1731) dX3_claims_52 ?_
        exact W.iret hx hb hr (fun t ht hW => ⟨⟨_, S, rfl, (by exact ⟨by simp [tk_claims, tk_less, updd, hr_1, nnj0, hr_2, c43_b_6], tk_smR (by simp [tk_claims, tk_less, updd, hr_1, nnj0, hr_2, c43_b_6])⟩), by rw [ht]; exact hM.1, hM.2.1⟩, hM.2.2.F ht⟩) hM.2.2.2.2 dX3_claims_54
      · skip
        obtain ⟨kk, hkk, ekk, enk⟩ := ok_kind hI hlj0 c43_b_6
        refine lv_iload_n hx hb dX3_claims_46 rfl (lv_at hl 4 rfl) ?_
        refine lv_iload hx hb dX3_claims_47 (lv_at hl 0 rfl) ?_
        refine lv_icmp_ne (tgt := 55) hx hb dX3_claims_49 (by decide) (fun c49_b_7 => ?_) (fun c49_b_7 => ?_)
        · skip
          refine lv_bipush (v := 16) hx hb dX3_claims_55 (by decide) ?_
          refine lv_bipush (v := 6) hx hb dX3_claims_57 (by decide) ?_
          refine lv_iload_n hx hb dX3_claims_59 rfl (lv_at hl 3 rfl) ?_
          refine lv_imul hx hb dX3_claims_60 ?_
          refine lv_iadd hx hb dX3_claims_61 ?_
          refine lv_istore (lv' := [(5, .int ((16 : Int32) + ((6 : Int32) * (nI j0)))), (4, .int (S 0 (16 + 6 * j0 + 5))), (3, .int (S 0 (16 + 6 * j0 + 3))), (0, .ref (ad 7)), (1, .int (nI j0)), (2, .int n0)]) hx hb dX3_claims_62 hl (by decide) rfl (fun ls hl => ?_)
          refine lv_aload_n hx hb dX3_claims_64 rfl (lv_at hl 3 rfl) ?_
          refine m_get hx hb hts in_X3 hown hK hM 0 (by decide) (hts _ q1571) rfl dX3_claims_65 ?_
          refine lv_iload hx hb dX3_claims_68 (lv_at hl 0 rfl) ?_
          refine lv_iconst (v := 1) hx hb dX3_claims_70 (by decide) ?_
          refine lv_iadd hx hb dX3_claims_71 ?_
          refine lv_iconst (v := 0) hx hb dX3_claims_72 (by decide) ?_
          refine m_iast hx hb hK hM 0 1 rfl (fun _ => rfl) ((16 + (6 * j0)) + 1) (ixA (ixA rfl (ixM rfl rfl)) rfl) (by omega) dX3_claims_73 (by decide) (fun H locs S_8 eS_8 hM => ?_)
          refine lv_aload_n hx hb dX3_claims_74 rfl (lv_at hl 3 rfl) ?_
          refine lv_aload_n hx hb dX3_claims_75 rfl (lv_at hl 3 rfl) ?_
          refine lv_iload_n hx hb dX3_claims_76 rfl (lv_at hl 4 rfl) ?_
          refine lv_iconst (v := 4) hx hb dX3_claims_77 (by decide) ?_
          refine vp_callSi (W.runV (As := [.int (nI j0), .int (nI 4)]) (rest := [.ref (ad 7)]) ⟨hx, hb, hml, hown, hts⟩ (met_X3_of l D cA ad S_8 j0 4 (by first | assumption | omega | decide)) (cwV 2 hts (lw_V q1686 q1688 qs32 q71 q1689) rfl rfl rfl (by decide +kernel) ⟨Nat.le_of_ble_eq_true rfl, Nat.le_of_ble_eq_true rfl⟩) (mPreV hK hM) rfl rfl hl.1 rfl (lv_room (Nat.le_of_ble_eq_true rfl)) dX3_claims_78 ⟨Nat.le_of_ble_eq_true rfl, Nat.le_of_ble_eq_true rfl⟩) (fun r_9 hr_9 => ?_)
          subst hr_9
          rw [show S_8 0 (16 + 6 * j0 + 4) = (S 0 (16 + 6 * j0 + 4)) from (by rw [eS_8, su_s, pk_un (by omega)])]
          refine lv_aload_n hx hb dX3_claims_81 rfl (lv_at hl 3 rfl) ?_
          refine lv_iload_n hx hb dX3_claims_82 rfl (lv_at hl 4 rfl) ?_
          refine lv_iconst (v := 2) hx hb dX3_claims_83 (by decide) ?_
          refine vp_callSi (W.runV (As := [.int (nI j0), .int (nI 2)]) (rest := [.int (S 0 (16 + 6 * j0 + 4)), .ref (ad 7)]) ⟨hx, hb, hml, hown, hts⟩ (met_X3_of l D cA ad S_8 j0 2 (by first | assumption | omega | decide)) (cwV 2 hts (lw_V q1686 q1688 qs32 q71 q1689) rfl rfl rfl (by decide +kernel) ⟨Nat.le_of_ble_eq_true rfl, Nat.le_of_ble_eq_true rfl⟩) (mPreV hK hM) rfl rfl hl.1 rfl (lv_room (Nat.le_of_ble_eq_true rfl)) dX3_claims_84 ⟨Nat.le_of_ble_eq_true rfl, Nat.le_of_ble_eq_true rfl⟩) (fun r_10 hr_10 => ?_)
          subst hr_10
          rw [show S_8 0 (16 + 6 * j0 + 2) = (S 0 (16 + 6 * j0 + 2)) from (by rw [eS_8, su_s, pk_un (by omega)])]
          rw [show (S 0 (16 + 6 * j0 + 2)) = nI kk from ekk]
          refine va_calli (va_runV (As := [.int (S 0 (16 + 6 * j0 + 4)), .int (nI kk)]) (rest := []) ⟨hx, hb, hml, hown, hts⟩ (met_X3_allows l D cA ad S_8 (S 0 (16 + 6 * j0 + 4)) kk (by rw [eS_8, su_s]; exact ok_unkeep hI hj0) hkk) (cwV 2 hts (lw_V q1709 q1711 qs36 q71 q1712) rfl rfl rfl (by decide +kernel) ⟨Nat.le_of_ble_eq_true rfl, Nat.le_of_ble_eq_true rfl⟩) (mPreV hK hM) rfl rfl hl.1 rfl (lv_room (Nat.le_of_ble_eq_true rfl)) dX3_claims_87 ⟨Nat.le_of_ble_eq_true rfl, Nat.le_of_ble_eq_true rfl⟩) hM.2.2 (fun _ _ h => h) (fun _ h => h) (fun r_11 S_12 t H1 locs ht hvm hr_11 hB hz hk hS => ?_)
          have hM : mSt D cA ad (mA ad) s.heap H1 locs S_12 := ⟨by rw [← ht]; exact hB.1, hB.2, hS⟩
          clear hB ht; generalize H1 = H at hM ⊢; clear hz hk hS
          refine W.widen (k := 0) (n := 0) (Nat.le_refl 0) (Nat.le_refl 0) ?_
          obtain ⟨hr_11, hr_11S⟩ := hr_11
          rcases hr_11 with ⟨er_hr_11, hr_11⟩ | ⟨er_hr_11, hr_11⟩
          · subst er_hr_11
            have eD : S_8 0 = upd (S 0) (16 + 6 * j0 + 1) 0 := by rw [eS_8, su_s]
            have g6 : S_12 7 6 = tk_le (S 0) (S 0 (16 + 6 * j0 + 4)) kk := by rw [hr_11S, tk_alS_6 hr_11, eD, (tk_al_u (d := S 0) (r := (S 0 (16 + 6 * j0 + 4))) (k := kk) (i := 16 + 6 * j0 + 1) hkk (by omega) 0).2.1]
            have g7 : S_12 7 7 = tk_gr (S 0) (S 0 (16 + 6 * j0 + 4)) kk := by rw [hr_11S, tk_alS_g hr_11, eD, (tk_al_u (d := S 0) (r := (S 0 (16 + 6 * j0 + 4))) (k := kk) (i := 16 + 6 * j0 + 1) hkk (by omega) 0).2.2]
            rw [eD, (tk_al_u (d := S 0) (r := (S 0 (16 + 6 * j0 + 4))) (k := kk) (i := 16 + 6 * j0 + 1) hkk (by omega) 0).1] at hr_11
            refine lv_if_eq (tgt := 108) hx hb dX3_claims_90 (by decide) (fun c_ => absurd c_ (by decide)) (fun _ => ?_)
            refine lv_iload_n hx hb dX3_claims_93 rfl (lv_at hl 5 rfl) ?_
            refine lv_aload_n hx hb dX3_claims_94 rfl (lv_at hl 3 rfl) ?_
            refine m_get hx hb hts in_X3 hown hK hM 13 (by decide) (hts _ q1584) (v := .int (tk_le (S 0) (S 0 (16 + 6 * j0 + 4)) kk)) (m_fld rfl (by rw [g6])) dX3_claims_95 ?_
            refine lv_aload_n hx hb dX3_claims_98 rfl (lv_at hl 3 rfl) ?_
            refine m_get hx hb hts in_X3 hown hK hM 14 (by decide) (hts _ q1585) (v := .int (tk_gr (S 0) (S 0 (16 + 6 * j0 + 4)) kk)) (m_fld rfl (by rw [g7])) dX3_claims_99 ?_
            refine vp_callSi (W.runS (As := [.int n0, .int (tk_le (S 0) (S 0 (16 + 6 * j0 + 4)) kk), .int (tk_gr (S 0) (S 0 (16 + 6 * j0 + 4)) kk)]) (rest := []) ⟨hx, hb, hml, hown, hts⟩ (met_X3_in l n0 (tk_le (S 0) (S 0 (16 + 6 * j0 + 4)) kk) (tk_gr (S 0) (S 0 (16 + 6 * j0 + 4)) kk)) (va_cwS 3 hts (lw_S q1633 q1634 q71 q1635) rfl rfl rfl (by decide +kernel) ⟨Nat.le_of_ble_eq_true rfl, Nat.le_of_ble_eq_true rfl⟩) ⟨fun a U g mk q => q, fun U hU hW => ⟨rfl, trivial⟩⟩ rfl rfl hl.1 rfl (lv_room (Nat.le_of_ble_eq_true rfl)) dX3_claims_102 ⟨Nat.le_of_ble_eq_true rfl, Nat.le_of_ble_eq_true rfl⟩) (fun r_13 hr_13 => ?_)
            rcases hr_13 with ⟨er_hr_13, hr_13⟩ | ⟨er_hr_13, hr_13⟩
            · subst er_hr_13
              refine lv_if_ne (tgt := 110) hx hb dX3_claims_105 (by decide) (fun _ => ?_) (fun c_ => absurd c_ (by decide))
              refine lv_aload_n hx hb dX3_claims_110 rfl (lv_at hl 3 rfl) ?_
              refine m_get hx hb hts in_X3 hown hK hM 0 (by decide) (hts _ q1571) rfl dX3_claims_111 ?_
              refine lv_bipush (v := 13) hx hb dX3_claims_114 (by decide) ?_
              refine lv_dup2_11 hx hb dX3_claims_116 rfl rfl ?_
              refine m_iald hx hb hK hM 0 1 rfl 13 rfl (by omega) (v := (S 0 13)) (by rw [hr_11S, tk_alS_0 _ _ _ (by decide), eS_8, su_s, pk_un (by omega)]) dX3_claims_117 (by decide) ?_
              refine lv_iload_n hx hb dX3_claims_118 rfl (lv_at hl 2 rfl) ?_
              refine lv_iload hx hb dX3_claims_119 (lv_at hl 1 rfl) ?_
              refine lv_isub hx hb dX3_claims_121 ?_
              refine lv_iadd hx hb dX3_claims_122 ?_
              refine m_iast hx hb hK hM 0 1 rfl (fun _ => rfl) 13 rfl (by omega) dX3_claims_123 (by decide) (fun H locs S_14 eS_14 hM => ?_)
              refine lv_aload_n hx hb dX3_claims_124 rfl (lv_at hl 3 rfl) ?_
              refine m_get hx hb hts in_X3 hown hK hM 0 (by decide) (hts _ q1571) rfl dX3_claims_125 ?_
              refine lv_iload hx hb dX3_claims_128 (lv_at hl 0 rfl) ?_
              refine lv_aload_n hx hb dX3_claims_130 rfl (lv_at hl 3 rfl) ?_
              refine m_get hx hb hts in_X3 hown hK hM 0 (by decide) (hts _ q1571) rfl dX3_claims_131 ?_
              refine lv_iload hx hb dX3_claims_134 (lv_at hl 0 rfl) ?_
              refine m_iald hx hb hK hM 0 1 rfl (16 + (6 * j0)) (ixA rfl (ixM rfl rfl)) (by omega) (v := (S 0 (16 + (6 * j0)))) (by rw [eS_14, su_s, pk_un (by omega), hr_11S, tk_alS_0 _ _ _ (by decide), eS_8, su_s, pk_un (by omega)]) dX3_claims_136 (by decide) ?_
              refine lv_iload_n hx hb dX3_claims_137 rfl (lv_at hl 2 rfl) ?_
              refine lv_iadd hx hb dX3_claims_138 ?_
              refine lv_iload hx hb dX3_claims_139 (lv_at hl 1 rfl) ?_
              refine lv_isub hx hb dX3_claims_141 ?_
              refine lv_if_ge (tgt := 149) hx hb dX3_claims_142 (by decide) (fun c142_b_15 => ?_) (fun c142_b_15 => ?_)
              · skip
                have c142_b_15 := Int32.not_lt.mpr c142_b_15
                refine lv_aload_n hx hb dX3_claims_149 rfl (lv_at hl 3 rfl) ?_
                refine m_get hx hb hts in_X3 hown hK hM 0 (by decide) (hts _ q1571) rfl dX3_claims_150 ?_
                refine lv_iload hx hb dX3_claims_153 (lv_at hl 0 rfl) ?_
                refine m_iald hx hb hK hM 0 1 rfl (16 + (6 * j0)) (ixA rfl (ixM rfl rfl)) (by omega) (v := (S 0 (16 + (6 * j0)))) (by rw [eS_14, su_s, pk_un (by omega), hr_11S, tk_alS_0 _ _ _ (by decide), eS_8, su_s, pk_un (by omega)]) dX3_claims_155 (by decide) ?_
                refine lv_iload_n hx hb dX3_claims_156 rfl (lv_at hl 2 rfl) ?_
                refine lv_iadd hx hb dX3_claims_157 ?_
                refine lv_iload hx hb dX3_claims_158 (lv_at hl 1 rfl) ?_
                refine lv_isub hx hb dX3_claims_160 ?_
                refine m_iast hx hb hK hM 0 1 rfl (fun _ => rfl) (16 + (6 * j0)) (ixA rfl (ixM rfl rfl)) (by omega) dX3_claims_161 (by decide) (fun H locs S_16 eS_16 hM => ?_)
                refine lv_iload_n hx hb dX3_claims_162 rfl (lv_at hl 5 rfl) ?_
                refine lv_iload_n hx hb dX3_claims_163 rfl (lv_at hl 2 rfl) ?_
                refine vp_callSi (W.runS (As := [.int n0, .int (S 0 (16 + 6 * j0 + 3))]) (rest := []) ⟨hx, hb, hml, hown, hts⟩ (met_X3_far l n0 (S 0 (16 + 6 * j0 + 3))) (va_cwS 2 hts (lw_S q1732 q1733 q71 q1734) rfl rfl rfl (by decide +kernel) ⟨Nat.le_of_ble_eq_true rfl, Nat.le_of_ble_eq_true rfl⟩) ⟨fun a U g mk q => q, fun U hU hW => ⟨rfl, trivial⟩⟩ rfl rfl hl.1 rfl (lv_room (Nat.le_of_ble_eq_true rfl)) dX3_claims_164 ⟨Nat.le_of_ble_eq_true rfl, Nat.le_of_ble_eq_true rfl⟩) (fun r_17 hr_17 => ?_)
                subst hr_17
                refine lv_iload hx hb dX3_claims_167 (lv_at hl 1 rfl) ?_
                refine lv_iload_n hx hb dX3_claims_169 rfl (lv_at hl 2 rfl) ?_
                refine vp_callSi (W.runS (As := [.int (S 0 (16 + 6 * j0 + 5)), .int (S 0 (16 + 6 * j0 + 3))]) (rest := [.int (tk_far n0 (S 0 (16 + 6 * j0 + 3)))]) ⟨hx, hb, hml, hown, hts⟩ (met_X3_far l (S 0 (16 + 6 * j0 + 5)) (S 0 (16 + 6 * j0 + 3))) (va_cwS 2 hts (lw_S q1732 q1733 q71 q1734) rfl rfl rfl (by decide +kernel) ⟨Nat.le_of_ble_eq_true rfl, Nat.le_of_ble_eq_true rfl⟩) ⟨fun a U g mk q => q, fun U hU hW => ⟨rfl, trivial⟩⟩ rfl rfl hl.1 rfl (lv_room (Nat.le_of_ble_eq_true rfl)) dX3_claims_170 ⟨Nat.le_of_ble_eq_true rfl, Nat.le_of_ble_eq_true rfl⟩) (fun r_18 hr_18 => ?_)
                subst hr_18
                refine lv_icmp_ge (tgt := 178) hx hb dX3_claims_173 (by decide) (fun c173_b_19 => ?_) (fun c173_b_19 => ?_)
                · skip
                  have c173_b_19 := Int32.not_lt.mpr c173_b_19
                  refine lv_aload_n hx hb dX3_claims_178 rfl (lv_at hl 3 rfl) ?_
                  refine m_get hx hb hts in_X3 hown hK hM 0 (by decide) (hts _ q1571) rfl dX3_claims_179 ?_
                  refine lv_iload hx hb dX3_claims_182 (lv_at hl 0 rfl) ?_
                  refine lv_aload_n hx hb dX3_claims_184 rfl (lv_at hl 3 rfl) ?_
                  refine m_get hx hb hts in_X3 hown hK hM 0 (by decide) (hts _ q1571) rfl dX3_claims_185 ?_
                  refine lv_iload hx hb dX3_claims_188 (lv_at hl 0 rfl) ?_
                  refine m_iald hx hb hK hM 0 1 rfl (16 + (6 * j0)) (ixA rfl (ixM rfl rfl)) (by omega) (v := (((S 0 (16 + (6 * j0))) + (S 0 (16 + 6 * j0 + 3))) - (S 0 (16 + 6 * j0 + 5)))) (by rw [eS_16, su_s, pk_us]) dX3_claims_190 (by decide) ?_
                  refine lv_aload_n hx hb dX3_claims_191 rfl (lv_at hl 3 rfl) ?_
                  refine m_get hx hb hts in_X3 hown hK hM 0 (by decide) (hts _ q1571) rfl dX3_claims_192 ?_
                  refine lv_bipush (v := 12) hx hb dX3_claims_195 (by decide) ?_
                  refine m_iald hx hb hK hM 0 1 rfl 12 rfl (by omega) (v := (S 0 12)) (by rw [eS_16, su_s, pk_un (by omega), eS_14, su_s, pk_un (by omega), hr_11S, tk_alS_0 _ _ _ (by decide), eS_8, su_s, pk_un (by omega)]) dX3_claims_197 (by decide) ?_
                  refine lv_icmp_ge (tgt := 205) hx hb dX3_claims_198 (by decide) (fun c198_b_20 => ?_) (fun c198_b_20 => ?_)
                  · skip
                    have c198_b_20 := Int32.not_lt.mpr c198_b_20
                    refine lv_aload_n hx hb dX3_claims_205 rfl (lv_at hl 3 rfl) ?_
                    refine m_get hx hb hts in_X3 hown hK hM 0 (by decide) (hts _ q1571) rfl dX3_claims_206 ?_
                    refine lv_iload hx hb dX3_claims_209 (lv_at hl 0 rfl) ?_
                    refine m_iald hx hb hK hM 0 1 rfl (16 + (6 * j0)) (ixA rfl (ixM rfl rfl)) (by omega) (v := (((S 0 (16 + (6 * j0))) + (S 0 (16 + 6 * j0 + 3))) - (S 0 (16 + 6 * j0 + 5)))) (by rw [eS_16, su_s, pk_us]) dX3_claims_211 (by decide) ?_
                    refine lv_aload_n hx hb dX3_claims_212 rfl (lv_at hl 3 rfl) ?_
                    refine m_get hx hb hts in_X3 hown hK hM 0 (by decide) (hts _ q1571) rfl dX3_claims_213 ?_
                    refine lv_bipush (v := 12) hx hb dX3_claims_216 (by decide) ?_
                    refine m_iald hx hb hK hM 0 1 rfl 12 rfl (by omega) (v := (S 0 12)) (by rw [eS_16, su_s, pk_un (by omega), eS_14, su_s, pk_un (by omega), hr_11S, tk_alS_0 _ _ _ (by decide), eS_8, su_s, pk_un (by omega)]) dX3_claims_218 (by decide) ?_
                    refine lv_isub hx hb dX3_claims_219 ?_
                    refine m_iast hx hb hK hM 0 1 rfl (fun _ => rfl) (16 + (6 * j0)) (ixA rfl (ixM rfl rfl)) (by omega) dX3_claims_220 (by decide) (fun H locs S_21 eS_21 hM => ?_)
                    refine lv_iconst (v := 2) hx hb dX3_claims_221 (by decide) ?_
                    exact W.iret hx hb hr (fun t ht hW => ⟨⟨_, S_21, rfl, (by subst eS_21; subst eS_16; subst eS_14; subst hr_11S; subst eS_8; refine ⟨by simp [tk_claims, tk_less, updd, hr_1, nnj0, hr_2, enk, c43_b_6, c49_b_7, hr_11, hr_13, c142_b_15, c173_b_19, c198_b_20], ?_⟩; simp only [su_su, su_s, tk_alS_0 _ _ _ (show (0 : Nat) ≠ 7 by decide)]; exact tk_smB (by simp [tk_claims, tk_less, updd, hr_1, nnj0, hr_2, enk, c43_b_6, c49_b_7, hr_11, hr_13, c142_b_15, c173_b_19, c198_b_20])), by rw [ht]; exact hM.1, hM.2.1⟩, hM.2.2.F ht⟩) hM.2.2.2.2 dX3_claims_222
                  · skip
                    have c198_b_20 := Int32.not_le.mp c198_b_20
                    refine lv_iconst (v := 0) hx hb dX3_claims_201 (by decide) ?_
                    refine lv_goto (tgt := 220) hx hb dX3_claims_202 (by decide) ?_
                    refine m_iast hx hb hK hM 0 1 rfl (fun _ => rfl) (16 + (6 * j0)) (ixA rfl (ixM rfl rfl)) (by omega) dX3_claims_220 (by decide) (fun H locs S_22 eS_22 hM => ?_)
                    refine lv_iconst (v := 2) hx hb dX3_claims_221 (by decide) ?_
                    exact W.iret hx hb hr (fun t ht hW => ⟨⟨_, S_22, rfl, (by subst eS_22; subst eS_16; subst eS_14; subst hr_11S; subst eS_8; refine ⟨by simp [tk_claims, tk_less, updd, hr_1, nnj0, hr_2, enk, c43_b_6, c49_b_7, hr_11, hr_13, c142_b_15, c173_b_19, c198_b_20], ?_⟩; simp only [su_su, su_s, tk_alS_0 _ _ _ (show (0 : Nat) ≠ 7 by decide)]; exact tk_smB (by simp [tk_claims, tk_less, updd, hr_1, nnj0, hr_2, enk, c43_b_6, c49_b_7, hr_11, hr_13, c142_b_15, c173_b_19, c198_b_20])), by rw [ht]; exact hM.1, hM.2.1⟩, hM.2.2.F ht⟩) hM.2.2.2.2 dX3_claims_222
                · skip
                  have c173_b_19 := Int32.not_le.mp c173_b_19
                  refine lv_iconst (v := 1) hx hb dX3_claims_176 (by decide) ?_
                  exact W.iret hx hb hr (fun t ht hW => ⟨⟨_, S_16, rfl, (by subst eS_16; subst eS_14; subst hr_11S; subst eS_8; refine ⟨by simp [tk_claims, tk_less, updd, hr_1, nnj0, hr_2, enk, c43_b_6, c49_b_7, hr_11, hr_13, c142_b_15, c173_b_19], ?_⟩; simp only [su_su, su_s, tk_alS_0 _ _ _ (show (0 : Nat) ≠ 7 by decide)]; exact tk_smB (by simp [tk_claims, tk_less, updd, hr_1, nnj0, hr_2, enk, c43_b_6, c49_b_7, hr_11, hr_13, c142_b_15, c173_b_19])), by rw [ht]; exact hM.1, hM.2.1⟩, hM.2.2.F ht⟩) hM.2.2.2.2 dX3_claims_177
              · skip
                have c142_b_15 := Int32.not_le.mp c142_b_15
                refine lv_iconst (v := 0) hx hb dX3_claims_145 (by decide) ?_
                refine lv_goto (tgt := 161) hx hb dX3_claims_146 (by decide) ?_
                refine m_iast hx hb hK hM 0 1 rfl (fun _ => rfl) (16 + (6 * j0)) (ixA rfl (ixM rfl rfl)) (by omega) dX3_claims_161 (by decide) (fun H locs S_23 eS_23 hM => ?_)
                refine lv_iload_n hx hb dX3_claims_162 rfl (lv_at hl 5 rfl) ?_
                refine lv_iload_n hx hb dX3_claims_163 rfl (lv_at hl 2 rfl) ?_
                refine vp_callSi (W.runS (As := [.int n0, .int (S 0 (16 + 6 * j0 + 3))]) (rest := []) ⟨hx, hb, hml, hown, hts⟩ (met_X3_far l n0 (S 0 (16 + 6 * j0 + 3))) (va_cwS 2 hts (lw_S q1732 q1733 q71 q1734) rfl rfl rfl (by decide +kernel) ⟨Nat.le_of_ble_eq_true rfl, Nat.le_of_ble_eq_true rfl⟩) ⟨fun a U g mk q => q, fun U hU hW => ⟨rfl, trivial⟩⟩ rfl rfl hl.1 rfl (lv_room (Nat.le_of_ble_eq_true rfl)) dX3_claims_164 ⟨Nat.le_of_ble_eq_true rfl, Nat.le_of_ble_eq_true rfl⟩) (fun r_24 hr_24 => ?_)
                subst hr_24
                refine lv_iload hx hb dX3_claims_167 (lv_at hl 1 rfl) ?_
                refine lv_iload_n hx hb dX3_claims_169 rfl (lv_at hl 2 rfl) ?_
                refine vp_callSi (W.runS (As := [.int (S 0 (16 + 6 * j0 + 5)), .int (S 0 (16 + 6 * j0 + 3))]) (rest := [.int (tk_far n0 (S 0 (16 + 6 * j0 + 3)))]) ⟨hx, hb, hml, hown, hts⟩ (met_X3_far l (S 0 (16 + 6 * j0 + 5)) (S 0 (16 + 6 * j0 + 3))) (va_cwS 2 hts (lw_S q1732 q1733 q71 q1734) rfl rfl rfl (by decide +kernel) ⟨Nat.le_of_ble_eq_true rfl, Nat.le_of_ble_eq_true rfl⟩) ⟨fun a U g mk q => q, fun U hU hW => ⟨rfl, trivial⟩⟩ rfl rfl hl.1 rfl (lv_room (Nat.le_of_ble_eq_true rfl)) dX3_claims_170 ⟨Nat.le_of_ble_eq_true rfl, Nat.le_of_ble_eq_true rfl⟩) (fun r_25 hr_25 => ?_)
                subst hr_25
                refine lv_icmp_ge (tgt := 178) hx hb dX3_claims_173 (by decide) (fun c173_b_26 => ?_) (fun c173_b_26 => ?_)
                · skip
                  have c173_b_26 := Int32.not_lt.mpr c173_b_26
                  refine lv_aload_n hx hb dX3_claims_178 rfl (lv_at hl 3 rfl) ?_
                  refine m_get hx hb hts in_X3 hown hK hM 0 (by decide) (hts _ q1571) rfl dX3_claims_179 ?_
                  refine lv_iload hx hb dX3_claims_182 (lv_at hl 0 rfl) ?_
                  refine lv_aload_n hx hb dX3_claims_184 rfl (lv_at hl 3 rfl) ?_
                  refine m_get hx hb hts in_X3 hown hK hM 0 (by decide) (hts _ q1571) rfl dX3_claims_185 ?_
                  refine lv_iload hx hb dX3_claims_188 (lv_at hl 0 rfl) ?_
                  refine m_iald hx hb hK hM 0 1 rfl (16 + (6 * j0)) (ixA rfl (ixM rfl rfl)) (by omega) (v := (0 : Int32)) (by rw [eS_23, su_s, pk_us]) dX3_claims_190 (by decide) ?_
                  refine lv_aload_n hx hb dX3_claims_191 rfl (lv_at hl 3 rfl) ?_
                  refine m_get hx hb hts in_X3 hown hK hM 0 (by decide) (hts _ q1571) rfl dX3_claims_192 ?_
                  refine lv_bipush (v := 12) hx hb dX3_claims_195 (by decide) ?_
                  refine m_iald hx hb hK hM 0 1 rfl 12 rfl (by omega) (v := (S 0 12)) (by rw [eS_23, su_s, pk_un (by omega), eS_14, su_s, pk_un (by omega), hr_11S, tk_alS_0 _ _ _ (by decide), eS_8, su_s, pk_un (by omega)]) dX3_claims_197 (by decide) ?_
                  refine lv_icmp_ge (tgt := 205) hx hb dX3_claims_198 (by decide) (fun c198_b_27 => ?_) (fun c198_b_27 => ?_)
                  · skip
                    have c198_b_27 := Int32.not_lt.mpr c198_b_27
                    refine lv_aload_n hx hb dX3_claims_205 rfl (lv_at hl 3 rfl) ?_
                    refine m_get hx hb hts in_X3 hown hK hM 0 (by decide) (hts _ q1571) rfl dX3_claims_206 ?_
                    refine lv_iload hx hb dX3_claims_209 (lv_at hl 0 rfl) ?_
                    refine m_iald hx hb hK hM 0 1 rfl (16 + (6 * j0)) (ixA rfl (ixM rfl rfl)) (by omega) (v := (0 : Int32)) (by rw [eS_23, su_s, pk_us]) dX3_claims_211 (by decide) ?_
                    refine lv_aload_n hx hb dX3_claims_212 rfl (lv_at hl 3 rfl) ?_
                    refine m_get hx hb hts in_X3 hown hK hM 0 (by decide) (hts _ q1571) rfl dX3_claims_213 ?_
                    refine lv_bipush (v := 12) hx hb dX3_claims_216 (by decide) ?_
                    refine m_iald hx hb hK hM 0 1 rfl 12 rfl (by omega) (v := (S 0 12)) (by rw [eS_23, su_s, pk_un (by omega), eS_14, su_s, pk_un (by omega), hr_11S, tk_alS_0 _ _ _ (by decide), eS_8, su_s, pk_un (by omega)]) dX3_claims_218 (by decide) ?_
                    refine lv_isub hx hb dX3_claims_219 ?_
                    refine m_iast hx hb hK hM 0 1 rfl (fun _ => rfl) (16 + (6 * j0)) (ixA rfl (ixM rfl rfl)) (by omega) dX3_claims_220 (by decide) (fun H locs S_28 eS_28 hM => ?_)
                    refine lv_iconst (v := 2) hx hb dX3_claims_221 (by decide) ?_
                    exact W.iret hx hb hr (fun t ht hW => ⟨⟨_, S_28, rfl, (by subst eS_28; subst eS_23; subst eS_14; subst hr_11S; subst eS_8; refine ⟨by simp [tk_claims, tk_less, updd, hr_1, nnj0, hr_2, enk, c43_b_6, c49_b_7, hr_11, hr_13, c142_b_15, c173_b_26, c198_b_27], ?_⟩; simp only [su_su, su_s, tk_alS_0 _ _ _ (show (0 : Nat) ≠ 7 by decide)]; exact tk_smB (by simp [tk_claims, tk_less, updd, hr_1, nnj0, hr_2, enk, c43_b_6, c49_b_7, hr_11, hr_13, c142_b_15, c173_b_26, c198_b_27])), by rw [ht]; exact hM.1, hM.2.1⟩, hM.2.2.F ht⟩) hM.2.2.2.2 dX3_claims_222
                  · skip
                    have c198_b_27 := Int32.not_le.mp c198_b_27
                    refine lv_iconst (v := 0) hx hb dX3_claims_201 (by decide) ?_
                    refine lv_goto (tgt := 220) hx hb dX3_claims_202 (by decide) ?_
                    refine m_iast hx hb hK hM 0 1 rfl (fun _ => rfl) (16 + (6 * j0)) (ixA rfl (ixM rfl rfl)) (by omega) dX3_claims_220 (by decide) (fun H locs S_29 eS_29 hM => ?_)
                    refine lv_iconst (v := 2) hx hb dX3_claims_221 (by decide) ?_
                    exact W.iret hx hb hr (fun t ht hW => ⟨⟨_, S_29, rfl, (by subst eS_29; subst eS_23; subst eS_14; subst hr_11S; subst eS_8; refine ⟨by simp [tk_claims, tk_less, updd, hr_1, nnj0, hr_2, enk, c43_b_6, c49_b_7, hr_11, hr_13, c142_b_15, c173_b_26, c198_b_27], ?_⟩; simp only [su_su, su_s, tk_alS_0 _ _ _ (show (0 : Nat) ≠ 7 by decide)]; exact tk_smB (by simp [tk_claims, tk_less, updd, hr_1, nnj0, hr_2, enk, c43_b_6, c49_b_7, hr_11, hr_13, c142_b_15, c173_b_26, c198_b_27])), by rw [ht]; exact hM.1, hM.2.1⟩, hM.2.2.F ht⟩) hM.2.2.2.2 dX3_claims_222
                · skip
                  have c173_b_26 := Int32.not_le.mp c173_b_26
                  refine lv_iconst (v := 1) hx hb dX3_claims_176 (by decide) ?_
                  exact W.iret hx hb hr (fun t ht hW => ⟨⟨_, S_23, rfl, (by subst eS_23; subst eS_14; subst hr_11S; subst eS_8; refine ⟨by simp [tk_claims, tk_less, updd, hr_1, nnj0, hr_2, enk, c43_b_6, c49_b_7, hr_11, hr_13, c142_b_15, c173_b_26], ?_⟩; simp only [su_su, su_s, tk_alS_0 _ _ _ (show (0 : Nat) ≠ 7 by decide)]; exact tk_smB (by simp [tk_claims, tk_less, updd, hr_1, nnj0, hr_2, enk, c43_b_6, c49_b_7, hr_11, hr_13, c142_b_15, c173_b_26])), by rw [ht]; exact hM.1, hM.2.1⟩, hM.2.2.F ht⟩) hM.2.2.2.2 dX3_claims_177
            · subst er_hr_13
              refine lv_if_ne (tgt := 110) hx hb dX3_claims_105 (by decide) (fun c_ => absurd (by decide) c_) (fun _ => ?_)
              refine lv_iconst (v := 0) hx hb dX3_claims_108 (by decide) ?_
              exact W.iret hx hb hr (fun t ht hW => ⟨⟨_, S_12, rfl, (by subst hr_11S; subst eS_8; exact ⟨by simp [tk_claims, tk_less, updd, hr_1, nnj0, hr_2, enk, c43_b_6, c49_b_7, hr_11, hr_13], tk_smC (by simp [tk_claims, tk_less, updd, hr_1, nnj0, hr_2, enk, c43_b_6, c49_b_7, hr_11, hr_13])⟩), by rw [ht]; exact hM.1, hM.2.1⟩, hM.2.2.F ht⟩) hM.2.2.2.2 dX3_claims_109
          · subst er_hr_11
            have eD : S_8 0 = upd (S 0) (16 + 6 * j0 + 1) 0 := by rw [eS_8, su_s]
            rw [eD, (tk_al_u (d := S 0) (r := (S 0 (16 + 6 * j0 + 4))) (k := kk) (i := 16 + 6 * j0 + 1) hkk (by omega) 0).1] at hr_11
            refine lv_if_eq (tgt := 108) hx hb dX3_claims_90 (by decide) (fun _ => ?_) (fun c_ => absurd (by decide) c_)
            refine lv_iconst (v := 0) hx hb dX3_claims_108 (by decide) ?_
            exact W.iret hx hb hr (fun t ht hW => ⟨⟨_, S_12, rfl, (by subst hr_11S; subst eS_8; exact ⟨by simp [tk_claims, tk_less, updd, hr_1, nnj0, hr_2, enk, c43_b_6, c49_b_7, hr_11], tk_smC (by simp [tk_claims, tk_less, updd, hr_1, nnj0, hr_2, enk, c43_b_6, c49_b_7, hr_11])⟩), by rw [ht]; exact hM.1, hM.2.1⟩, hM.2.2.F ht⟩) hM.2.2.2.2 dX3_claims_109
        · skip
          refine lv_ldc (v := -100002) hx hb hown (hts _ q1731) dX3_claims_52 ?_
          exact W.iret hx hb hr (fun t ht hW => ⟨⟨_, S, rfl, (by exact ⟨by simp [tk_claims, tk_less, updd, (c49_b_7 ▸ hr_2 : tk_in (S 0 (16 + 6 * j0 + 5)) 0 9999 = true), hr_1, nnj0, hr_2, enk, c43_b_6, c49_b_7], tk_smR (by simp [tk_claims, tk_less, updd, (c49_b_7 ▸ hr_2 : tk_in (S 0 (16 + 6 * j0 + 5)) 0 9999 = true), hr_1, nnj0, hr_2, enk, c43_b_6, c49_b_7])⟩), by rw [ht]; exact hM.1, hM.2.1⟩, hM.2.2.F ht⟩) hM.2.2.2.2 dX3_claims_54
    · subst er_hr_2
      refine lv_if_ne (tgt := 22) hx hb dX3_claims_16 (by decide) (fun c_ => absurd (by decide) c_) (fun _ => ?_)
      refine lv_ldc (v := -100001) hx hb hown (hts _ q1636) dX3_claims_19 ?_
      exact W.iret hx hb hr (fun t ht hW => ⟨⟨_, S, rfl, (by exact ⟨by simp [tk_claims, tk_less, updd, hr_1, nnj0, hr_2], tk_smR (by simp [tk_claims, tk_less, updd, hr_1, nnj0, hr_2])⟩), by rw [ht]; exact hM.1, hM.2.1⟩, hM.2.2.F ht⟩) hM.2.2.2.2 dX3_claims_21
  · subst er_hr_1
    refine lv_if_eq (tgt := 19) hx hb dX3_claims_5 (by decide) (fun _ => ?_) (fun c_ => absurd (by decide) c_)
    refine lv_ldc (v := -100001) hx hb hown (hts _ q1636) dX3_claims_19 ?_
    exact W.iret hx hb hr (fun t ht hW => ⟨⟨_, S, rfl, (by exact ⟨by simp [tk_claims, tk_less, updd, hr_1], tk_smR (by simp [tk_claims, tk_less, updd, hr_1])⟩), by rw [ht]; exact hM.1, hM.2.1⟩, hM.2.2.F ht⟩) hM.2.2.2.2 dX3_claims_21

set_option maxHeartbeats 4000000 in
set_option maxRecDepth 100000 in
theorem met_X3_adds (l : Launch) {B : Nat} (D : va_G) (cA : Nat → ClassId) (ad : Nat → Nat) (S : Nat → Nat → Int32) (p0 : Int32) (w0 : Int32) (s0 : Int32) (m0 : Int32) (b0 : Int32) (hI : tk_ok B (S 0)) : Met l yX3_adds (ws_ yX3_adds cX3_adds 7 (some .int)) (rmL 2 0 0) (mPre D cA ad S [.int p0, .int w0, .int s0, .int m0, .int b0]) (va_Qi (fun (r : Int32) (S' : Nat → Nat → Int32) => r = (tk_adds (S 0) p0 w0 s0 m0 b0).1 ∧ tk_sm S S' (tk_adds (S 0) p0 w0 s0 m0 b0).2) (mEnd D cA ad) (mA ad)) 0 0 (mA ad) := by
  refine Met.ofW (cc := cX3_adds) (maxL := 7) (ret := (some .int)) (by decide) rfl ?_
  intro p e s m args below meth c s₁ Bd hml hv
  obtain ⟨rfl, hP, hK, hD⟩ := hv
  have hx := Bd.exec
  have hb := Bd.bytes
  have hr := Bd.returns
  have hts := atoms_spec (ws := (ws_ yX3_adds cX3_adds 7 (some .int))) Bd.pre
  have hts : ∀ w ∈ lw_all, w.before _ s = true := fun w h => hts w (List.mem_cons_of_mem _ h)
  have hown : s.vm.findClass RX3 = some m.cls := findClass_of_methodNamed Bd.named
  have hlocks := Bd.notSynchronized
  have hM : mSt D cA ad (mA ad) s.heap s.heap [] S := ⟨hP, hD, va_S.rf⟩
  have hl := lv_entry ([.ref (ad 7), .int p0, .int w0, .int s0, .int m0, .int b0]) (n := 7) (Nat.le_of_ble_eq_true rfl)
  rw [lg_entry_eq]
  generalize (lg_sl ([.ref (ad 7), .int p0, .int w0, .int s0, .int m0, .int b0]) ++ List.replicate (7 - (lg_sl ([.ref (ad 7), .int p0, .int w0, .int s0, .int m0, .int b0])).length) Slot.unset).toArray = ls at hl ⊢
  have hl : lv_has ls 7 [(0, .ref (ad 7)), (1, .int p0), (2, .int w0), (3, .int s0), (4, .int m0), (5, .int b0)] := hl
  obtain ⟨np, hnp, enp, ennp, enip⟩ := ok_p hI
  refine lv_iload_n hx hb dX3_adds_0 rfl (lv_at hl 1 rfl) ?_
  refine lv_iconst (v := 1) hx hb dX3_adds_1 (by decide) ?_
  refine lv_sipush (v := 5000) hx hb dX3_adds_2 (by decide) ?_
  refine vp_callSi (W.runS (As := [.int p0, .int (1 : Int32), .int (5000 : Int32)]) (rest := []) ⟨hx, hb, hml, hown, hts⟩ (met_X3_in l p0 (1 : Int32) (5000 : Int32)) (va_cwS 3 hts (lw_S q1633 q1634 q71 q1635) rfl rfl rfl (by decide +kernel) ⟨Nat.le_of_ble_eq_true rfl, Nat.le_of_ble_eq_true rfl⟩) ⟨fun a U g mk q => q, fun U hU hW => ⟨rfl, trivial⟩⟩ rfl rfl hl.1 rfl (lv_room (Nat.le_of_ble_eq_true rfl)) dX3_adds_5 ⟨Nat.le_of_ble_eq_true rfl, Nat.le_of_ble_eq_true rfl⟩) (fun r_1 hr_1 => ?_)
  rcases hr_1 with ⟨er_hr_1, hr_1⟩ | ⟨er_hr_1, hr_1⟩
  · subst er_hr_1
    refine lv_if_eq (tgt := 54) hx hb dX3_adds_8 (by decide) (fun c_ => absurd c_ (by decide)) (fun _ => ?_)
    refine lv_iload_n hx hb dX3_adds_11 rfl (lv_at hl 2 rfl) ?_
    refine lv_iconst (v := 1) hx hb dX3_adds_12 (by decide) ?_
    refine lv_sipush (v := 20000) hx hb dX3_adds_13 (by decide) ?_
    refine vp_callSi (W.runS (As := [.int w0, .int (1 : Int32), .int (20000 : Int32)]) (rest := []) ⟨hx, hb, hml, hown, hts⟩ (met_X3_in l w0 (1 : Int32) (20000 : Int32)) (va_cwS 3 hts (lw_S q1633 q1634 q71 q1635) rfl rfl rfl (by decide +kernel) ⟨Nat.le_of_ble_eq_true rfl, Nat.le_of_ble_eq_true rfl⟩) ⟨fun a U g mk q => q, fun U hU hW => ⟨rfl, trivial⟩⟩ rfl rfl hl.1 rfl (lv_room (Nat.le_of_ble_eq_true rfl)) dX3_adds_16 ⟨Nat.le_of_ble_eq_true rfl, Nat.le_of_ble_eq_true rfl⟩) (fun r_2 hr_2 => ?_)
    rcases hr_2 with ⟨er_hr_2, hr_2⟩ | ⟨er_hr_2, hr_2⟩
    · subst er_hr_2
      refine lv_if_eq (tgt := 54) hx hb dX3_adds_19 (by decide) (fun c_ => absurd c_ (by decide)) (fun _ => ?_)
      refine lv_iload_n hx hb dX3_adds_22 rfl (lv_at hl 3 rfl) ?_
      refine lv_iconst (v := 0) hx hb dX3_adds_23 (by decide) ?_
      refine lv_bipush (v := 99) hx hb dX3_adds_24 (by decide) ?_
      refine vp_callSi (W.runS (As := [.int s0, .int (0 : Int32), .int (99 : Int32)]) (rest := []) ⟨hx, hb, hml, hown, hts⟩ (met_X3_in l s0 (0 : Int32) (99 : Int32)) (va_cwS 3 hts (lw_S q1633 q1634 q71 q1635) rfl rfl rfl (by decide +kernel) ⟨Nat.le_of_ble_eq_true rfl, Nat.le_of_ble_eq_true rfl⟩) ⟨fun a U g mk q => q, fun U hU hW => ⟨rfl, trivial⟩⟩ rfl rfl hl.1 rfl (lv_room (Nat.le_of_ble_eq_true rfl)) dX3_adds_26 ⟨Nat.le_of_ble_eq_true rfl, Nat.le_of_ble_eq_true rfl⟩) (fun r_3 hr_3 => ?_)
      rcases hr_3 with ⟨er_hr_3, hr_3⟩ | ⟨er_hr_3, hr_3⟩
      · subst er_hr_3
        refine lv_if_eq (tgt := 54) hx hb dX3_adds_29 (by decide) (fun c_ => absurd c_ (by decide)) (fun _ => ?_)
        refine lv_iload hx hb dX3_adds_32 (lv_at hl 4 rfl) ?_
        refine lv_iconst (v := 1) hx hb dX3_adds_34 (by decide) ?_
        refine lv_ldc (v := 100000) hx hb hown (hts _ q1743) dX3_adds_35 ?_
        refine vp_callSi (W.runS (As := [.int m0, .int (1 : Int32), .int (100000 : Int32)]) (rest := []) ⟨hx, hb, hml, hown, hts⟩ (met_X3_in l m0 (1 : Int32) (100000 : Int32)) (va_cwS 3 hts (lw_S q1633 q1634 q71 q1635) rfl rfl rfl (by decide +kernel) ⟨Nat.le_of_ble_eq_true rfl, Nat.le_of_ble_eq_true rfl⟩) ⟨fun a U g mk q => q, fun U hU hW => ⟨rfl, trivial⟩⟩ rfl rfl hl.1 rfl (lv_room (Nat.le_of_ble_eq_true rfl)) dX3_adds_37 ⟨Nat.le_of_ble_eq_true rfl, Nat.le_of_ble_eq_true rfl⟩) (fun r_4 hr_4 => ?_)
        rcases hr_4 with ⟨er_hr_4, hr_4⟩ | ⟨er_hr_4, hr_4⟩
        · subst er_hr_4
          refine lv_if_eq (tgt := 54) hx hb dX3_adds_40 (by decide) (fun c_ => absurd c_ (by decide)) (fun _ => ?_)
          refine lv_iload hx hb dX3_adds_43 (lv_at hl 5 rfl) ?_
          refine lv_iconst (v := 1) hx hb dX3_adds_45 (by decide) ?_
          refine lv_ldc (v := 100000) hx hb hown (hts _ q1743) dX3_adds_46 ?_
          refine vp_callSi (W.runS (As := [.int b0, .int (1 : Int32), .int (100000 : Int32)]) (rest := []) ⟨hx, hb, hml, hown, hts⟩ (met_X3_in l b0 (1 : Int32) (100000 : Int32)) (va_cwS 3 hts (lw_S q1633 q1634 q71 q1635) rfl rfl rfl (by decide +kernel) ⟨Nat.le_of_ble_eq_true rfl, Nat.le_of_ble_eq_true rfl⟩) ⟨fun a U g mk q => q, fun U hU hW => ⟨rfl, trivial⟩⟩ rfl rfl hl.1 rfl (lv_room (Nat.le_of_ble_eq_true rfl)) dX3_adds_48 ⟨Nat.le_of_ble_eq_true rfl, Nat.le_of_ble_eq_true rfl⟩) (fun r_5 hr_5 => ?_)
          rcases hr_5 with ⟨er_hr_5, hr_5⟩ | ⟨er_hr_5, hr_5⟩
          · subst er_hr_5
            refine lv_if_ne (tgt := 57) hx hb dX3_adds_51 (by decide) (fun _ => ?_) (fun c_ => absurd c_ (by decide))
            refine lv_aload_n hx hb dX3_adds_57 rfl (lv_at hl 0 rfl) ?_
            refine m_get hx hb hts in_X3 hown hK hM 0 (by decide) (hts _ q1571) rfl dX3_adds_58 ?_
            refine lv_bipush (v := 15) hx hb dX3_adds_61 (by decide) ?_
            refine m_iald hx hb hK hM 0 1 rfl 15 rfl (by omega) (v := (S 0 15)) rfl dX3_adds_63 (by decide) ?_
            refine lv_bipush (v := 6) hx hb dX3_adds_64 (by decide) ?_
            refine lv_icmp_ne (tgt := 72) hx hb dX3_adds_66 (by decide) (fun c66_b_6 => ?_) (fun c66_b_6 => ?_)
            · skip
              have nc66_b_6 := neqF (a := np) (b := 6) enp rfl (by omega) (by omega) c66_b_6
              refine lv_bipush (v := 52) hx hb dX3_adds_72 (by decide) ?_
              refine lv_bipush (v := 7) hx hb dX3_adds_74 (by decide) ?_
              refine lv_aload_n hx hb dX3_adds_76 rfl (lv_at hl 0 rfl) ?_
              refine m_get hx hb hts in_X3 hown hK hM 0 (by decide) (hts _ q1571) rfl dX3_adds_77 ?_
              refine lv_bipush (v := 15) hx hb dX3_adds_80 (by decide) ?_
              refine m_iald hx hb hK hM 0 1 rfl 15 rfl (by omega) (v := (S 0 15)) rfl dX3_adds_82 (by decide) ?_
              refine lv_imul hx hb dX3_adds_83 ?_
              refine lv_iadd hx hb dX3_adds_84 ?_
              refine lv_istore (lv' := [(6, .int ((52 : Int32) + ((7 : Int32) * (S 0 15)))), (0, .ref (ad 7)), (1, .int p0), (2, .int w0), (3, .int s0), (4, .int m0), (5, .int b0)]) hx hb dX3_adds_85 hl (by decide) rfl (fun ls hl => ?_)
              refine lv_aload_n hx hb dX3_adds_87 rfl (lv_at hl 1 rfl) ?_
              refine m_get hx hb hts in_X3 hown hK hM 0 (by decide) (hts _ q1571) rfl dX3_adds_88 ?_
              refine lv_iload hx hb dX3_adds_91 (lv_at hl 0 rfl) ?_
              refine lv_iload_n hx hb dX3_adds_93 rfl (lv_at hl 2 rfl) ?_
              refine m_iast hx hb hK hM 0 1 rfl (fun _ => rfl) (52 + (7 * np)) (ixA rfl (ixM rfl enp)) (by omega) dX3_adds_94 (by decide) (fun H locs S_7 eS_7 hM => ?_)
              refine lv_aload_n hx hb dX3_adds_95 rfl (lv_at hl 1 rfl) ?_
              refine m_get hx hb hts in_X3 hown hK hM 0 (by decide) (hts _ q1571) rfl dX3_adds_96 ?_
              refine lv_iload hx hb dX3_adds_99 (lv_at hl 0 rfl) ?_
              refine lv_iconst (v := 1) hx hb dX3_adds_101 (by decide) ?_
              refine lv_iadd hx hb dX3_adds_102 ?_
              refine lv_iload_n hx hb dX3_adds_103 rfl (lv_at hl 3 rfl) ?_
              refine m_iast hx hb hK hM 0 1 rfl (fun _ => rfl) ((52 + (7 * np)) + 1) (ixA (ixA rfl (ixM rfl enp)) rfl) (by omega) dX3_adds_104 (by decide) (fun H locs S_8 eS_8 hM => ?_)
              refine lv_aload_n hx hb dX3_adds_105 rfl (lv_at hl 1 rfl) ?_
              refine m_get hx hb hts in_X3 hown hK hM 0 (by decide) (hts _ q1571) rfl dX3_adds_106 ?_
              refine lv_iload hx hb dX3_adds_109 (lv_at hl 0 rfl) ?_
              refine lv_iconst (v := 2) hx hb dX3_adds_111 (by decide) ?_
              refine lv_iadd hx hb dX3_adds_112 ?_
              refine lv_iload_n hx hb dX3_adds_113 rfl (lv_at hl 4 rfl) ?_
              refine m_iast hx hb hK hM 0 1 rfl (fun _ => rfl) ((52 + (7 * np)) + 2) (ixA (ixA rfl (ixM rfl enp)) rfl) (by omega) dX3_adds_114 (by decide) (fun H locs S_9 eS_9 hM => ?_)
              refine lv_aload_n hx hb dX3_adds_115 rfl (lv_at hl 1 rfl) ?_
              refine m_get hx hb hts in_X3 hown hK hM 0 (by decide) (hts _ q1571) rfl dX3_adds_116 ?_
              refine lv_iload hx hb dX3_adds_119 (lv_at hl 0 rfl) ?_
              refine lv_iconst (v := 3) hx hb dX3_adds_121 (by decide) ?_
              refine lv_iadd hx hb dX3_adds_122 ?_
              refine lv_iload hx hb dX3_adds_123 (lv_at hl 5 rfl) ?_
              refine m_iast hx hb hK hM 0 1 rfl (fun _ => rfl) ((52 + (7 * np)) + 3) (ixA (ixA rfl (ixM rfl enp)) rfl) (by omega) dX3_adds_125 (by decide) (fun H locs S_10 eS_10 hM => ?_)
              refine lv_aload_n hx hb dX3_adds_126 rfl (lv_at hl 1 rfl) ?_
              refine m_get hx hb hts in_X3 hown hK hM 0 (by decide) (hts _ q1571) rfl dX3_adds_127 ?_
              refine lv_iload hx hb dX3_adds_130 (lv_at hl 0 rfl) ?_
              refine lv_iconst (v := 4) hx hb dX3_adds_132 (by decide) ?_
              refine lv_iadd hx hb dX3_adds_133 ?_
              refine lv_iload hx hb dX3_adds_134 (lv_at hl 6 rfl) ?_
              refine m_iast hx hb hK hM 0 1 rfl (fun _ => rfl) ((52 + (7 * np)) + 4) (ixA (ixA rfl (ixM rfl enp)) rfl) (by omega) dX3_adds_136 (by decide) (fun H locs S_11 eS_11 hM => ?_)
              refine lv_aload_n hx hb dX3_adds_137 rfl (lv_at hl 1 rfl) ?_
              refine m_get hx hb hts in_X3 hown hK hM 0 (by decide) (hts _ q1571) rfl dX3_adds_138 ?_
              refine lv_iload hx hb dX3_adds_141 (lv_at hl 0 rfl) ?_
              refine lv_iconst (v := 5) hx hb dX3_adds_143 (by decide) ?_
              refine lv_iadd hx hb dX3_adds_144 ?_
              refine lv_iconst (v := 0) hx hb dX3_adds_145 (by decide) ?_
              refine m_iast hx hb hK hM 0 1 rfl (fun _ => rfl) ((52 + (7 * np)) + 5) (ixA (ixA rfl (ixM rfl enp)) rfl) (by omega) dX3_adds_146 (by decide) (fun H locs S_12 eS_12 hM => ?_)
              refine lv_aload_n hx hb dX3_adds_147 rfl (lv_at hl 1 rfl) ?_
              refine m_get hx hb hts in_X3 hown hK hM 0 (by decide) (hts _ q1571) rfl dX3_adds_148 ?_
              refine lv_iload hx hb dX3_adds_151 (lv_at hl 0 rfl) ?_
              refine lv_bipush (v := 6) hx hb dX3_adds_153 (by decide) ?_
              refine lv_iadd hx hb dX3_adds_155 ?_
              refine lv_iconst (v := 0) hx hb dX3_adds_156 (by decide) ?_
              refine m_iast hx hb hK hM 0 1 rfl (fun _ => rfl) ((52 + (7 * np)) + 6) (ixA (ixA rfl (ixM rfl enp)) rfl) (by omega) dX3_adds_157 (by decide) (fun H locs S_13 eS_13 hM => ?_)
              refine lv_aload_n hx hb dX3_adds_158 rfl (lv_at hl 1 rfl) ?_
              refine m_get hx hb hts in_X3 hown hK hM 0 (by decide) (hts _ q1571) rfl dX3_adds_159 ?_
              refine lv_bipush (v := 15) hx hb dX3_adds_162 (by decide) ?_
              refine lv_dup2_11 hx hb dX3_adds_164 rfl rfl ?_
              refine m_iald hx hb hK hM 0 1 rfl 15 rfl (by omega) (v := (S 0 15)) (by rw [eS_13, su_s, pk_un (by omega), eS_12, su_s, pk_un (by omega), eS_11, su_s, pk_un (by omega), eS_10, su_s, pk_un (by omega), eS_9, su_s, pk_un (by omega), eS_8, su_s, pk_un (by omega), eS_7, su_s, pk_un (by omega)]) dX3_adds_165 (by decide) ?_
              refine lv_iconst (v := 1) hx hb dX3_adds_166 (by decide) ?_
              refine lv_iadd hx hb dX3_adds_167 ?_
              refine m_iast hx hb hK hM 0 1 rfl (fun _ => rfl) 15 rfl (by omega) dX3_adds_168 (by decide) (fun H locs S_14 eS_14 hM => ?_)
              refine lv_aload_n hx hb dX3_adds_169 rfl (lv_at hl 1 rfl) ?_
              refine m_get hx hb hts in_X3 hown hK hM 0 (by decide) (hts _ q1571) rfl dX3_adds_170 ?_
              refine lv_bipush (v := 15) hx hb dX3_adds_173 (by decide) ?_
              refine m_iald hx hb hK hM 0 1 rfl 15 rfl (by omega) (v := ((S 0 15) + (1 : Int32))) (by rw [eS_14, su_s, pk_us]) dX3_adds_175 (by decide) ?_
              refine lv_iconst (v := 1) hx hb dX3_adds_176 (by decide) ?_
              refine lv_isub hx hb dX3_adds_177 ?_
              exact W.iret hx hb hr (fun t ht hW => ⟨⟨_, S_14, rfl, (by subst eS_14; subst eS_13; subst eS_12; subst eS_11; subst eS_10; subst eS_9; subst eS_8; subst eS_7; refine ⟨by simp [tk_adds, hr_1, hr_2, hr_3, hr_4, hr_5, c66_b_6, ennp], ?_⟩; (try simp only [su_su, su_s]); exact tk_smE (by simp [tk_adds, hr_1, hr_2, hr_3, hr_4, hr_5, c66_b_6, ennp])), by rw [ht]; exact hM.1, hM.2.1⟩, hM.2.2.F ht⟩) hM.2.2.2.2 dX3_adds_178
            · skip
              have nc66_b_6 := neqT (a := np) (b := 6) enp rfl (by omega) (by omega) c66_b_6
              refine lv_ldc (v := -100003) hx hb hown (hts _ q1677) dX3_adds_69 ?_
              exact W.iret hx hb hr (fun t ht hW => ⟨⟨_, S, rfl, (by exact ⟨by simp [tk_adds, hr_1, hr_2, hr_3, hr_4, hr_5, c66_b_6], tk_smR (by simp [tk_adds, hr_1, hr_2, hr_3, hr_4, hr_5, c66_b_6])⟩), by rw [ht]; exact hM.1, hM.2.1⟩, hM.2.2.F ht⟩) hM.2.2.2.2 dX3_adds_71
          · subst er_hr_5
            refine lv_if_ne (tgt := 57) hx hb dX3_adds_51 (by decide) (fun c_ => absurd (by decide) c_) (fun _ => ?_)
            refine lv_ldc (v := -100001) hx hb hown (hts _ q1636) dX3_adds_54 ?_
            exact W.iret hx hb hr (fun t ht hW => ⟨⟨_, S, rfl, (by exact ⟨by simp [tk_adds, hr_1, hr_2, hr_3, hr_4, hr_5], tk_smR (by simp [tk_adds, hr_1, hr_2, hr_3, hr_4, hr_5])⟩), by rw [ht]; exact hM.1, hM.2.1⟩, hM.2.2.F ht⟩) hM.2.2.2.2 dX3_adds_56
        · subst er_hr_4
          refine lv_if_eq (tgt := 54) hx hb dX3_adds_40 (by decide) (fun _ => ?_) (fun c_ => absurd (by decide) c_)
          refine lv_ldc (v := -100001) hx hb hown (hts _ q1636) dX3_adds_54 ?_
          exact W.iret hx hb hr (fun t ht hW => ⟨⟨_, S, rfl, (by exact ⟨by simp [tk_adds, hr_1, hr_2, hr_3, hr_4], tk_smR (by simp [tk_adds, hr_1, hr_2, hr_3, hr_4])⟩), by rw [ht]; exact hM.1, hM.2.1⟩, hM.2.2.F ht⟩) hM.2.2.2.2 dX3_adds_56
      · subst er_hr_3
        refine lv_if_eq (tgt := 54) hx hb dX3_adds_29 (by decide) (fun _ => ?_) (fun c_ => absurd (by decide) c_)
        refine lv_ldc (v := -100001) hx hb hown (hts _ q1636) dX3_adds_54 ?_
        exact W.iret hx hb hr (fun t ht hW => ⟨⟨_, S, rfl, (by exact ⟨by simp [tk_adds, hr_1, hr_2, hr_3], tk_smR (by simp [tk_adds, hr_1, hr_2, hr_3])⟩), by rw [ht]; exact hM.1, hM.2.1⟩, hM.2.2.F ht⟩) hM.2.2.2.2 dX3_adds_56
    · subst er_hr_2
      refine lv_if_eq (tgt := 54) hx hb dX3_adds_19 (by decide) (fun _ => ?_) (fun c_ => absurd (by decide) c_)
      refine lv_ldc (v := -100001) hx hb hown (hts _ q1636) dX3_adds_54 ?_
      exact W.iret hx hb hr (fun t ht hW => ⟨⟨_, S, rfl, (by exact ⟨by simp [tk_adds, hr_1, hr_2], tk_smR (by simp [tk_adds, hr_1, hr_2])⟩), by rw [ht]; exact hM.1, hM.2.1⟩, hM.2.2.F ht⟩) hM.2.2.2.2 dX3_adds_56
  · subst er_hr_1
    refine lv_if_eq (tgt := 54) hx hb dX3_adds_8 (by decide) (fun _ => ?_) (fun c_ => absurd (by decide) c_)
    refine lv_ldc (v := -100001) hx hb hown (hts _ q1636) dX3_adds_54 ?_
    exact W.iret hx hb hr (fun t ht hW => ⟨⟨_, S, rfl, (by exact ⟨by simp [tk_adds, hr_1], tk_smR (by simp [tk_adds, hr_1])⟩), by rw [ht]; exact hM.1, hM.2.1⟩, hM.2.2.F ht⟩) hM.2.2.2.2 dX3_adds_56

set_option maxHeartbeats 4000000 in
set_option maxRecDepth 100000 in
theorem met_X3_buys (l : Launch) {B : Nat} (D : va_G) (cA : Nat → ClassId) (ad : Nat → Nat) (S : Nat → Nat → Int32) (c0 : Int32) (p0 : Int32) (n0 : Int32) (hI : tk_ok B (S 0)) : Met l yX3_buys (ws_ yX3_buys cX3_buys 7 (some .int)) (rmL 3 0 0) (mPre D cA ad S [.int c0, .int p0, .int n0]) (va_Qi (fun (r : Int32) (S' : Nat → Nat → Int32) => r = (tk_buys (S 0) c0 p0 n0).1 ∧ tk_sm S S' (tk_buys (S 0) c0 p0 n0).2) (mEnd D cA ad) (mA ad)) 0 0 (mA ad) := by
  refine Met.ofW (cc := cX3_buys) (maxL := 7) (ret := (some .int)) (by decide) rfl ?_
  intro p e s m args below meth c s₁ Bd hml hv
  obtain ⟨rfl, hP, hK, hD⟩ := hv
  have hx := Bd.exec
  have hb := Bd.bytes
  have hr := Bd.returns
  have hts := atoms_spec (ws := (ws_ yX3_buys cX3_buys 7 (some .int))) Bd.pre
  have hts : ∀ w ∈ lw_all, w.before _ s = true := fun w h => hts w (List.mem_cons_of_mem _ h)
  have hown : s.vm.findClass RX3 = some m.cls := findClass_of_methodNamed Bd.named
  have hlocks := Bd.notSynchronized
  have hM : mSt D cA ad (mA ad) s.heap s.heap [] S := ⟨hP, hD, va_S.rf⟩
  have hl := lv_entry ([.ref (ad 7), .int c0, .int p0, .int n0]) (n := 7) (Nat.le_of_ble_eq_true rfl)
  rw [lg_entry_eq]
  generalize (lg_sl ([.ref (ad 7), .int c0, .int p0, .int n0]) ++ List.replicate (7 - (lg_sl ([.ref (ad 7), .int c0, .int p0, .int n0])).length) Slot.unset).toArray = ls at hl ⊢
  have hl : lv_has ls 7 [(0, .ref (ad 7)), (1, .int c0), (2, .int p0), (3, .int n0)] := hl
  refine lv_aload_n hx hb dX3_buys_0 rfl (lv_at hl 0 rfl) ?_
  refine lv_iload_n hx hb dX3_buys_1 rfl (lv_at hl 1 rfl) ?_
  refine vp_callSi (W.runV (As := [.int c0]) (rest := []) ⟨hx, hb, hml, hown, hts⟩ (met_X3_isCustomer l D cA ad S c0) (cwV 1 hts (lw_V q1682 q1684 qs31 q71 q1685) rfl rfl rfl (by decide +kernel) ⟨Nat.le_of_ble_eq_true rfl, Nat.le_of_ble_eq_true rfl⟩) (mPreV hK hM) rfl rfl hl.1 rfl (lv_room (Nat.le_of_ble_eq_true rfl)) dX3_buys_2 ⟨Nat.le_of_ble_eq_true rfl, Nat.le_of_ble_eq_true rfl⟩) (fun r_1 hr_1 => ?_)
  rcases hr_1 with ⟨er_hr_1, hr_1⟩ | ⟨er_hr_1, hr_1⟩
  · subst er_hr_1
    obtain ⟨j0, hj0, hlj0, rfl⟩ := ok_cus hI hr_1
    have nnj0 : (nI j0).toNatClampNeg = j0 := nI_clamp (by omega)
    refine lv_if_eq (tgt := 26) hx hb dX3_buys_5 (by decide) (fun c_ => absurd c_ (by decide)) (fun _ => ?_)
    refine lv_aload_n hx hb dX3_buys_8 rfl (lv_at hl 0 rfl) ?_
    refine lv_iload_n hx hb dX3_buys_9 rfl (lv_at hl 2 rfl) ?_
    refine vp_callSi (W.runV (As := [.int p0]) (rest := []) ⟨hx, hb, hml, hown, hts⟩ (met_X3_isPrize l D cA ad S p0) (cwV 1 hts (lw_V q1748 q1750 qs41 q71 q1751) rfl rfl rfl (by decide +kernel) ⟨Nat.le_of_ble_eq_true rfl, Nat.le_of_ble_eq_true rfl⟩) (mPreV hK hM) rfl rfl hl.1 rfl (lv_room (Nat.le_of_ble_eq_true rfl)) dX3_buys_10 ⟨Nat.le_of_ble_eq_true rfl, Nat.le_of_ble_eq_true rfl⟩) (fun r_2 hr_2 => ?_)
    rcases hr_2 with ⟨er_hr_2, hr_2⟩ | ⟨er_hr_2, hr_2⟩
    · subst er_hr_2
      obtain ⟨q0, hq0, hlq0, rfl⟩ := ok_pri hI hr_2
      have nnq0 : (nI q0).toNatClampNeg = q0 := nI_clamp (by omega)
      obtain ⟨hm3, hm1, hm0⟩ := ok_mark hI hlq0
      refine lv_if_eq (tgt := 26) hx hb dX3_buys_13 (by decide) (fun c_ => absurd c_ (by decide)) (fun _ => ?_)
      refine lv_iload_n hx hb dX3_buys_16 rfl (lv_at hl 3 rfl) ?_
      refine lv_iconst (v := 1) hx hb dX3_buys_17 (by decide) ?_
      refine lv_bipush (v := 99) hx hb dX3_buys_18 (by decide) ?_
      refine vp_callSi (W.runS (As := [.int n0, .int (1 : Int32), .int (99 : Int32)]) (rest := []) ⟨hx, hb, hml, hown, hts⟩ (met_X3_in l n0 (1 : Int32) (99 : Int32)) (va_cwS 3 hts (lw_S q1633 q1634 q71 q1635) rfl rfl rfl (by decide +kernel) ⟨Nat.le_of_ble_eq_true rfl, Nat.le_of_ble_eq_true rfl⟩) ⟨fun a U g mk q => q, fun U hU hW => ⟨rfl, trivial⟩⟩ rfl rfl hl.1 rfl (lv_room (Nat.le_of_ble_eq_true rfl)) dX3_buys_20 ⟨Nat.le_of_ble_eq_true rfl, Nat.le_of_ble_eq_true rfl⟩) (fun r_3 hr_3 => ?_)
      rcases hr_3 with ⟨er_hr_3, hr_3⟩ | ⟨er_hr_3, hr_3⟩
      · subst er_hr_3
        refine lv_if_ne (tgt := 29) hx hb dX3_buys_23 (by decide) (fun _ => ?_) (fun c_ => absurd c_ (by decide))
        refine lv_aload_n hx hb dX3_buys_29 rfl (lv_at hl 0 rfl) ?_
        refine lv_iload_n hx hb dX3_buys_30 rfl (lv_at hl 1 rfl) ?_
        refine lv_iconst (v := 0) hx hb dX3_buys_31 (by decide) ?_
        refine vp_callSi (W.runV (As := [.int (nI j0), .int (nI 0)]) (rest := []) ⟨hx, hb, hml, hown, hts⟩ (met_X3_of l D cA ad S j0 0 (by first | assumption | omega | decide)) (cwV 2 hts (lw_V q1686 q1688 qs32 q71 q1689) rfl rfl rfl (by decide +kernel) ⟨Nat.le_of_ble_eq_true rfl, Nat.le_of_ble_eq_true rfl⟩) (mPreV hK hM) rfl rfl hl.1 rfl (lv_room (Nat.le_of_ble_eq_true rfl)) dX3_buys_32 ⟨Nat.le_of_ble_eq_true rfl, Nat.le_of_ble_eq_true rfl⟩) (fun r_4 hr_4 => ?_)
        subst hr_4
        rw [show S 0 (16 + 6 * j0 + 0) = (S 0 (16 + 6 * j0)) from (show S 0 (16 + 6 * j0) = (S 0 (16 + 6 * j0)) from rfl)]
        refine lv_iload_n hx hb dX3_buys_35 rfl (lv_at hl 3 rfl) ?_
        refine lv_aload_n hx hb dX3_buys_36 rfl (lv_at hl 0 rfl) ?_
        refine lv_iload_n hx hb dX3_buys_37 rfl (lv_at hl 2 rfl) ?_
        refine lv_iconst (v := 0) hx hb dX3_buys_38 (by decide) ?_
        refine vp_callSi (W.runV (As := [.int (nI q0), .int (nI 0)]) (rest := [.int n0, .int (S 0 (16 + 6 * j0))]) ⟨hx, hb, hml, hown, hts⟩ (met_X3_priced l D cA ad S q0 0 (by first | assumption | omega | decide)) (cwV 2 hts (lw_V q1752 q1754 qs42 q71 q1755) rfl rfl rfl (by decide +kernel) ⟨Nat.le_of_ble_eq_true rfl, Nat.le_of_ble_eq_true rfl⟩) (mPreV hK hM) rfl rfl hl.1 rfl (lv_room (Nat.le_of_ble_eq_true rfl)) dX3_buys_39 ⟨Nat.le_of_ble_eq_true rfl, Nat.le_of_ble_eq_true rfl⟩) (fun r_5 hr_5 => ?_)
        subst hr_5
        rw [show S 0 (52 + 7 * q0 + 0) = (S 0 (52 + 7 * q0)) from (show S 0 (52 + 7 * q0) = (S 0 (52 + 7 * q0)) from rfl)]
        refine lv_imul hx hb dX3_buys_42 ?_
        refine lv_icmp_ge (tgt := 49) hx hb dX3_buys_43 (by decide) (fun c43_b_6 => ?_) (fun c43_b_6 => ?_)
        · skip
          have c43_b_6 := Int32.not_lt.mpr c43_b_6
          refine lv_aload_n hx hb dX3_buys_49 rfl (lv_at hl 0 rfl) ?_
          refine lv_iload_n hx hb dX3_buys_50 rfl (lv_at hl 2 rfl) ?_
          refine lv_iconst (v := 2) hx hb dX3_buys_51 (by decide) ?_
          refine vp_callSi (W.runV (As := [.int (nI q0), .int (nI 2)]) (rest := []) ⟨hx, hb, hml, hown, hts⟩ (met_X3_priced l D cA ad S q0 2 (by first | assumption | omega | decide)) (cwV 2 hts (lw_V q1752 q1754 qs42 q71 q1755) rfl rfl rfl (by decide +kernel) ⟨Nat.le_of_ble_eq_true rfl, Nat.le_of_ble_eq_true rfl⟩) (mPreV hK hM) rfl rfl hl.1 rfl (lv_room (Nat.le_of_ble_eq_true rfl)) dX3_buys_52 ⟨Nat.le_of_ble_eq_true rfl, Nat.le_of_ble_eq_true rfl⟩) (fun r_7 hr_7 => ?_)
          subst hr_7
          refine lv_iload_n hx hb dX3_buys_55 rfl (lv_at hl 3 rfl) ?_
          refine lv_icmp_ge (tgt := 62) hx hb dX3_buys_56 (by decide) (fun c56_b_8 => ?_) (fun c56_b_8 => ?_)
          · skip
            have c56_b_8 := Int32.not_lt.mpr c56_b_8
            refine lv_aload_n hx hb dX3_buys_62 rfl (lv_at hl 0 rfl) ?_
            refine m_get hx hb hts in_X3 hown hK hM 0 (by decide) (hts _ q1571) rfl dX3_buys_63 ?_
            refine lv_bipush (v := 16) hx hb dX3_buys_66 (by decide) ?_
            refine lv_bipush (v := 6) hx hb dX3_buys_68 (by decide) ?_
            refine lv_iload_n hx hb dX3_buys_70 rfl (lv_at hl 1 rfl) ?_
            refine lv_imul hx hb dX3_buys_71 ?_
            refine lv_iadd hx hb dX3_buys_72 ?_
            refine lv_dup2_11 hx hb dX3_buys_73 rfl rfl ?_
            refine m_iald hx hb hK hM 0 1 rfl (16 + (6 * j0)) (ixA rfl (ixM rfl rfl)) (by omega) (v := (S 0 (16 + (6 * j0)))) rfl dX3_buys_74 (by decide) ?_
            refine lv_iload_n hx hb dX3_buys_75 rfl (lv_at hl 3 rfl) ?_
            refine lv_aload_n hx hb dX3_buys_76 rfl (lv_at hl 0 rfl) ?_
            refine lv_iload_n hx hb dX3_buys_77 rfl (lv_at hl 2 rfl) ?_
            refine lv_iconst (v := 0) hx hb dX3_buys_78 (by decide) ?_
            refine vp_callSi (W.runV (As := [.int (nI q0), .int (nI 0)]) (rest := [.int n0, .int (S 0 (16 + (6 * j0))), .int ((16 : Int32) + ((6 : Int32) * (nI j0))), .ref (ad 0)]) ⟨hx, hb, hml, hown, hts⟩ (met_X3_priced l D cA ad S q0 0 (by first | assumption | omega | decide)) (cwV 2 hts (lw_V q1752 q1754 qs42 q71 q1755) rfl rfl rfl (by decide +kernel) ⟨Nat.le_of_ble_eq_true rfl, Nat.le_of_ble_eq_true rfl⟩) (mPreV hK hM) rfl rfl hl.1 rfl (lv_room (Nat.le_of_ble_eq_true rfl)) dX3_buys_79 ⟨Nat.le_of_ble_eq_true rfl, Nat.le_of_ble_eq_true rfl⟩) (fun r_9 hr_9 => ?_)
            subst hr_9
            rw [show S 0 (52 + 7 * q0 + 0) = (S 0 (52 + 7 * q0)) from (show S 0 (52 + 7 * q0) = (S 0 (52 + 7 * q0)) from rfl)]
            refine lv_imul hx hb dX3_buys_82 ?_
            refine lv_isub hx hb dX3_buys_83 ?_
            refine m_iast hx hb hK hM 0 1 rfl (fun _ => rfl) (16 + (6 * j0)) (ixA rfl (ixM rfl rfl)) (by omega) dX3_buys_84 (by decide) (fun H locs S_10 eS_10 hM => ?_)
            refine lv_bipush (v := 52) hx hb dX3_buys_85 (by decide) ?_
            refine lv_bipush (v := 7) hx hb dX3_buys_87 (by decide) ?_
            refine lv_iload_n hx hb dX3_buys_89 rfl (lv_at hl 2 rfl) ?_
            refine lv_imul hx hb dX3_buys_90 ?_
            refine lv_iadd hx hb dX3_buys_91 ?_
            refine lv_istore (lv' := [(4, .int ((52 : Int32) + ((7 : Int32) * (nI q0)))), (0, .ref (ad 7)), (1, .int (nI j0)), (2, .int (nI q0)), (3, .int n0)]) hx hb dX3_buys_92 hl (by decide) rfl (fun ls hl => ?_)
            refine lv_aload_n hx hb dX3_buys_94 rfl (lv_at hl 1 rfl) ?_
            refine m_get hx hb hts in_X3 hown hK hM 0 (by decide) (hts _ q1571) rfl dX3_buys_95 ?_
            refine lv_iload hx hb dX3_buys_98 (lv_at hl 0 rfl) ?_
            refine lv_iconst (v := 5) hx hb dX3_buys_100 (by decide) ?_
            refine lv_iadd hx hb dX3_buys_101 ?_
            refine m_iald hx hb hK hM 0 1 rfl ((52 + (7 * q0)) + 5) (ixA (ixA rfl (ixM rfl rfl)) rfl) (by omega) (v := (S 0 ((52 + (7 * q0)) + 5))) (by rw [eS_10, su_s, pk_un (by omega)]) dX3_buys_102 (by decide) ?_
            refine lv_iload_n hx hb dX3_buys_103 rfl (lv_at hl 4 rfl) ?_
            refine lv_aload_n hx hb dX3_buys_104 rfl (lv_at hl 1 rfl) ?_
            refine m_get hx hb hts in_X3 hown hK hM 0 (by decide) (hts _ q1571) rfl dX3_buys_105 ?_
            refine lv_iload hx hb dX3_buys_108 (lv_at hl 0 rfl) ?_
            refine lv_iconst (v := 1) hx hb dX3_buys_110 (by decide) ?_
            refine lv_iadd hx hb dX3_buys_111 ?_
            refine m_iald hx hb hK hM 0 1 rfl ((52 + (7 * q0)) + 1) (ixA (ixA rfl (ixM rfl rfl)) rfl) (by omega) (v := (S 0 ((52 + (7 * q0)) + 1))) (by rw [eS_10, su_s, pk_un (by omega)]) dX3_buys_112 (by decide) ?_
            refine lv_imul hx hb dX3_buys_113 ?_
            refine lv_iadd hx hb dX3_buys_114 ?_
            refine lv_istore (lv' := [(5, .int ((S 0 ((52 + (7 * q0)) + 5)) + (n0 * (S 0 ((52 + (7 * q0)) + 1))))), (4, .int ((52 : Int32) + ((7 : Int32) * (nI q0)))), (0, .ref (ad 7)), (1, .int (nI j0)), (2, .int (nI q0)), (3, .int n0)]) hx hb dX3_buys_115 hl (by decide) rfl (fun ls hl => ?_)
            refine lv_iload hx hb dX3_buys_117 (lv_at hl 0 rfl) ?_
            refine lv_aload_n hx hb dX3_buys_119 rfl (lv_at hl 2 rfl) ?_
            refine m_get hx hb hts in_X3 hown hK hM 0 (by decide) (hts _ q1571) rfl dX3_buys_120 ?_
            refine lv_iload hx hb dX3_buys_123 (lv_at hl 1 rfl) ?_
            refine lv_iconst (v := 3) hx hb dX3_buys_125 (by decide) ?_
            refine lv_iadd hx hb dX3_buys_126 ?_
            refine m_iald hx hb hK hM 0 1 rfl ((52 + (7 * q0)) + 3) (ixA (ixA rfl (ixM rfl rfl)) rfl) (by omega) (v := (S 0 ((52 + (7 * q0)) + 3))) (by rw [eS_10, su_s, pk_un (by omega)]) dX3_buys_127 (by decide) ?_
            refine lv_idiv hx hb dX3_buys_128 (by assumption) ?_
            refine lv_istore (lv' := [(6, .int (((S 0 ((52 + (7 * q0)) + 5)) + (n0 * (S 0 ((52 + (7 * q0)) + 1)))) / (S 0 ((52 + (7 * q0)) + 3)))), (5, .int ((S 0 ((52 + (7 * q0)) + 5)) + (n0 * (S 0 ((52 + (7 * q0)) + 1))))), (4, .int ((52 : Int32) + ((7 : Int32) * (nI q0)))), (0, .ref (ad 7)), (1, .int (nI j0)), (2, .int (nI q0)), (3, .int n0)]) hx hb dX3_buys_129 hl (by decide) rfl (fun ls hl => ?_)
            refine lv_aload_n hx hb dX3_buys_131 rfl (lv_at hl 3 rfl) ?_
            refine m_get hx hb hts in_X3 hown hK hM 0 (by decide) (hts _ q1571) rfl dX3_buys_132 ?_
            refine lv_iload hx hb dX3_buys_135 (lv_at hl 2 rfl) ?_
            refine lv_iconst (v := 5) hx hb dX3_buys_137 (by decide) ?_
            refine lv_iadd hx hb dX3_buys_138 ?_
            refine lv_iload hx hb dX3_buys_139 (lv_at hl 1 rfl) ?_
            refine lv_aload_n hx hb dX3_buys_141 rfl (lv_at hl 3 rfl) ?_
            refine m_get hx hb hts in_X3 hown hK hM 0 (by decide) (hts _ q1571) rfl dX3_buys_142 ?_
            refine lv_iload hx hb dX3_buys_145 (lv_at hl 2 rfl) ?_
            refine lv_iconst (v := 3) hx hb dX3_buys_147 (by decide) ?_
            refine lv_iadd hx hb dX3_buys_148 ?_
            refine m_iald hx hb hK hM 0 1 rfl ((52 + (7 * q0)) + 3) (ixA (ixA rfl (ixM rfl rfl)) rfl) (by omega) (v := (S 0 ((52 + (7 * q0)) + 3))) (by rw [eS_10, su_s, pk_un (by omega)]) dX3_buys_149 (by decide) ?_
            refine lv_irem hx hb dX3_buys_150 (by assumption) ?_
            refine m_iast hx hb hK hM 0 1 rfl (fun _ => rfl) ((52 + (7 * q0)) + 5) (ixA (ixA rfl (ixM rfl rfl)) rfl) (by omega) dX3_buys_151 (by decide) (fun H locs S_11 eS_11 hM => ?_)
            refine lv_aload_n hx hb dX3_buys_152 rfl (lv_at hl 3 rfl) ?_
            refine m_get hx hb hts in_X3 hown hK hM 0 (by decide) (hts _ q1571) rfl dX3_buys_153 ?_
            refine lv_iload hx hb dX3_buys_156 (lv_at hl 2 rfl) ?_
            refine lv_iconst (v := 2) hx hb dX3_buys_158 (by decide) ?_
            refine lv_iadd hx hb dX3_buys_159 ?_
            refine lv_aload_n hx hb dX3_buys_160 rfl (lv_at hl 3 rfl) ?_
            refine m_get hx hb hts in_X3 hown hK hM 0 (by decide) (hts _ q1571) rfl dX3_buys_161 ?_
            refine lv_iload hx hb dX3_buys_164 (lv_at hl 2 rfl) ?_
            refine lv_iconst (v := 2) hx hb dX3_buys_166 (by decide) ?_
            refine lv_iadd hx hb dX3_buys_167 ?_
            refine m_iald hx hb hK hM 0 1 rfl ((52 + (7 * q0)) + 2) (ixA (ixA rfl (ixM rfl rfl)) rfl) (by omega) (v := (S 0 ((52 + (7 * q0)) + 2))) (by rw [eS_11, su_s, pk_un (by omega), eS_10, su_s, pk_un (by omega)]) dX3_buys_168 (by decide) ?_
            refine lv_iload_n hx hb dX3_buys_169 rfl (lv_at hl 6 rfl) ?_
            refine lv_isub hx hb dX3_buys_170 ?_
            refine lv_iload hx hb dX3_buys_171 (lv_at hl 0 rfl) ?_
            refine lv_aload_n hx hb dX3_buys_173 rfl (lv_at hl 3 rfl) ?_
            refine m_get hx hb hts in_X3 hown hK hM 0 (by decide) (hts _ q1571) rfl dX3_buys_174 ?_
            refine lv_iload hx hb dX3_buys_177 (lv_at hl 2 rfl) ?_
            refine lv_iconst (v := 4) hx hb dX3_buys_179 (by decide) ?_
            refine lv_iadd hx hb dX3_buys_180 ?_
            refine m_iald hx hb hK hM 0 1 rfl ((52 + (7 * q0)) + 4) (ixA (ixA rfl (ixM rfl rfl)) rfl) (by omega) (v := (S 0 ((52 + (7 * q0)) + 4))) (by rw [eS_11, su_s, pk_un (by omega), eS_10, su_s, pk_un (by omega)]) dX3_buys_181 (by decide) ?_
            refine lv_aload_n hx hb dX3_buys_182 rfl (lv_at hl 3 rfl) ?_
            refine m_get hx hb hts in_X3 hown hK hM 0 (by decide) (hts _ q1571) rfl dX3_buys_183 ?_
            refine lv_iload hx hb dX3_buys_186 (lv_at hl 2 rfl) ?_
            refine lv_iconst (v := 1) hx hb dX3_buys_188 (by decide) ?_
            refine lv_iadd hx hb dX3_buys_189 ?_
            refine m_iald hx hb hK hM 0 1 rfl ((52 + (7 * q0)) + 1) (ixA (ixA rfl (ixM rfl rfl)) rfl) (by omega) (v := (S 0 ((52 + (7 * q0)) + 1))) (by rw [eS_11, su_s, pk_un (by omega), eS_10, su_s, pk_un (by omega)]) dX3_buys_190 (by decide) ?_
            refine lv_idiv hx hb dX3_buys_191 (by assumption) ?_
            refine vp_callSi (W.runS (As := [.int ((S 0 ((52 + (7 * q0)) + 2)) - n0), .int (((S 0 ((52 + (7 * q0)) + 5)) + (n0 * (S 0 ((52 + (7 * q0)) + 1)))) / (S 0 ((52 + (7 * q0)) + 3))), .int ((S 0 ((52 + (7 * q0)) + 4)) / (S 0 ((52 + (7 * q0)) + 1)))]) (rest := [.int (((52 : Int32) + ((7 : Int32) * (nI q0))) + (2 : Int32)), .ref (ad 0)]) ⟨hx, hb, hml, hown, hts⟩ (met_X3_stocked l ((S 0 ((52 + (7 * q0)) + 2)) - n0) (((S 0 ((52 + (7 * q0)) + 5)) + (n0 * (S 0 ((52 + (7 * q0)) + 1)))) / (S 0 ((52 + (7 * q0)) + 3))) ((S 0 ((52 + (7 * q0)) + 4)) / (S 0 ((52 + (7 * q0)) + 1)))) (va_cwS 3 hts (lw_S q1768 q1769 q71 q1770) rfl rfl rfl (by decide +kernel) ⟨Nat.le_of_ble_eq_true rfl, Nat.le_of_ble_eq_true rfl⟩) ⟨fun a U g mk q => q, fun U hU hW => ⟨rfl, trivial⟩⟩ rfl rfl hl.1 rfl (lv_room (Nat.le_of_ble_eq_true rfl)) dX3_buys_192 ⟨Nat.le_of_ble_eq_true rfl, Nat.le_of_ble_eq_true rfl⟩) (fun r_12 hr_12 => ?_)
            subst hr_12
            refine m_iast hx hb hK hM 0 1 rfl (fun _ => rfl) ((52 + (7 * q0)) + 2) (ixA (ixA rfl (ixM rfl rfl)) rfl) (by omega) dX3_buys_195 (by decide) (fun H locs S_13 eS_13 hM => ?_)
            refine lv_aload_n hx hb dX3_buys_196 rfl (lv_at hl 3 rfl) ?_
            refine m_get hx hb hts in_X3 hown hK hM 0 (by decide) (hts _ q1571) rfl dX3_buys_197 ?_
            refine lv_iload hx hb dX3_buys_200 (lv_at hl 2 rfl) ?_
            refine lv_bipush (v := 6) hx hb dX3_buys_202 (by decide) ?_
            refine lv_iadd hx hb dX3_buys_204 ?_
            refine lv_dup2_11 hx hb dX3_buys_205 rfl rfl ?_
            refine m_iald hx hb hK hM 0 1 rfl ((52 + (7 * q0)) + 6) (ixA (ixA rfl (ixM rfl rfl)) rfl) (by omega) (v := (S 0 ((52 + (7 * q0)) + 6))) (by rw [eS_13, su_s, pk_un (by omega), eS_11, su_s, pk_un (by omega), eS_10, su_s, pk_un (by omega)]) dX3_buys_206 (by decide) ?_
            refine lv_iload hx hb dX3_buys_207 (lv_at hl 0 rfl) ?_
            refine lv_iadd hx hb dX3_buys_209 ?_
            refine m_iast hx hb hK hM 0 1 rfl (fun _ => rfl) ((52 + (7 * q0)) + 6) (ixA (ixA rfl (ixM rfl rfl)) rfl) (by omega) dX3_buys_210 (by decide) (fun H locs S_14 eS_14 hM => ?_)
            refine lv_aload_n hx hb dX3_buys_211 rfl (lv_at hl 3 rfl) ?_
            refine lv_iload_n hx hb dX3_buys_212 rfl (lv_at hl 4 rfl) ?_
            refine lv_iconst (v := 0) hx hb dX3_buys_213 (by decide) ?_
            refine vp_callSi (W.runV (As := [.int (nI j0), .int (nI 0)]) (rest := []) ⟨hx, hb, hml, hown, hts⟩ (met_X3_of l D cA ad S_14 j0 0 (by first | assumption | omega | decide)) (cwV 2 hts (lw_V q1686 q1688 qs32 q71 q1689) rfl rfl rfl (by decide +kernel) ⟨Nat.le_of_ble_eq_true rfl, Nat.le_of_ble_eq_true rfl⟩) (mPreV hK hM) rfl rfl hl.1 rfl (lv_room (Nat.le_of_ble_eq_true rfl)) dX3_buys_214 ⟨Nat.le_of_ble_eq_true rfl, Nat.le_of_ble_eq_true rfl⟩) (fun r_15 hr_15 => ?_)
            subst hr_15
            rw [show S_14 0 (16 + 6 * j0 + 0) = ((S 0 (16 + (6 * j0))) - (n0 * (S 0 (52 + 7 * q0)))) from (show S_14 0 (16 + 6 * j0) = ((S 0 (16 + (6 * j0))) - (n0 * (S 0 (52 + 7 * q0)))) from (by rw [eS_14, su_s, pk_un (by omega), eS_13, su_s, pk_un (by omega), eS_11, su_s, pk_un (by omega), eS_10, su_s, show 16 + 6 * j0 = (16 + (6 * j0)) from by omega, pk_us]))]
            exact W.iret hx hb hr (fun t ht hW => ⟨⟨_, S_14, rfl, (by subst eS_14; subst eS_13; subst eS_11; subst eS_10; refine ⟨by simp [tk_buys, tk_buyW, hr_1, nnj0, hr_2, nnq0, hr_3, c43_b_6, c56_b_8], ?_⟩; (try simp only [su_su, su_s]); exact tk_smE (by simp [tk_buys, tk_buyW, hr_1, nnj0, hr_2, nnq0, hr_3, c43_b_6, c56_b_8])), by rw [ht]; exact hM.1, hM.2.1⟩, hM.2.2.F ht⟩) hM.2.2.2.2 dX3_buys_217
          · skip
            have c56_b_8 := Int32.not_le.mp c56_b_8
            refine lv_ldc (v := -100003) hx hb hown (hts _ q1677) dX3_buys_59 ?_
            exact W.iret hx hb hr (fun t ht hW => ⟨⟨_, S, rfl, (by exact ⟨by simp [tk_buys, tk_buyW, hr_1, nnj0, hr_2, nnq0, hr_3, c43_b_6, c56_b_8], tk_smR (by simp [tk_buys, tk_buyW, hr_1, nnj0, hr_2, nnq0, hr_3, c43_b_6, c56_b_8])⟩), by rw [ht]; exact hM.1, hM.2.1⟩, hM.2.2.F ht⟩) hM.2.2.2.2 dX3_buys_61
        · skip
          have c43_b_6 := Int32.not_le.mp c43_b_6
          refine lv_ldc (v := -100002) hx hb hown (hts _ q1731) dX3_buys_46 ?_
          exact W.iret hx hb hr (fun t ht hW => ⟨⟨_, S, rfl, (by exact ⟨by simp [tk_buys, tk_buyW, hr_1, nnj0, hr_2, nnq0, hr_3, c43_b_6], tk_smR (by simp [tk_buys, tk_buyW, hr_1, nnj0, hr_2, nnq0, hr_3, c43_b_6])⟩), by rw [ht]; exact hM.1, hM.2.1⟩, hM.2.2.F ht⟩) hM.2.2.2.2 dX3_buys_48
      · subst er_hr_3
        refine lv_if_ne (tgt := 29) hx hb dX3_buys_23 (by decide) (fun c_ => absurd (by decide) c_) (fun _ => ?_)
        refine lv_ldc (v := -100001) hx hb hown (hts _ q1636) dX3_buys_26 ?_
        exact W.iret hx hb hr (fun t ht hW => ⟨⟨_, S, rfl, (by exact ⟨by simp [tk_buys, tk_buyW, hr_1, nnj0, hr_2, nnq0, hr_3], tk_smR (by simp [tk_buys, tk_buyW, hr_1, nnj0, hr_2, nnq0, hr_3])⟩), by rw [ht]; exact hM.1, hM.2.1⟩, hM.2.2.F ht⟩) hM.2.2.2.2 dX3_buys_28
    · subst er_hr_2
      refine lv_if_eq (tgt := 26) hx hb dX3_buys_13 (by decide) (fun _ => ?_) (fun c_ => absurd (by decide) c_)
      refine lv_ldc (v := -100001) hx hb hown (hts _ q1636) dX3_buys_26 ?_
      exact W.iret hx hb hr (fun t ht hW => ⟨⟨_, S, rfl, (by exact ⟨by simp [tk_buys, tk_buyW, hr_1, nnj0, hr_2], tk_smR (by simp [tk_buys, tk_buyW, hr_1, nnj0, hr_2])⟩), by rw [ht]; exact hM.1, hM.2.1⟩, hM.2.2.F ht⟩) hM.2.2.2.2 dX3_buys_28
  · subst er_hr_1
    refine lv_if_eq (tgt := 26) hx hb dX3_buys_5 (by decide) (fun _ => ?_) (fun c_ => absurd (by decide) c_)
    refine lv_ldc (v := -100001) hx hb hown (hts _ q1636) dX3_buys_26 ?_
    exact W.iret hx hb hr (fun t ht hW => ⟨⟨_, S, rfl, (by exact ⟨by simp [tk_buys, tk_buyW, hr_1], tk_smR (by simp [tk_buys, tk_buyW, hr_1])⟩), by rw [ht]; exact hM.1, hM.2.1⟩, hM.2.2.F ht⟩) hM.2.2.2.2 dX3_buys_28
