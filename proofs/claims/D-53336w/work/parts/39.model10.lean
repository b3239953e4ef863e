set_option maxHeartbeats 4000000 in
set_option maxRecDepth 100000 in
theorem met_X3_soldOut (l : Launch) {B : Nat} (D : va_G) (cA : Nat → ClassId) (ad : Nat → Nat) (S : Nat → Nat → Int32) (p0 : Int32) (hI : tk_ok B (S 0)) : Met l yX3_soldOut (ws_ yX3_soldOut cX3_soldOut 6 (some .int)) (rmL 3 0 0) (mPre D cA ad S [.int p0]) (vp_Si (fun r => r = tk_soldq (S 0) p0)) 0 0 (fun _ => False) := by
  refine Met.ofW (cc := cX3_soldOut) (maxL := 6) (ret := (some .int)) (by decide) rfl ?_
  intro p e s m args below meth c s₁ Bd hml hv
  obtain ⟨rfl, hP, hK, hD⟩ := hv
  have hx := Bd.exec
  have hb := Bd.bytes
  have hr := Bd.returns
  have hts := atoms_spec (ws := (ws_ yX3_soldOut cX3_soldOut 6 (some .int))) Bd.pre
  have hts : ∀ w ∈ lw_all, w.before _ s = true := fun w h => hts w (List.mem_cons_of_mem _ h)
  have hown : s.vm.findClass RX3 = some m.cls := findClass_of_methodNamed Bd.named
  have hlocks := Bd.notSynchronized
  have hM : mSt D cA ad (mA ad) s.heap s.heap [] S := ⟨hP, hD, va_S.rf⟩
  have hl := lv_entry ([.ref (ad 7), .int p0]) (n := 6) (Nat.le_of_ble_eq_true rfl)
  rw [lg_entry_eq]
  generalize (lg_sl ([.ref (ad 7), .int p0]) ++ List.replicate (6 - (lg_sl ([.ref (ad 7), .int p0])).length) Slot.unset).toArray = ls at hl ⊢
  have hl : lv_has ls 6 [(0, .ref (ad 7)), (1, .int p0)] := hl
  refine lv_aload_n hx hb dX3_soldOut_0 rfl (lv_at hl 0 rfl) ?_
  refine lv_iload_n hx hb dX3_soldOut_1 rfl (lv_at hl 1 rfl) ?_
  refine vp_callSi (W.runV (As := [.int p0]) (rest := []) ⟨hx, hb, hml, hown, hts⟩ (met_X3_isPrize l D cA ad S p0) (cwV 1 hts (lw_V q1748 q1750 qs41 q71 q1751) rfl rfl rfl (by decide +kernel) ⟨Nat.le_of_ble_eq_true rfl, Nat.le_of_ble_eq_true rfl⟩) (mPreV hK hM) rfl rfl hl.1 rfl (lv_room (Nat.le_of_ble_eq_true rfl)) dX3_soldOut_2 ⟨Nat.le_of_ble_eq_true rfl, Nat.le_of_ble_eq_true rfl⟩) (fun r_1 hr_1 => ?_)
  rcases hr_1 with ⟨er_hr_1, hr_1⟩ | ⟨er_hr_1, hr_1⟩
  · subst er_hr_1
    obtain ⟨q0, hq0, hlq0, rfl⟩ := ok_pri hI hr_1
    have nnq0 : (nI q0).toNatClampNeg = q0 := nI_clamp (by omega)
    obtain ⟨hm3, hm1, hm0⟩ := ok_mark hI hlq0
    refine lv_if_ne (tgt := 11) hx hb dX3_soldOut_5 (by decide) (fun _ => ?_) (fun c_ => absurd c_ (by decide))
    refine lv_aload_n hx hb dX3_soldOut_11 rfl (lv_at hl 0 rfl) ?_
    refine lv_iload_n hx hb dX3_soldOut_12 rfl (lv_at hl 1 rfl) ?_
    refine lv_iconst (v := 2) hx hb dX3_soldOut_13 (by decide) ?_
    refine vp_callSi (W.runV (As := [.int (nI q0), .int (nI 2)]) (rest := []) ⟨hx, hb, hml, hown, hts⟩ (met_X3_priced l D cA ad S q0 2 (by first | assumption | omega | decide)) (cwV 2 hts (lw_V q1752 q1754 qs42 q71 q1755) rfl rfl rfl (by decide +kernel) ⟨Nat.le_of_ble_eq_true rfl, Nat.le_of_ble_eq_true rfl⟩) (mPreV hK hM) rfl rfl hl.1 rfl (lv_room (Nat.le_of_ble_eq_true rfl)) dX3_soldOut_14 ⟨Nat.le_of_ble_eq_true rfl, Nat.le_of_ble_eq_true rfl⟩) (fun r_2 hr_2 => ?_)
    subst hr_2
    refine lv_istore_n (lv' := [(2, .int (S 0 (52 + 7 * q0 + 2))), (0, .ref (ad 7)), (1, .int (nI q0))]) hx hb dX3_soldOut_17 rfl hl (by decide) rfl (fun ls hl => ?_)
    refine lv_aload_n hx hb dX3_soldOut_18 rfl (lv_at hl 1 rfl) ?_
    refine lv_iload_n hx hb dX3_soldOut_19 rfl (lv_at hl 2 rfl) ?_
    refine lv_iconst (v := 5) hx hb dX3_soldOut_20 (by decide) ?_
    refine vp_callSi (W.runV (As := [.int (nI q0), .int (nI 5)]) (rest := []) ⟨hx, hb, hml, hown, hts⟩ (met_X3_priced l D cA ad S q0 5 (by first | assumption | omega | decide)) (cwV 2 hts (lw_V q1752 q1754 qs42 q71 q1755) rfl rfl rfl (by decide +kernel) ⟨Nat.le_of_ble_eq_true rfl, Nat.le_of_ble_eq_true rfl⟩) (mPreV hK hM) rfl rfl hl.1 rfl (lv_room (Nat.le_of_ble_eq_true rfl)) dX3_soldOut_21 ⟨Nat.le_of_ble_eq_true rfl, Nat.le_of_ble_eq_true rfl⟩) (fun r_3 hr_3 => ?_)
    subst hr_3
    refine lv_istore_n (lv' := [(3, .int (S 0 (52 + 7 * q0 + 5))), (2, .int (S 0 (52 + 7 * q0 + 2))), (0, .ref (ad 7)), (1, .int (nI q0))]) hx hb dX3_soldOut_24 rfl hl (by decide) rfl (fun ls hl => ?_)
    refine lv_aload_n hx hb dX3_soldOut_25 rfl (lv_at hl 2 rfl) ?_
    refine lv_iload_n hx hb dX3_soldOut_26 rfl (lv_at hl 3 rfl) ?_
    refine lv_iconst (v := 4) hx hb dX3_soldOut_27 (by decide) ?_
    refine vp_callSi (W.runV (As := [.int (nI q0), .int (nI 4)]) (rest := []) ⟨hx, hb, hml, hown, hts⟩ (met_X3_priced l D cA ad S q0 4 (by first | assumption | omega | decide)) (cwV 2 hts (lw_V q1752 q1754 qs42 q71 q1755) rfl rfl rfl (by decide +kernel) ⟨Nat.le_of_ble_eq_true rfl, Nat.le_of_ble_eq_true rfl⟩) (mPreV hK hM) rfl rfl hl.1 rfl (lv_room (Nat.le_of_ble_eq_true rfl)) dX3_soldOut_28 ⟨Nat.le_of_ble_eq_true rfl, Nat.le_of_ble_eq_true rfl⟩) (fun r_4 hr_4 => ?_)
    subst hr_4
    refine lv_aload_n hx hb dX3_soldOut_31 rfl (lv_at hl 2 rfl) ?_
    refine lv_iload_n hx hb dX3_soldOut_32 rfl (lv_at hl 3 rfl) ?_
    refine lv_iconst (v := 1) hx hb dX3_soldOut_33 (by decide) ?_
    refine vp_callSi (W.runV (As := [.int (nI q0), .int (nI 1)]) (rest := [.int (S 0 (52 + 7 * q0 + 4))]) ⟨hx, hb, hml, hown, hts⟩ (met_X3_priced l D cA ad S q0 1 (by first | assumption | omega | decide)) (cwV 2 hts (lw_V q1752 q1754 qs42 q71 q1755) rfl rfl rfl (by decide +kernel) ⟨Nat.le_of_ble_eq_true rfl, Nat.le_of_ble_eq_true rfl⟩) (mPreV hK hM) rfl rfl hl.1 rfl (lv_room (Nat.le_of_ble_eq_true rfl)) dX3_soldOut_34 ⟨Nat.le_of_ble_eq_true rfl, Nat.le_of_ble_eq_true rfl⟩) (fun r_5 hr_5 => ?_)
    subst hr_5
    refine lv_idiv hx hb dX3_soldOut_37 (by assumption) ?_
    refine lv_istore (lv' := [(4, .int ((S 0 (52 + 7 * q0 + 4)) / (S 0 (52 + 7 * q0 + 1)))), (3, .int (S 0 (52 + 7 * q0 + 5))), (2, .int (S 0 (52 + 7 * q0 + 2))), (0, .ref (ad 7)), (1, .int (nI q0))]) hx hb dX3_soldOut_38 hl (by decide) rfl (fun ls hl => ?_)
    refine lv_iconst (v := 0) hx hb dX3_soldOut_40 (by decide) ?_
    refine lv_istore (lv' := [(5, .int (0 : Int32)), (4, .int ((S 0 (52 + 7 * q0 + 4)) / (S 0 (52 + 7 * q0 + 1)))), (3, .int (S 0 (52 + 7 * q0 + 5))), (2, .int (S 0 (52 + 7 * q0 + 2))), (0, .ref (ad 7)), (1, .int (nI q0))]) hx hb dX3_soldOut_41 hl (by decide) rfl (fun ls hl => ?_)
    have cut_43 : ∀ (N : Nat) (k : Nat) (x2 x3 : Int32) (hk : k ≤ 1000) (hac : tk_so (S 0 (52 + 7 * q0 + 1)) (S 0 (52 + 7 * q0 + 3)) (S 0 (52 + 7 * q0 + 4) / S 0 (52 + 7 * q0 + 1)) 1000 0 (S 0 (52 + 7 * q0 + 2)) (S 0 (52 + 7 * q0 + 5)) = tk_so (S 0 (52 + 7 * q0 + 1)) (S 0 (52 + 7 * q0 + 3)) (S 0 (52 + 7 * q0 + 4) / S 0 (52 + 7 * q0 + 1)) (1000 - k) k x2 x3) (hN : 1000 - k < N) , ∀ (ls : Array Slot) (hl : lv_has ls 6 [(2, .int x2), (3, .int x3), (5, .int (nI k)), (4, .int ((S 0 (52 + 7 * q0 + 4)) / (S 0 (52 + 7 * q0 + 1)))), (0, .ref (ad 7)), (1, .int (nI q0))]), W p l e (headSpec (ws_ yX3_soldOut cX3_soldOut 6 (some .int)) (rmL 3 0 0)).room s m ([.ref (ad 7), .int (nI q0)] : List Value).toArray below meth c s.heap [] 0 0 (MQ below (vp_Si (fun r => r = tk_soldq (S 0) (nI q0))) ([.ref (ad 7), .int (nI q0)] : List Value).toArray s 0 0 (fun _ => False)) (F0 m 43 ls []) := by
      intro N
      induction N with
      | zero => intro k x2 x3 hk hac hN; exact absurd hN (Nat.not_lt_zero _)
      | succ N ih_43 =>
        intro k x2 x3 hk hac hN  ls hl
        refine lv_iload hx hb dX3_soldOut_43 (lv_at hl 2 rfl) ?_
        refine lv_sipush (v := 1000) hx hb dX3_soldOut_45 (by decide) ?_
        refine lv_icmp_ge (tgt := 99) hx hb dX3_soldOut_48 (by decide) (fun c48_b_6 => ?_) (fun c48_b_6 => ?_)
        · skip
          have c48_b_6 := Int32.not_lt.mpr c48_b_6
          have nc48_b_6 := nltF (a := k) (b := 1000) rfl rfl (by omega) (by omega) c48_b_6
          refine lv_ldc (v := -100009) hx hb hown (hts _ q1722) dX3_soldOut_99 ?_
          exact W.iret hx hb hr (fun t ht hW => ⟨_, rfl, (by simp [tk_soldq, hr_1, nnq0, c48_b_6]; rw [hac]; exact (tk_soE (by omega)).symm), ht⟩) (fun _ h => absurd h List.not_mem_nil) dX3_soldOut_101
        · skip
          have c48_b_6 := Int32.not_le.mp c48_b_6
          have nc48_b_6 := nltT (a := k) (b := 1000) rfl rfl (by omega) (by omega) c48_b_6
          refine lv_iload_n hx hb dX3_soldOut_51 rfl (lv_at hl 0 rfl) ?_
          refine lv_if_ne (tgt := 58) hx hb dX3_soldOut_52 (by decide) (fun c52_b_7 => ?_) (fun c52_b_7 => ?_)
          · skip
            refine lv_iload_n hx hb dX3_soldOut_58 rfl (lv_at hl 1 rfl) ?_
            refine lv_aload_n hx hb dX3_soldOut_59 rfl (lv_at hl 4 rfl) ?_
            refine lv_iload_n hx hb dX3_soldOut_60 rfl (lv_at hl 5 rfl) ?_
            refine lv_iconst (v := 1) hx hb dX3_soldOut_61 (by decide) ?_
            refine vp_callSi (W.runV (As := [.int (nI q0), .int (nI 1)]) (rest := [.int x3]) ⟨hx, hb, hml, hown, hts⟩ (met_X3_priced l D cA ad S q0 1 (by first | assumption | omega | decide)) (cwV 2 hts (lw_V q1752 q1754 qs42 q71 q1755) rfl rfl rfl (by decide +kernel) ⟨Nat.le_of_ble_eq_true rfl, Nat.le_of_ble_eq_true rfl⟩) (mPreV hK hM) rfl rfl hl.1 rfl (lv_room (Nat.le_of_ble_eq_true rfl)) dX3_soldOut_62 ⟨Nat.le_of_ble_eq_true rfl, Nat.le_of_ble_eq_true rfl⟩) (fun r_8 hr_8 => ?_)
            subst hr_8
            refine lv_iadd hx hb dX3_soldOut_65 ?_
            refine lv_istore_n (lv' := [(3, .int (x3 + (S 0 (52 + 7 * q0 + 1)))), (2, .int x2), (5, .int (nI k)), (4, .int ((S 0 (52 + 7 * q0 + 4)) / (S 0 (52 + 7 * q0 + 1)))), (0, .ref (ad 7)), (1, .int (nI q0))]) hx hb dX3_soldOut_66 rfl hl (by decide) rfl (fun ls hl => ?_)
            refine lv_iload_n hx hb dX3_soldOut_67 rfl (lv_at hl 1 rfl) ?_
            refine lv_iconst (v := 1) hx hb dX3_soldOut_68 (by decide) ?_
            refine lv_isub hx hb dX3_soldOut_69 ?_
            refine lv_iload_n hx hb dX3_soldOut_70 rfl (lv_at hl 0 rfl) ?_
            refine lv_aload_n hx hb dX3_soldOut_71 rfl (lv_at hl 4 rfl) ?_
            refine lv_iload_n hx hb dX3_soldOut_72 rfl (lv_at hl 5 rfl) ?_
            refine lv_iconst (v := 3) hx hb dX3_soldOut_73 (by decide) ?_
            refine vp_callSi (W.runV (As := [.int (nI q0), .int (nI 3)]) (rest := [.int (x3 + (S 0 (52 + 7 * q0 + 1))), .int (x2 - (1 : Int32))]) ⟨hx, hb, hml, hown, hts⟩ (met_X3_priced l D cA ad S q0 3 (by first | assumption | omega | decide)) (cwV 2 hts (lw_V q1752 q1754 qs42 q71 q1755) rfl rfl rfl (by decide +kernel) ⟨Nat.le_of_ble_eq_true rfl, Nat.le_of_ble_eq_true rfl⟩) (mPreV hK hM) rfl rfl hl.1 rfl (lv_room (Nat.le_of_ble_eq_true rfl)) dX3_soldOut_74 ⟨Nat.le_of_ble_eq_true rfl, Nat.le_of_ble_eq_true rfl⟩) (fun r_9 hr_9 => ?_)
            subst hr_9
            refine lv_idiv hx hb dX3_soldOut_77 (by assumption) ?_
            refine lv_iload hx hb dX3_soldOut_78 (lv_at hl 3 rfl) ?_
            refine vp_callSi (W.runS (As := [.int (x2 - (1 : Int32)), .int ((x3 + (S 0 (52 + 7 * q0 + 1))) / (S 0 (52 + 7 * q0 + 3))), .int ((S 0 (52 + 7 * q0 + 4)) / (S 0 (52 + 7 * q0 + 1)))]) (rest := []) ⟨hx, hb, hml, hown, hts⟩ (met_X3_stocked l (x2 - (1 : Int32)) ((x3 + (S 0 (52 + 7 * q0 + 1))) / (S 0 (52 + 7 * q0 + 3))) ((S 0 (52 + 7 * q0 + 4)) / (S 0 (52 + 7 * q0 + 1)))) (va_cwS 3 hts (lw_S q1768 q1769 q71 q1770) rfl rfl rfl (by decide +kernel) ⟨Nat.le_of_ble_eq_true rfl, Nat.le_of_ble_eq_true rfl⟩) ⟨fun a U g mk q => q, fun U hU hW => ⟨rfl, trivial⟩⟩ rfl rfl hl.1 rfl (lv_room (Nat.le_of_ble_eq_true rfl)) dX3_soldOut_80 ⟨Nat.le_of_ble_eq_true rfl, Nat.le_of_ble_eq_true rfl⟩) (fun r_10 hr_10 => ?_)
            subst hr_10
            refine lv_istore_n (lv' := [(2, .int (tk_stk (x2 - (1 : Int32)) ((x3 + (S 0 (52 + 7 * q0 + 1))) / (S 0 (52 + 7 * q0 + 3))) ((S 0 (52 + 7 * q0 + 4)) / (S 0 (52 + 7 * q0 + 1))))), (3, .int (x3 + (S 0 (52 + 7 * q0 + 1)))), (5, .int (nI k)), (4, .int ((S 0 (52 + 7 * q0 + 4)) / (S 0 (52 + 7 * q0 + 1)))), (0, .ref (ad 7)), (1, .int (nI q0))]) hx hb dX3_soldOut_83 rfl hl (by decide) rfl (fun ls hl => ?_)
            refine lv_iload_n hx hb dX3_soldOut_84 rfl (lv_at hl 1 rfl) ?_
            refine lv_aload_n hx hb dX3_soldOut_85 rfl (lv_at hl 4 rfl) ?_
            refine lv_iload_n hx hb dX3_soldOut_86 rfl (lv_at hl 5 rfl) ?_
            refine lv_iconst (v := 3) hx hb dX3_soldOut_87 (by decide) ?_
            refine vp_callSi (W.runV (As := [.int (nI q0), .int (nI 3)]) (rest := [.int (x3 + (S 0 (52 + 7 * q0 + 1)))]) ⟨hx, hb, hml, hown, hts⟩ (met_X3_priced l D cA ad S q0 3 (by first | assumption | omega | decide)) (cwV 2 hts (lw_V q1752 q1754 qs42 q71 q1755) rfl rfl rfl (by decide +kernel) ⟨Nat.le_of_ble_eq_true rfl, Nat.le_of_ble_eq_true rfl⟩) (mPreV hK hM) rfl rfl hl.1 rfl (lv_room (Nat.le_of_ble_eq_true rfl)) dX3_soldOut_88 ⟨Nat.le_of_ble_eq_true rfl, Nat.le_of_ble_eq_true rfl⟩) (fun r_11 hr_11 => ?_)
            subst hr_11
            refine lv_irem hx hb dX3_soldOut_91 (by assumption) ?_
            refine lv_istore_n (lv' := [(3, .int ((x3 + (S 0 (52 + 7 * q0 + 1))) - (x3 + (S 0 (52 + 7 * q0 + 1))) / (S 0 (52 + 7 * q0 + 3)) * (S 0 (52 + 7 * q0 + 3)))), (2, .int (tk_stk (x2 - (1 : Int32)) ((x3 + (S 0 (52 + 7 * q0 + 1))) / (S 0 (52 + 7 * q0 + 3))) ((S 0 (52 + 7 * q0 + 4)) / (S 0 (52 + 7 * q0 + 1))))), (5, .int (nI k)), (4, .int ((S 0 (52 + 7 * q0 + 4)) / (S 0 (52 + 7 * q0 + 1)))), (0, .ref (ad 7)), (1, .int (nI q0))]) hx hb dX3_soldOut_92 rfl hl (by decide) rfl (fun ls hl => ?_)
            refine lv_iinc (v := (nI (k + 1))) (lv' := [(5, .int (nI (k + 1))), (3, .int ((x3 + (S 0 (52 + 7 * q0 + 1))) - (x3 + (S 0 (52 + 7 * q0 + 1))) / (S 0 (52 + 7 * q0 + 3)) * (S 0 (52 + 7 * q0 + 3)))), (2, .int (tk_stk (x2 - (1 : Int32)) ((x3 + (S 0 (52 + 7 * q0 + 1))) / (S 0 (52 + 7 * q0 + 3))) ((S 0 (52 + 7 * q0 + 4)) / (S 0 (52 + 7 * q0 + 1))))), (4, .int ((S 0 (52 + 7 * q0 + 4)) / (S 0 (52 + 7 * q0 + 1)))), (0, .ref (ad 7)), (1, .int (nI q0))]) hx hb dX3_soldOut_93 hl (k := 2) rfl (ixA rfl rfl) (by decide) rfl (fun ls hl => ?_)
            refine lv_goto (tgt := 43) hx hb dX3_soldOut_96 (by decide) ?_
            exact ih_43 (k + 1) _ _ (by omega) (by rw [hac]; exact tk_soS (by omega) c52_b_7) (by omega)  ls (lv_sub hl [2, 1, 0, 3, 4, 5] rfl)
          · skip
            refine lv_iload hx hb dX3_soldOut_55 (lv_at hl 2 rfl) ?_
            exact W.iret hx hb hr (fun t ht hW => ⟨_, rfl, (by simp [tk_soldq, hr_1, nnq0, c48_b_6, c52_b_7]; rw [hac]; exact (tk_so0 (by omega) c52_b_7).symm), ht⟩) (fun _ h => absurd h List.not_mem_nil) dX3_soldOut_57
    exact cut_43 _ 0 _ _ (by omega) rfl (Nat.lt_succ_self _)  ls (lv_sub hl [3, 2, 0, 1, 4, 5] rfl)
  · subst er_hr_1
    refine lv_if_ne (tgt := 11) hx hb dX3_soldOut_5 (by decide) (fun c_ => absurd (by decide) c_) (fun _ => ?_)
    refine lv_ldc (v := -100001) hx hb hown (hts _ q1636) dX3_soldOut_8 ?_
    exact W.iret hx hb hr (fun t ht hW => ⟨_, rfl, (by simp [tk_soldq, hr_1]), ht⟩) (fun _ h => absurd h List.not_mem_nil) dX3_soldOut_10

set_option maxHeartbeats 4000000 in
set_option maxRecDepth 100000 in
theorem met_X3_ahead (l : Launch) {B : Nat} (D : va_G) (cA : Nat → ClassId) (ad : Nat → Nat) (S : Nat → Nat → Int32) (p0 : Nat) (hI : tk_ok B (S 0)) (hp0 : (p0 : Int) < (S 0 15).toInt) : Met l yX3_ahead (ws_ yX3_ahead cX3_ahead 4 (some .int)) (rmL 2 0 0) (mPre D cA ad S [.int (nI p0)]) (vp_Si (fun r => r = nI (tk_ah (S 0) p0 (S 0 15).toNatClampNeg))) 0 0 (fun _ => False) := by
  refine Met.ofW (cc := cX3_ahead) (maxL := 4) (ret := (some .int)) (by decide) rfl ?_
  intro p e s m args below meth c s₁ Bd hml hv
  obtain ⟨rfl, hP, hK, hD⟩ := hv
  have hx := Bd.exec
  have hb := Bd.bytes
  have hr := Bd.returns
  have hts := atoms_spec (ws := (ws_ yX3_ahead cX3_ahead 4 (some .int))) Bd.pre
  have hts : ∀ w ∈ lw_all, w.before _ s = true := fun w h => hts w (List.mem_cons_of_mem _ h)
  have hown : s.vm.findClass RX3 = some m.cls := findClass_of_methodNamed Bd.named
  have hlocks := Bd.notSynchronized
  have hM : mSt D cA ad (mA ad) s.heap s.heap [] S := ⟨hP, hD, va_S.rf⟩
  have hl := lv_entry ([.ref (ad 7), .int (nI p0)]) (n := 4) (Nat.le_of_ble_eq_true rfl)
  rw [lg_entry_eq]
  generalize (lg_sl ([.ref (ad 7), .int (nI p0)]) ++ List.replicate (4 - (lg_sl ([.ref (ad 7), .int (nI p0)])).length) Slot.unset).toArray = ls at hl ⊢
  have hl : lv_has ls 4 [(0, .ref (ad 7)), (1, .int (nI p0))] := hl
  obtain ⟨np, hnp, enp, ennp, enip⟩ := ok_p hI
  refine lv_iconst (v := 0) hx hb dX3_ahead_0 (by decide) ?_
  refine lv_istore_n (lv' := [(2, .int (0 : Int32)), (0, .ref (ad 7)), (1, .int (nI p0))]) hx hb dX3_ahead_1 rfl hl (by decide) rfl (fun ls hl => ?_)
  refine lv_iconst (v := 0) hx hb dX3_ahead_2 (by decide) ?_
  refine lv_istore_n (lv' := [(3, .int (0 : Int32)), (2, .int (0 : Int32)), (0, .ref (ad 7)), (1, .int (nI p0))]) hx hb dX3_ahead_3 rfl hl (by decide) rfl (fun ls hl => ?_)
  have cut_4 : ∀ (N : Nat) (k : Nat) (x2 : Int32) (hk : k ≤ np) (hx2 : x2 = nI (tk_ah (S 0) p0 k)) (hN : np - k < N) , ∀ (ls : Array Slot) (hl : lv_has ls 4 [(2, .int x2), (3, .int (nI k)), (0, .ref (ad 7)), (1, .int (nI p0))]), W p l e (headSpec (ws_ yX3_ahead cX3_ahead 4 (some .int)) (rmL 2 0 0)).room s m ([.ref (ad 7), .int (nI p0)] : List Value).toArray below meth c s.heap [] 0 0 (MQ below (vp_Si (fun r => r = nI (tk_ah (S 0) p0 (S 0 15).toNatClampNeg))) ([.ref (ad 7), .int (nI p0)] : List Value).toArray s 0 0 (fun _ => False)) (F0 m 4 ls []) := by
    intro N
    induction N with
    | zero => intro k x2 hk hx2 hN; exact absurd hN (Nat.not_lt_zero _)
    | succ N ih_4 =>
      intro k x2 hk hx2 hN  ls hl
      refine lv_iload_n hx hb dX3_ahead_4 rfl (lv_at hl 1 rfl) ?_
      refine lv_aload_n hx hb dX3_ahead_5 rfl (lv_at hl 2 rfl) ?_
      refine m_get hx hb hts in_X3 hown hK hM 0 (by decide) (hts _ q1571) rfl dX3_ahead_6 ?_
      refine lv_bipush (v := 15) hx hb dX3_ahead_9 (by decide) ?_
      refine m_iald hx hb hK hM 0 1 rfl 15 rfl (by omega) (v := (S 0 15)) rfl dX3_ahead_11 (by decide) ?_
      refine lv_icmp_ge (tgt := 64) hx hb dX3_ahead_12 (by decide) (fun c12_b_1 => ?_) (fun c12_b_1 => ?_)
      · skip
        have c12_b_1 := Int32.not_lt.mpr c12_b_1
        have nc12_b_1 := nltF (a := k) (b := np) rfl enp (by omega) (by omega) c12_b_1
        refine lv_iload_n hx hb dX3_ahead_64 rfl (lv_at hl 0 rfl) ?_
        exact W.iret hx hb hr (fun t ht hW => ⟨_, rfl, (by rw [hx2, ennp]; exact congrArg nI (congrArg _ (by omega))), ht⟩) (fun _ h => absurd h List.not_mem_nil) dX3_ahead_65
      · skip
        have c12_b_1 := Int32.not_le.mp c12_b_1
        have nc12_b_1 := nltT (a := k) (b := np) rfl enp (by omega) (by omega) c12_b_1
        refine lv_iload_n hx hb dX3_ahead_15 rfl (lv_at hl 0 rfl) ?_
        refine lv_aload_n hx hb dX3_ahead_16 rfl (lv_at hl 2 rfl) ?_
        refine lv_iload_n hx hb dX3_ahead_17 rfl (lv_at hl 1 rfl) ?_
        refine lv_iconst (v := 0) hx hb dX3_ahead_18 (by decide) ?_
        refine vp_callSi (W.runV (As := [.int (nI k), .int (nI 0)]) (rest := [.int x2]) ⟨hx, hb, hml, hown, hts⟩ (met_X3_priced l D cA ad S k 0 (by first | assumption | omega | decide)) (cwV 2 hts (lw_V q1752 q1754 qs42 q71 q1755) rfl rfl rfl (by decide +kernel) ⟨Nat.le_of_ble_eq_true rfl, Nat.le_of_ble_eq_true rfl⟩) (mPreV hK hM) rfl rfl hl.1 rfl (lv_room (Nat.le_of_ble_eq_true rfl)) dX3_ahead_19 ⟨Nat.le_of_ble_eq_true rfl, Nat.le_of_ble_eq_true rfl⟩) (fun r_2 hr_2 => ?_)
        subst hr_2
        rw [show S 0 (52 + 7 * k + 0) = (S 0 (52 + 7 * k)) from (show S 0 (52 + 7 * k) = (S 0 (52 + 7 * k)) from rfl)]
        refine lv_aload_n hx hb dX3_ahead_22 rfl (lv_at hl 2 rfl) ?_
        refine lv_iload_n hx hb dX3_ahead_23 rfl (lv_at hl 3 rfl) ?_
        refine lv_iconst (v := 0) hx hb dX3_ahead_24 (by decide) ?_
        refine vp_callSi (W.runV (As := [.int (nI p0), .int (nI 0)]) (rest := [.int (S 0 (52 + 7 * k)), .int x2]) ⟨hx, hb, hml, hown, hts⟩ (met_X3_priced l D cA ad S p0 0 (by first | assumption | omega | decide)) (cwV 2 hts (lw_V q1752 q1754 qs42 q71 q1755) rfl rfl rfl (by decide +kernel) ⟨Nat.le_of_ble_eq_true rfl, Nat.le_of_ble_eq_true rfl⟩) (mPreV hK hM) rfl rfl hl.1 rfl (lv_room (Nat.le_of_ble_eq_true rfl)) dX3_ahead_25 ⟨Nat.le_of_ble_eq_true rfl, Nat.le_of_ble_eq_true rfl⟩) (fun r_3 hr_3 => ?_)
        subst hr_3
        rw [show S 0 (52 + 7 * p0 + 0) = (S 0 (52 + 7 * p0)) from (show S 0 (52 + 7 * p0) = (S 0 (52 + 7 * p0)) from rfl)]
        refine lv_icmp_lt (tgt := 51) hx hb dX3_ahead_28 (by decide) (fun c28_b_4 => ?_) (fun c28_b_4 => ?_)
        · skip
          refine lv_iconst (v := 1) hx hb dX3_ahead_51 (by decide) ?_
          refine lv_goto (tgt := 56) hx hb dX3_ahead_52 (by decide) ?_
          refine lv_iadd hx hb dX3_ahead_56 ?_
          refine lv_istore_n (lv' := [(2, .int (x2 + (1 : Int32))), (3, .int (nI k)), (0, .ref (ad 7)), (1, .int (nI p0))]) hx hb dX3_ahead_57 rfl hl (by decide) rfl (fun ls hl => ?_)
          refine lv_iinc (v := (nI (k + 1))) (lv' := [(3, .int (nI (k + 1))), (2, .int (x2 + (1 : Int32))), (0, .ref (ad 7)), (1, .int (nI p0))]) hx hb dX3_ahead_58 hl (k := 1) rfl (ixA rfl rfl) (by decide) rfl (fun ls hl => ?_)
          refine lv_goto (tgt := 4) hx hb dX3_ahead_61 (by decide) ?_
          exact ih_4 (k + 1) _ (by omega) (by rw [hx2]; exact tk_ahY (by simp [tk_bef, c28_b_4])) (by omega)  ls (lv_sub hl [1, 0, 2, 3] rfl)
        · skip
          refine lv_aload_n hx hb dX3_ahead_31 rfl (lv_at hl 2 rfl) ?_
          refine lv_iload_n hx hb dX3_ahead_32 rfl (lv_at hl 1 rfl) ?_
          refine lv_iconst (v := 0) hx hb dX3_ahead_33 (by decide) ?_
          refine vp_callSi (W.runV (As := [.int (nI k), .int (nI 0)]) (rest := [.int x2]) ⟨hx, hb, hml, hown, hts⟩ (met_X3_priced l D cA ad S k 0 (by first | assumption | omega | decide)) (cwV 2 hts (lw_V q1752 q1754 qs42 q71 q1755) rfl rfl rfl (by decide +kernel) ⟨Nat.le_of_ble_eq_true rfl, Nat.le_of_ble_eq_true rfl⟩) (mPreV hK hM) rfl rfl hl.1 rfl (lv_room (Nat.le_of_ble_eq_true rfl)) dX3_ahead_34 ⟨Nat.le_of_ble_eq_true rfl, Nat.le_of_ble_eq_true rfl⟩) (fun r_5 hr_5 => ?_)
          subst hr_5
          rw [show S 0 (52 + 7 * k + 0) = (S 0 (52 + 7 * k)) from (show S 0 (52 + 7 * k) = (S 0 (52 + 7 * k)) from rfl)]
          refine lv_aload_n hx hb dX3_ahead_37 rfl (lv_at hl 2 rfl) ?_
          refine lv_iload_n hx hb dX3_ahead_38 rfl (lv_at hl 3 rfl) ?_
          refine lv_iconst (v := 0) hx hb dX3_ahead_39 (by decide) ?_
          refine vp_callSi (W.runV (As := [.int (nI p0), .int (nI 0)]) (rest := [.int (S 0 (52 + 7 * k)), .int x2]) ⟨hx, hb, hml, hown, hts⟩ (met_X3_priced l D cA ad S p0 0 (by first | assumption | omega | decide)) (cwV 2 hts (lw_V q1752 q1754 qs42 q71 q1755) rfl rfl rfl (by decide +kernel) ⟨Nat.le_of_ble_eq_true rfl, Nat.le_of_ble_eq_true rfl⟩) (mPreV hK hM) rfl rfl hl.1 rfl (lv_room (Nat.le_of_ble_eq_true rfl)) dX3_ahead_40 ⟨Nat.le_of_ble_eq_true rfl, Nat.le_of_ble_eq_true rfl⟩) (fun r_6 hr_6 => ?_)
          subst hr_6
          rw [show S 0 (52 + 7 * p0 + 0) = (S 0 (52 + 7 * p0)) from (show S 0 (52 + 7 * p0) = (S 0 (52 + 7 * p0)) from rfl)]
          refine lv_icmp_ne (tgt := 55) hx hb dX3_ahead_43 (by decide) (fun c43_b_7 => ?_) (fun c43_b_7 => ?_)
          · skip
            refine lv_iconst (v := 0) hx hb dX3_ahead_55 (by decide) ?_
            refine lv_iadd hx hb dX3_ahead_56 ?_
            refine lv_istore_n (lv' := [(2, .int (x2 + (0 : Int32))), (3, .int (nI k)), (0, .ref (ad 7)), (1, .int (nI p0))]) hx hb dX3_ahead_57 rfl hl (by decide) rfl (fun ls hl => ?_)
            refine lv_iinc (v := (nI (k + 1))) (lv' := [(3, .int (nI (k + 1))), (2, .int (x2 + (0 : Int32))), (0, .ref (ad 7)), (1, .int (nI p0))]) hx hb dX3_ahead_58 hl (k := 1) rfl (ixA rfl rfl) (by decide) rfl (fun ls hl => ?_)
            refine lv_goto (tgt := 4) hx hb dX3_ahead_61 (by decide) ?_
            exact ih_4 (k + 1) _ (by omega) (by rw [hx2]; exact tk_ahN (by simp [tk_bef, c28_b_4, c43_b_7])) (by omega)  ls (lv_sub hl [1, 0, 2, 3] rfl)
          · skip
            refine lv_iload_n hx hb dX3_ahead_46 rfl (lv_at hl 1 rfl) ?_
            refine lv_iload_n hx hb dX3_ahead_47 rfl (lv_at hl 3 rfl) ?_
            refine lv_icmp_ge (tgt := 55) hx hb dX3_ahead_48 (by decide) (fun c48_b_8 => ?_) (fun c48_b_8 => ?_)
            · skip
              have c48_b_8 := Int32.not_lt.mpr c48_b_8
              have nc48_b_8 := nltF (a := k) (b := p0) rfl rfl (by omega) (by omega) c48_b_8
              refine lv_iconst (v := 0) hx hb dX3_ahead_55 (by decide) ?_
              refine lv_iadd hx hb dX3_ahead_56 ?_
              refine lv_istore_n (lv' := [(2, .int (x2 + (0 : Int32))), (3, .int (nI k)), (0, .ref (ad 7)), (1, .int (nI p0))]) hx hb dX3_ahead_57 rfl hl (by decide) rfl (fun ls hl => ?_)
              refine lv_iinc (v := (nI (k + 1))) (lv' := [(3, .int (nI (k + 1))), (2, .int (x2 + (0 : Int32))), (0, .ref (ad 7)), (1, .int (nI p0))]) hx hb dX3_ahead_58 hl (k := 1) rfl (ixA rfl rfl) (by decide) rfl (fun ls hl => ?_)
              refine lv_goto (tgt := 4) hx hb dX3_ahead_61 (by decide) ?_
              exact ih_4 (k + 1) _ (by omega) (by rw [hx2]; exact tk_ahN (by simp [tk_bef, c28_b_4, c43_b_7, c48_b_8, Nat.not_lt.mpr nc48_b_8])) (by omega)  ls (lv_sub hl [1, 0, 2, 3] rfl)
            · skip
              have c48_b_8 := Int32.not_le.mp c48_b_8
              have nc48_b_8 := nltT (a := k) (b := p0) rfl rfl (by omega) (by omega) c48_b_8
              refine lv_iconst (v := 1) hx hb dX3_ahead_51 (by decide) ?_
              refine lv_goto (tgt := 56) hx hb dX3_ahead_52 (by decide) ?_
              refine lv_iadd hx hb dX3_ahead_56 ?_
              refine lv_istore_n (lv' := [(2, .int (x2 + (1 : Int32))), (3, .int (nI k)), (0, .ref (ad 7)), (1, .int (nI p0))]) hx hb dX3_ahead_57 rfl hl (by decide) rfl (fun ls hl => ?_)
              refine lv_iinc (v := (nI (k + 1))) (lv' := [(3, .int (nI (k + 1))), (2, .int (x2 + (1 : Int32))), (0, .ref (ad 7)), (1, .int (nI p0))]) hx hb dX3_ahead_58 hl (k := 1) rfl (ixA rfl rfl) (by decide) rfl (fun ls hl => ?_)
              refine lv_goto (tgt := 4) hx hb dX3_ahead_61 (by decide) ?_
              exact ih_4 (k + 1) _ (by omega) (by rw [hx2]; exact tk_ahY (by simp [tk_bef, c28_b_4, c43_b_7, c48_b_8, nc48_b_8])) (by omega)  ls (lv_sub hl [1, 0, 2, 3] rfl)
  exact cut_4 _ 0 _ (by omega) rfl (Nat.lt_succ_self _)  ls (lv_sub hl [1, 0, 2, 3] rfl)
