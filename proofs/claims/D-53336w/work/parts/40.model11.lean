set_option maxHeartbeats 4000000 in
set_option maxRecDepth 100000 in
theorem met_X3_shop (l : Launch) {B : Nat} (D : va_G) (cA : Nat → ClassId) (ad : Nat → Nat) (S : Nat → Nat → Int32) (c0 : Int32) (w0 : Int32) (hI : tk_ok B (S 0)) : Met l yX3_shop (ws_ yX3_shop cX3_shop 9 (some .int)) (rmL 3 0 0) (mPre D cA ad S [.int c0, .int w0]) (vp_Si (fun r => r = tk_shopq (S 0) c0 w0)) 0 0 (fun _ => False) := by
  refine Met.ofW (cc := cX3_shop) (maxL := 9) (ret := (some .int)) (by decide) rfl ?_
  intro p e s m args below meth c s₁ Bd hml hv
  obtain ⟨rfl, hP, hK, hD⟩ := hv
  have hx := Bd.exec
  have hb := Bd.bytes
  have hr := Bd.returns
  have hts := atoms_spec (ws := (ws_ yX3_shop cX3_shop 9 (some .int))) Bd.pre
  have hts : ∀ w ∈ lw_all, w.before _ s = true := fun w h => hts w (List.mem_cons_of_mem _ h)
  have hown : s.vm.findClass RX3 = some m.cls := findClass_of_methodNamed Bd.named
  have hlocks := Bd.notSynchronized
  have hM : mSt D cA ad (mA ad) s.heap s.heap [] S := ⟨hP, hD, va_S.rf⟩
  have hl := lv_entry ([.ref (ad 7), .int c0, .int w0]) (n := 9) (Nat.le_of_ble_eq_true rfl)
  rw [lg_entry_eq]
  generalize (lg_sl ([.ref (ad 7), .int c0, .int w0]) ++ List.replicate (9 - (lg_sl ([.ref (ad 7), .int c0, .int w0])).length) Slot.unset).toArray = ls at hl ⊢
  have hl : lv_has ls 9 [(0, .ref (ad 7)), (1, .int c0), (2, .int w0)] := hl
  obtain ⟨nc, hnc, enc, enn, eni⟩ := ok_n hI
  obtain ⟨np, hnp, enp, ennp, enip⟩ := ok_p hI
  refine lv_aload_n hx hb dX3_shop_0 rfl (lv_at hl 0 rfl) ?_
  refine lv_iload_n hx hb dX3_shop_1 rfl (lv_at hl 1 rfl) ?_
  refine vp_callSi (W.runV (As := [.int c0]) (rest := []) ⟨hx, hb, hml, hown, hts⟩ (met_X3_isCustomer l D cA ad S c0) (cwV 1 hts (lw_V q1682 q1684 qs31 q71 q1685) rfl rfl rfl (by decide +kernel) ⟨Nat.le_of_ble_eq_true rfl, Nat.le_of_ble_eq_true rfl⟩) (mPreV hK hM) rfl rfl hl.1 rfl (lv_room (Nat.le_of_ble_eq_true rfl)) dX3_shop_2 ⟨Nat.le_of_ble_eq_true rfl, Nat.le_of_ble_eq_true rfl⟩) (fun r_1 hr_1 => ?_)
  rcases hr_1 with ⟨er_hr_1, hr_1⟩ | ⟨er_hr_1, hr_1⟩
  · subst er_hr_1
    obtain ⟨j0, hj0, hlj0, rfl⟩ := ok_cus hI hr_1
    have nnj0 : (nI j0).toNatClampNeg = j0 := nI_clamp (by omega)
    refine lv_if_eq (tgt := 17) hx hb dX3_shop_5 (by decide) (fun c_ => absurd c_ (by decide)) (fun _ => ?_)
    refine lv_iload_n hx hb dX3_shop_8 rfl (lv_at hl 2 rfl) ?_
    refine lv_iconst (v := 0) hx hb dX3_shop_9 (by decide) ?_
    refine lv_iconst (v := 2) hx hb dX3_shop_10 (by decide) ?_
    refine vp_callSi (W.runS (As := [.int w0, .int (0 : Int32), .int (2 : Int32)]) (rest := []) ⟨hx, hb, hml, hown, hts⟩ (met_X3_in l w0 (0 : Int32) (2 : Int32)) (va_cwS 3 hts (lw_S q1633 q1634 q71 q1635) rfl rfl rfl (by decide +kernel) ⟨Nat.le_of_ble_eq_true rfl, Nat.le_of_ble_eq_true rfl⟩) ⟨fun a U g mk q => q, fun U hU hW => ⟨rfl, trivial⟩⟩ rfl rfl hl.1 rfl (lv_room (Nat.le_of_ble_eq_true rfl)) dX3_shop_11 ⟨Nat.le_of_ble_eq_true rfl, Nat.le_of_ble_eq_true rfl⟩) (fun r_2 hr_2 => ?_)
    rcases hr_2 with ⟨er_hr_2, hr_2⟩ | ⟨er_hr_2, hr_2⟩
    · subst er_hr_2
      refine lv_if_ne (tgt := 20) hx hb dX3_shop_14 (by decide) (fun _ => ?_) (fun c_ => absurd c_ (by decide))
      refine lv_aload_n hx hb dX3_shop_20 rfl (lv_at hl 0 rfl) ?_
      refine lv_iload_n hx hb dX3_shop_21 rfl (lv_at hl 1 rfl) ?_
      refine lv_iconst (v := 0) hx hb dX3_shop_22 (by decide) ?_
      refine vp_callSi (W.runV (As := [.int (nI j0), .int (nI 0)]) (rest := []) ⟨hx, hb, hml, hown, hts⟩ (met_X3_of l D cA ad S j0 0 (by first | assumption | omega | decide)) (cwV 2 hts (lw_V q1686 q1688 qs32 q71 q1689) rfl rfl rfl (by decide +kernel) ⟨Nat.le_of_ble_eq_true rfl, Nat.le_of_ble_eq_true rfl⟩) (mPreV hK hM) rfl rfl hl.1 rfl (lv_room (Nat.le_of_ble_eq_true rfl)) dX3_shop_23 ⟨Nat.le_of_ble_eq_true rfl, Nat.le_of_ble_eq_true rfl⟩) (fun r_3 hr_3 => ?_)
      subst hr_3
      rw [show S 0 (16 + 6 * j0 + 0) = (S 0 (16 + 6 * j0)) from (show S 0 (16 + 6 * j0) = (S 0 (16 + 6 * j0)) from rfl)]
      refine lv_istore_n (lv' := [(3, .int (S 0 (16 + 6 * j0))), (0, .ref (ad 7)), (1, .int (nI j0)), (2, .int w0)]) hx hb dX3_shop_26 rfl hl (by decide) rfl (fun ls hl => ?_)
      refine lv_iconst (v := 0) hx hb dX3_shop_27 (by decide) ?_
      refine lv_istore (lv' := [(4, .int (0 : Int32)), (3, .int (S 0 (16 + 6 * j0))), (0, .ref (ad 7)), (1, .int (nI j0)), (2, .int w0)]) hx hb dX3_shop_28 hl (by decide) rfl (fun ls hl => ?_)
      refine lv_iconst (v := 0) hx hb dX3_shop_30 (by decide) ?_
      refine lv_istore (lv' := [(5, .int (0 : Int32)), (4, .int (0 : Int32)), (3, .int (S 0 (16 + 6 * j0))), (0, .ref (ad 7)), (1, .int (nI j0)), (2, .int w0)]) hx hb dX3_shop_31 hl (by decide) rfl (fun ls hl => ?_)
      refine lv_iconst (v := 0) hx hb dX3_shop_33 (by decide) ?_
      refine lv_istore (lv' := [(6, .int (0 : Int32)), (5, .int (0 : Int32)), (4, .int (0 : Int32)), (3, .int (S 0 (16 + 6 * j0))), (0, .ref (ad 7)), (1, .int (nI j0)), (2, .int w0)]) hx hb dX3_shop_34 hl (by decide) rfl (fun ls hl => ?_)
      have cut_36 : ∀ (N : Nat) (k : Nat) (x3 x4 x5 : Int32) (hk : k ≤ np) (em1 : (tk_shr (S 0) np (S 0 (16 + 6 * j0)) k).1 = x4) (em2 : (tk_shr (S 0) np (S 0 (16 + 6 * j0)) k).2.1 = x3) (em3 : (tk_shr (S 0) np (S 0 (16 + 6 * j0)) k).2.2 = x5) (hN : np - k < N) , ∀ (ls : Array Slot) (hl : lv_has ls 9 [(6, .int (nI k)), (3, .int x3), (4, .int x4), (5, .int x5), (0, .ref (ad 7)), (1, .int (nI j0)), (2, .int w0)]), W p l e (headSpec (ws_ yX3_shop cX3_shop 9 (some .int)) (rmL 3 0 0)).room s m ([.ref (ad 7), .int (nI j0), .int w0] : List Value).toArray below meth c s.heap [] 0 0 (MQ below (vp_Si (fun r => r = tk_shopq (S 0) (nI j0) w0)) ([.ref (ad 7), .int (nI j0), .int w0] : List Value).toArray s 0 0 (fun _ => False)) (F0 m 36 ls []) := by
        intro N
        induction N with
        | zero => intro k x3 x4 x5 hk em1 em2 em3 hN; exact absurd hN (Nat.not_lt_zero _)
        | succ N ih_36 =>
          intro k x3 x4 x5 hk em1 em2 em3 hN  ls hl
          refine lv_iload hx hb dX3_shop_36 (lv_at hl 0 rfl) ?_
          refine lv_aload_n hx hb dX3_shop_38 rfl (lv_at hl 4 rfl) ?_
          refine m_get hx hb hts in_X3 hown hK hM 0 (by decide) (hts _ q1571) rfl dX3_shop_39 ?_
          refine lv_bipush (v := 15) hx hb dX3_shop_42 (by decide) ?_
          refine m_iald hx hb hK hM 0 1 rfl 15 rfl (by omega) (v := (S 0 15)) rfl dX3_shop_44 (by decide) ?_
          refine lv_icmp_ge (tgt := 146) hx hb dX3_shop_45 (by decide) (fun c45_b_4 => ?_) (fun c45_b_4 => ?_)
          · skip
            have c45_b_4 := Int32.not_lt.mpr c45_b_4
            have nc45_b_4 := nltF (a := k) (b := np) rfl enp (by omega) (by omega) c45_b_4
            obtain rfl : np = k := by omega
            refine lv_iload_n hx hb dX3_shop_146 rfl (lv_at hl 6 rfl) ?_
            refine lv_if_ne (tgt := 155) hx hb dX3_shop_147 (by decide) (fun c147_b_5 => ?_) (fun c147_b_5 => ?_)
            · skip
              refine lv_iload_n hx hb dX3_shop_155 rfl (lv_at hl 6 rfl) ?_
              refine lv_iconst (v := 1) hx hb dX3_shop_156 (by decide) ?_
              refine lv_icmp_ne (tgt := 164) hx hb dX3_shop_157 (by decide) (fun c157_b_6 => ?_) (fun c157_b_6 => ?_)
              · skip
                refine lv_iload hx hb dX3_shop_164 (lv_at hl 3 rfl) ?_
                exact W.iret hx hb hr (fun t ht hW => ⟨_, rfl, (by simp [tk_shopq, tk_pick, ti1, hr_1, nnj0, hr_2, c45_b_4, c147_b_5, c157_b_6, ennp, em1, em2, em3]), ht⟩) (fun _ h => absurd h List.not_mem_nil) dX3_shop_166
              · skip
                refine lv_iload_n hx hb dX3_shop_160 rfl (lv_at hl 1 rfl) ?_
                refine lv_goto (tgt := 166) hx hb dX3_shop_161 (by decide) ?_
                exact W.iret hx hb hr (fun t ht hW => ⟨_, rfl, (by simp [tk_shopq, tk_pick, ti1, hr_1, nnj0, hr_2, c45_b_4, c147_b_5, c157_b_6, ennp, em1, em2, em3]), ht⟩) (fun _ h => absurd h List.not_mem_nil) dX3_shop_166
            · skip
              refine lv_iload hx hb dX3_shop_150 (lv_at hl 2 rfl) ?_
              refine lv_goto (tgt := 166) hx hb dX3_shop_152 (by decide) ?_
              exact W.iret hx hb hr (fun t ht hW => ⟨_, rfl, (by simp [tk_shopq, tk_pick, ti1, hr_1, nnj0, hr_2, c45_b_4, c147_b_5, ennp, em1, em2, em3]), ht⟩) (fun _ h => absurd h List.not_mem_nil) dX3_shop_166
          · skip
            have c45_b_4 := Int32.not_le.mp c45_b_4
            have nc45_b_4 := nltT (a := k) (b := np) rfl enp (by omega) (by omega) c45_b_4
            have hex := tk_ex (d := S 0) np k (by omega)
            refine lv_iconst (v := 0) hx hb dX3_shop_48 (by decide) ?_
            refine lv_istore (lv' := [(7, .int (0 : Int32)), (6, .int (nI k)), (3, .int x3), (4, .int x4), (5, .int x5), (0, .ref (ad 7)), (1, .int (nI j0)), (2, .int w0)]) hx hb dX3_shop_49 hl (by decide) rfl (fun ls hl => ?_)
            have cut_51 : ∀ (N : Nat) (p1 : Nat) (hac : tk_nth (S 0) np k np 0 = tk_nth (S 0) np k (np - p1) p1) (hq : ∃ q, p1 ≤ q ∧ q < np ∧ tk_ah (S 0) q np = k) (hp1 : p1 < np) (hN : np - p1 < N) , ∀ (ls : Array Slot) (hl : lv_has ls 9 [(7, .int (nI p1)), (6, .int (nI k)), (3, .int x3), (4, .int x4), (5, .int x5), (0, .ref (ad 7)), (1, .int (nI j0)), (2, .int w0)]), W p l e (headSpec (ws_ yX3_shop cX3_shop 9 (some .int)) (rmL 3 0 0)).room s m ([.ref (ad 7), .int (nI j0), .int w0] : List Value).toArray below meth c s.heap [] 0 0 (MQ below (vp_Si (fun r => r = tk_shopq (S 0) (nI j0) w0)) ([.ref (ad 7), .int (nI j0), .int w0] : List Value).toArray s 0 0 (fun _ => False)) (F0 m 51 ls []) := by
              intro N
              induction N with
              | zero => intro p1 hac hq hp1 hN; exact absurd hN (Nat.not_lt_zero _)
              | succ N ih_51 =>
                intro p1 hac hq hp1 hN  ls hl
                refine lv_aload_n hx hb dX3_shop_51 rfl (lv_at hl 5 rfl) ?_
                refine lv_iload hx hb dX3_shop_52 (lv_at hl 0 rfl) ?_
                refine vp_callSi (W.runV (As := [.int (nI p1)]) (rest := []) ⟨hx, hb, hml, hown, hts⟩ (met_X3_ahead l D cA ad S p1 hI (by omega)) (cwV 1 hts (lw_V q1916 q1918 qs58 q71 q1919) rfl rfl rfl (by decide +kernel) ⟨Nat.le_of_ble_eq_true rfl, Nat.le_of_ble_eq_true rfl⟩) (mPreV hK hM) rfl rfl hl.1 rfl (lv_room (Nat.le_of_ble_eq_true rfl)) dX3_shop_54 ⟨Nat.le_of_ble_eq_true rfl, Nat.le_of_ble_eq_true rfl⟩) (fun r_7 hr_7 => ?_)
                subst hr_7
                rw [ennp]
                have haple := tk_ah_le (d := S 0) (p := p1) np
                refine lv_iload hx hb dX3_shop_57 (lv_at hl 1 rfl) ?_
                refine lv_icmp_eq (tgt := 68) hx hb dX3_shop_59 (by decide) (fun c59_b_8 => ?_) (fun c59_b_8 => ?_)
                · skip
                  have nc59_b_8 := neqT (a := (tk_ah (S 0) p1 np)) (b := k) rfl rfl (by omega) (by omega) c59_b_8
                  have hnt : tk_nth (S 0) np k np 0 = p1 := by rw [hac]; exact tk_nthY (by omega) nc59_b_8
                  have hm := ok_mark hI (p := p1) (by omega)
                  refine lv_iload_n hx hb dX3_shop_68 rfl (lv_at hl 2 rfl) ?_
                  refine lv_aload_n hx hb dX3_shop_69 rfl (lv_at hl 5 rfl) ?_
                  refine lv_iload hx hb dX3_shop_70 (lv_at hl 0 rfl) ?_
                  refine lv_iconst (v := 0) hx hb dX3_shop_72 (by decide) ?_
                  refine vp_callSi (W.runV (As := [.int (nI p1), .int (nI 0)]) (rest := [.int x3]) ⟨hx, hb, hml, hown, hts⟩ (met_X3_priced l D cA ad S p1 0 (by first | assumption | omega | decide)) (cwV 2 hts (lw_V q1752 q1754 qs42 q71 q1755) rfl rfl rfl (by decide +kernel) ⟨Nat.le_of_ble_eq_true rfl, Nat.le_of_ble_eq_true rfl⟩) (mPreV hK hM) rfl rfl hl.1 rfl (lv_room (Nat.le_of_ble_eq_true rfl)) dX3_shop_73 ⟨Nat.le_of_ble_eq_true rfl, Nat.le_of_ble_eq_true rfl⟩) (fun r_9 hr_9 => ?_)
                  subst hr_9
                  rw [show S 0 (52 + 7 * p1 + 0) = (S 0 (52 + 7 * p1)) from (show S 0 (52 + 7 * p1) = (S 0 (52 + 7 * p1)) from rfl)]
                  refine lv_idiv hx hb dX3_shop_76 hm.2.2 ?_
                  refine lv_istore (lv' := [(8, .int (x3 / (S 0 (52 + 7 * p1)))), (7, .int (nI p1)), (6, .int (nI k)), (3, .int x3), (4, .int x4), (5, .int x5), (0, .ref (ad 7)), (1, .int (nI j0)), (2, .int w0)]) hx hb dX3_shop_77 hl (by decide) rfl (fun ls hl => ?_)
                  refine lv_iload hx hb dX3_shop_79 (lv_at hl 0 rfl) ?_
                  refine lv_aload_n hx hb dX3_shop_81 rfl (lv_at hl 6 rfl) ?_
                  refine lv_iload hx hb dX3_shop_82 (lv_at hl 1 rfl) ?_
                  refine lv_iconst (v := 2) hx hb dX3_shop_84 (by decide) ?_
                  refine vp_callSi (W.runV (As := [.int (nI p1), .int (nI 2)]) (rest := [.int (x3 / (S 0 (52 + 7 * p1)))]) ⟨hx, hb, hml, hown, hts⟩ (met_X3_priced l D cA ad S p1 2 (by first | assumption | omega | decide)) (cwV 2 hts (lw_V q1752 q1754 qs42 q71 q1755) rfl rfl rfl (by decide +kernel) ⟨Nat.le_of_ble_eq_true rfl, Nat.le_of_ble_eq_true rfl⟩) (mPreV hK hM) rfl rfl hl.1 rfl (lv_room (Nat.le_of_ble_eq_true rfl)) dX3_shop_85 ⟨Nat.le_of_ble_eq_true rfl, Nat.le_of_ble_eq_true rfl⟩) (fun r_10 hr_10 => ?_)
                  subst hr_10
                  refine lv_icmp_le (tgt := 101) hx hb dX3_shop_88 (by decide) (fun c88_b_11 => ?_) (fun c88_b_11 => ?_)
                  · skip
                    have c88_b_11 := Int32.not_lt.mpr c88_b_11
                    refine lv_iload hx hb dX3_shop_101 (lv_at hl 0 rfl) ?_
                    refine lv_istore (lv' := [(8, .int (x3 / (S 0 (52 + 7 * p1)))), (7, .int (nI p1)), (6, .int (nI k)), (3, .int x3), (4, .int x4), (5, .int x5), (0, .ref (ad 7)), (1, .int (nI j0)), (2, .int w0)]) hx hb dX3_shop_103 hl (by decide) rfl (fun ls hl => ?_)
                    refine lv_iload_n hx hb dX3_shop_105 rfl (lv_at hl 3 rfl) ?_
                    refine lv_iload hx hb dX3_shop_106 (lv_at hl 0 rfl) ?_
                    refine lv_aload_n hx hb dX3_shop_108 rfl (lv_at hl 6 rfl) ?_
                    refine lv_iload hx hb dX3_shop_109 (lv_at hl 1 rfl) ?_
                    refine lv_iconst (v := 0) hx hb dX3_shop_111 (by decide) ?_
                    refine vp_callSi (W.runV (As := [.int (nI p1), .int (nI 0)]) (rest := [.int (x3 / (S 0 (52 + 7 * p1))), .int x3]) ⟨hx, hb, hml, hown, hts⟩ (met_X3_priced l D cA ad S p1 0 (by first | assumption | omega | decide)) (cwV 2 hts (lw_V q1752 q1754 qs42 q71 q1755) rfl rfl rfl (by decide +kernel) ⟨Nat.le_of_ble_eq_true rfl, Nat.le_of_ble_eq_true rfl⟩) (mPreV hK hM) rfl rfl hl.1 rfl (lv_room (Nat.le_of_ble_eq_true rfl)) dX3_shop_112 ⟨Nat.le_of_ble_eq_true rfl, Nat.le_of_ble_eq_true rfl⟩) (fun r_12 hr_12 => ?_)
                    subst hr_12
                    rw [show S 0 (52 + 7 * p1 + 0) = (S 0 (52 + 7 * p1)) from (show S 0 (52 + 7 * p1) = (S 0 (52 + 7 * p1)) from rfl)]
                    refine lv_imul hx hb dX3_shop_115 ?_
                    refine lv_isub hx hb dX3_shop_116 ?_
                    refine lv_istore_n (lv' := [(3, .int (x3 - ((x3 / (S 0 (52 + 7 * p1))) * (S 0 (52 + 7 * p1))))), (8, .int (x3 / (S 0 (52 + 7 * p1)))), (7, .int (nI p1)), (6, .int (nI k)), (4, .int x4), (5, .int x5), (0, .ref (ad 7)), (1, .int (nI j0)), (2, .int w0)]) hx hb dX3_shop_117 rfl hl (by decide) rfl (fun ls hl => ?_)
                    refine lv_iload hx hb dX3_shop_118 (lv_at hl 4 rfl) ?_
                    refine lv_iload hx hb dX3_shop_120 (lv_at hl 1 rfl) ?_
                    refine lv_iadd hx hb dX3_shop_122 ?_
                    refine lv_istore (lv' := [(4, .int (x4 + (x3 / (S 0 (52 + 7 * p1))))), (3, .int (x3 - ((x3 / (S 0 (52 + 7 * p1))) * (S 0 (52 + 7 * p1))))), (8, .int (x3 / (S 0 (52 + 7 * p1)))), (7, .int (nI p1)), (6, .int (nI k)), (5, .int x5), (0, .ref (ad 7)), (1, .int (nI j0)), (2, .int w0)]) hx hb dX3_shop_123 hl (by decide) rfl (fun ls hl => ?_)
                    refine lv_iload hx hb dX3_shop_125 (lv_at hl 5 rfl) ?_
                    refine lv_iload hx hb dX3_shop_127 (lv_at hl 2 rfl) ?_
                    refine lv_aload_n hx hb dX3_shop_129 rfl (lv_at hl 6 rfl) ?_
                    refine lv_iload hx hb dX3_shop_130 (lv_at hl 3 rfl) ?_
                    refine lv_iconst (v := 1) hx hb dX3_shop_132 (by decide) ?_
                    refine vp_callSi (W.runV (As := [.int (nI p1), .int (nI 1)]) (rest := [.int (x3 / (S 0 (52 + 7 * p1))), .int x5]) ⟨hx, hb, hml, hown, hts⟩ (met_X3_priced l D cA ad S p1 1 (by first | assumption | omega | decide)) (cwV 2 hts (lw_V q1752 q1754 qs42 q71 q1755) rfl rfl rfl (by decide +kernel) ⟨Nat.le_of_ble_eq_true rfl, Nat.le_of_ble_eq_true rfl⟩) (mPreV hK hM) rfl rfl hl.1 rfl (lv_room (Nat.le_of_ble_eq_true rfl)) dX3_shop_133 ⟨Nat.le_of_ble_eq_true rfl, Nat.le_of_ble_eq_true rfl⟩) (fun r_13 hr_13 => ?_)
                    subst hr_13
                    refine lv_imul hx hb dX3_shop_136 ?_
                    refine lv_iadd hx hb dX3_shop_137 ?_
                    refine lv_istore (lv' := [(5, .int (x5 + ((x3 / (S 0 (52 + 7 * p1))) * (S 0 (52 + 7 * p1 + 1))))), (4, .int (x4 + (x3 / (S 0 (52 + 7 * p1))))), (3, .int (x3 - ((x3 / (S 0 (52 + 7 * p1))) * (S 0 (52 + 7 * p1))))), (8, .int (x3 / (S 0 (52 + 7 * p1)))), (7, .int (nI p1)), (6, .int (nI k)), (0, .ref (ad 7)), (1, .int (nI j0)), (2, .int w0)]) hx hb dX3_shop_138 hl (by decide) rfl (fun ls hl => ?_)
                    refine lv_iinc (v := (nI (k + 1))) (lv' := [(6, .int (nI (k + 1))), (5, .int (x5 + ((x3 / (S 0 (52 + 7 * p1))) * (S 0 (52 + 7 * p1 + 1))))), (4, .int (x4 + (x3 / (S 0 (52 + 7 * p1))))), (3, .int (x3 - ((x3 / (S 0 (52 + 7 * p1))) * (S 0 (52 + 7 * p1))))), (8, .int (x3 / (S 0 (52 + 7 * p1)))), (7, .int (nI p1)), (0, .ref (ad 7)), (1, .int (nI j0)), (2, .int w0)]) hx hb dX3_shop_140 hl (k := 5) rfl (ixA rfl rfl) (by decide) rfl (fun ls hl => ?_)
                    refine lv_goto (tgt := 36) hx hb dX3_shop_143 (by decide) ?_
                    exact ih_36 (k + 1) _ _ _ (by omega) (by simp [tk_shr, tk_sh1, hnt, em1, em2, em3, c88_b_11]) (by simp [tk_shr, tk_sh1, hnt, em1, em2, em3, c88_b_11]) (by simp [tk_shr, tk_sh1, hnt, em1, em2, em3, c88_b_11]) (by omega)  ls (lv_sub hl [0, 3, 2, 1, 6, 7, 8] rfl)
                  · skip
                    have c88_b_11 := Int32.not_le.mp c88_b_11
                    refine lv_aload_n hx hb dX3_shop_91 rfl (lv_at hl 6 rfl) ?_
                    refine lv_iload hx hb dX3_shop_92 (lv_at hl 1 rfl) ?_
                    refine lv_iconst (v := 2) hx hb dX3_shop_94 (by decide) ?_
                    refine vp_callSi (W.runV (As := [.int (nI p1), .int (nI 2)]) (rest := []) ⟨hx, hb, hml, hown, hts⟩ (met_X3_priced l D cA ad S p1 2 (by first | assumption | omega | decide)) (cwV 2 hts (lw_V q1752 q1754 qs42 q71 q1755) rfl rfl rfl (by decide +kernel) ⟨Nat.le_of_ble_eq_true rfl, Nat.le_of_ble_eq_true rfl⟩) (mPreV hK hM) rfl rfl hl.1 rfl (lv_room (Nat.le_of_ble_eq_true rfl)) dX3_shop_95 ⟨Nat.le_of_ble_eq_true rfl, Nat.le_of_ble_eq_true rfl⟩) (fun r_14 hr_14 => ?_)
                    subst hr_14
                    refine lv_goto (tgt := 103) hx hb dX3_shop_98 (by decide) ?_
                    refine lv_istore (lv' := [(8, .int (S 0 (52 + 7 * p1 + 2))), (7, .int (nI p1)), (6, .int (nI k)), (3, .int x3), (4, .int x4), (5, .int x5), (0, .ref (ad 7)), (1, .int (nI j0)), (2, .int w0)]) hx hb dX3_shop_103 hl (by decide) rfl (fun ls hl => ?_)
                    refine lv_iload_n hx hb dX3_shop_105 rfl (lv_at hl 3 rfl) ?_
                    refine lv_iload hx hb dX3_shop_106 (lv_at hl 0 rfl) ?_
                    refine lv_aload_n hx hb dX3_shop_108 rfl (lv_at hl 6 rfl) ?_
                    refine lv_iload hx hb dX3_shop_109 (lv_at hl 1 rfl) ?_
                    refine lv_iconst (v := 0) hx hb dX3_shop_111 (by decide) ?_
                    refine vp_callSi (W.runV (As := [.int (nI p1), .int (nI 0)]) (rest := [.int (S 0 (52 + 7 * p1 + 2)), .int x3]) ⟨hx, hb, hml, hown, hts⟩ (met_X3_priced l D cA ad S p1 0 (by first | assumption | omega | decide)) (cwV 2 hts (lw_V q1752 q1754 qs42 q71 q1755) rfl rfl rfl (by decide +kernel) ⟨Nat.le_of_ble_eq_true rfl, Nat.le_of_ble_eq_true rfl⟩) (mPreV hK hM) rfl rfl hl.1 rfl (lv_room (Nat.le_of_ble_eq_true rfl)) dX3_shop_112 ⟨Nat.le_of_ble_eq_true rfl, Nat.le_of_ble_eq_true rfl⟩) (fun r_15 hr_15 => ?_)
                    subst hr_15
                    rw [show S 0 (52 + 7 * p1 + 0) = (S 0 (52 + 7 * p1)) from (show S 0 (52 + 7 * p1) = (S 0 (52 + 7 * p1)) from rfl)]
                    refine lv_imul hx hb dX3_shop_115 ?_
                    refine lv_isub hx hb dX3_shop_116 ?_
                    refine lv_istore_n (lv' := [(3, .int (x3 - ((S 0 (52 + 7 * p1 + 2)) * (S 0 (52 + 7 * p1))))), (8, .int (S 0 (52 + 7 * p1 + 2))), (7, .int (nI p1)), (6, .int (nI k)), (4, .int x4), (5, .int x5), (0, .ref (ad 7)), (1, .int (nI j0)), (2, .int w0)]) hx hb dX3_shop_117 rfl hl (by decide) rfl (fun ls hl => ?_)
                    refine lv_iload hx hb dX3_shop_118 (lv_at hl 4 rfl) ?_
                    refine lv_iload hx hb dX3_shop_120 (lv_at hl 1 rfl) ?_
                    refine lv_iadd hx hb dX3_shop_122 ?_
                    refine lv_istore (lv' := [(4, .int (x4 + (S 0 (52 + 7 * p1 + 2)))), (3, .int (x3 - ((S 0 (52 + 7 * p1 + 2)) * (S 0 (52 + 7 * p1))))), (8, .int (S 0 (52 + 7 * p1 + 2))), (7, .int (nI p1)), (6, .int (nI k)), (5, .int x5), (0, .ref (ad 7)), (1, .int (nI j0)), (2, .int w0)]) hx hb dX3_shop_123 hl (by decide) rfl (fun ls hl => ?_)
                    refine lv_iload hx hb dX3_shop_125 (lv_at hl 5 rfl) ?_
                    refine lv_iload hx hb dX3_shop_127 (lv_at hl 2 rfl) ?_
                    refine lv_aload_n hx hb dX3_shop_129 rfl (lv_at hl 6 rfl) ?_
                    refine lv_iload hx hb dX3_shop_130 (lv_at hl 3 rfl) ?_
                    refine lv_iconst (v := 1) hx hb dX3_shop_132 (by decide) ?_
                    refine vp_callSi (W.runV (As := [.int (nI p1), .int (nI 1)]) (rest := [.int (S 0 (52 + 7 * p1 + 2)), .int x5]) ⟨hx, hb, hml, hown, hts⟩ (met_X3_priced l D cA ad S p1 1 (by first | assumption | omega | decide)) (cwV 2 hts (lw_V q1752 q1754 qs42 q71 q1755) rfl rfl rfl (by decide +kernel) ⟨Nat.le_of_ble_eq_true rfl, Nat.le_of_ble_eq_true rfl⟩) (mPreV hK hM) rfl rfl hl.1 rfl (lv_room (Nat.le_of_ble_eq_true rfl)) dX3_shop_133 ⟨Nat.le_of_ble_eq_true rfl, Nat.le_of_ble_eq_true rfl⟩) (fun r_16 hr_16 => ?_)
                    subst hr_16
                    refine lv_imul hx hb dX3_shop_136 ?_
                    refine lv_iadd hx hb dX3_shop_137 ?_
                    refine lv_istore (lv' := [(5, .int (x5 + ((S 0 (52 + 7 * p1 + 2)) * (S 0 (52 + 7 * p1 + 1))))), (4, .int (x4 + (S 0 (52 + 7 * p1 + 2)))), (3, .int (x3 - ((S 0 (52 + 7 * p1 + 2)) * (S 0 (52 + 7 * p1))))), (8, .int (S 0 (52 + 7 * p1 + 2))), (7, .int (nI p1)), (6, .int (nI k)), (0, .ref (ad 7)), (1, .int (nI j0)), (2, .int w0)]) hx hb dX3_shop_138 hl (by decide) rfl (fun ls hl => ?_)
                    refine lv_iinc (v := (nI (k + 1))) (lv' := [(6, .int (nI (k + 1))), (5, .int (x5 + ((S 0 (52 + 7 * p1 + 2)) * (S 0 (52 + 7 * p1 + 1))))), (4, .int (x4 + (S 0 (52 + 7 * p1 + 2)))), (3, .int (x3 - ((S 0 (52 + 7 * p1 + 2)) * (S 0 (52 + 7 * p1))))), (8, .int (S 0 (52 + 7 * p1 + 2))), (7, .int (nI p1)), (0, .ref (ad 7)), (1, .int (nI j0)), (2, .int w0)]) hx hb dX3_shop_140 hl (k := 5) rfl (ixA rfl rfl) (by decide) rfl (fun ls hl => ?_)
                    refine lv_goto (tgt := 36) hx hb dX3_shop_143 (by decide) ?_
                    exact ih_36 (k + 1) _ _ _ (by omega) (by simp [tk_shr, tk_sh1, hnt, em1, em2, em3, c88_b_11]) (by simp [tk_shr, tk_sh1, hnt, em1, em2, em3, c88_b_11]) (by simp [tk_shr, tk_sh1, hnt, em1, em2, em3, c88_b_11]) (by omega)  ls (lv_sub hl [0, 3, 2, 1, 6, 7, 8] rfl)
                · skip
                  have nc59_b_8 := neqF (a := (tk_ah (S 0) p1 np)) (b := k) rfl rfl (by omega) (by omega) c59_b_8
                  refine lv_iinc (v := (nI (p1 + 1))) (lv' := [(7, .int (nI (p1 + 1))), (6, .int (nI k)), (3, .int x3), (4, .int x4), (5, .int x5), (0, .ref (ad 7)), (1, .int (nI j0)), (2, .int w0)]) hx hb dX3_shop_62 hl (k := 0) rfl (ixA rfl rfl) (by decide) rfl (fun ls hl => ?_)
                  refine lv_goto (tgt := 51) hx hb dX3_shop_65 (by decide) ?_
                  exact ih_51 (p1 + 1) (by rw [hac]; exact tk_nthN hp1 nc59_b_8) (tk_nx hq nc59_b_8).1 (tk_nx hq nc59_b_8).2 (by omega)  ls (lv_sub hl [0, 1, 2, 3, 4, 5, 6, 7] rfl)
            exact cut_51 _ 0 rfl (by obtain ⟨q, a, b⟩ := hex; exact ⟨q, Nat.zero_le _, a, b⟩) (by omega) (Nat.lt_succ_self _)  ls (lv_sub hl [0, 1, 2, 3, 4, 5, 6, 7] rfl)
      exact cut_36 _ 0 _ _ _ (by omega) rfl rfl rfl (Nat.lt_succ_self _)  ls (lv_sub hl [0, 3, 2, 1, 4, 5, 6] rfl)
    · subst er_hr_2
      refine lv_if_ne (tgt := 20) hx hb dX3_shop_14 (by decide) (fun c_ => absurd (by decide) c_) (fun _ => ?_)
      refine lv_ldc (v := -100001) hx hb hown (hts _ q1636) dX3_shop_17 ?_
      exact W.iret hx hb hr (fun t ht hW => ⟨_, rfl, (by simp [tk_shopq, hr_1, nnj0, hr_2]), ht⟩) (fun _ h => absurd h List.not_mem_nil) dX3_shop_19
  · subst er_hr_1
    refine lv_if_eq (tgt := 17) hx hb dX3_shop_5 (by decide) (fun _ => ?_) (fun c_ => absurd (by decide) c_)
    refine lv_ldc (v := -100001) hx hb hown (hts _ q1636) dX3_shop_17 ?_
    exact W.iret hx hb hr (fun t ht hW => ⟨_, rfl, (by simp [tk_shopq, hr_1]), ht⟩) (fun _ h => absurd h List.not_mem_nil) dX3_shop_19
