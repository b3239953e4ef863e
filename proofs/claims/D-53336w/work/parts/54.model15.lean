set_option maxHeartbeats 4000000 in
set_option maxRecDepth 100000 in
theorem met_X3_run (l : Launch) {B : Nat} (D : va_G) (cA : Nat → ClassId) (ad : Nat → Nat) (S : Nat → Nat → Int32) (n0 : Nat) (L0 : Nat) (hI : tk_ok B (S 0)) (hn : n0 ≤ 5) (hns : S 7 0 = nI n0) (hL : L0 ≤ 140) (e_L0 : S 7 1 = nI L0) (hB0 : 9999 ≤ B) (hB : B + 60000 * L0 ≤ 900000000) : Met l yX3_run (ws_ yX3_run cX3_run 5 (some .int)) (rmL 7 0 0) (mPre D cA ad S []) (va_Qi (fun (r : Int32) (S' : Nat → Nat → Int32) => tk_ro S S' L0 n0 r) (mEnd D cA ad) (mA ad)) 0 0 (mA ad) := by
  refine Met.ofW (cc := cX3_run) (maxL := 5) (ret := (some .int)) (by decide) rfl ?_
  intro p e s m args below meth c s₁ Bd hml hv
  obtain ⟨rfl, hP, hK, hD⟩ := hv
  have hx := Bd.exec
  have hb := Bd.bytes
  have hr := Bd.returns
  have hts := atoms_spec (ws := (ws_ yX3_run cX3_run 5 (some .int))) Bd.pre
  have hts : ∀ w ∈ lw_all, w.before _ s = true := fun w h => hts w (List.mem_cons_of_mem _ h)
  have hown : s.vm.findClass RX3 = some m.cls := findClass_of_methodNamed Bd.named
  have hlocks := Bd.notSynchronized
  have hM : mSt D cA ad (mA ad) s.heap s.heap [] S := ⟨hP, hD, va_S.rf⟩
  have hl := lv_entry ([.ref (ad 7)]) (n := 5) (Nat.le_of_ble_eq_true rfl)
  rw [lg_entry_eq]
  generalize (lg_sl ([.ref (ad 7)]) ++ List.replicate (5 - (lg_sl ([.ref (ad 7)])).length) Slot.unset).toArray = ls at hl ⊢
  have hl : lv_has ls 5 [(0, .ref (ad 7))] := hl
  refine lv_iconst (v := 0) hx hb dX3_run_0 (by decide) ?_
  refine lv_istore_n (lv' := [(1, .int (0 : Int32)), (0, .ref (ad 7))]) hx hb dX3_run_1 rfl hl (by decide) rfl (fun ls hl => ?_)
  have cut_2 : ∀ (N : Nat) (k : Nat) (hk : k ≤ 284) (hN : 284 - k < N) (H : Heap) (locs : List Loc) (Sc2 : Nat → Nat → Int32) (eSc2 : Sc2 = su S 2 (tk_cp (S 0) (S 2) k)) (hM : mSt D cA ad (mA ad) s.heap H locs Sc2), ∀ (ls : Array Slot) (hl : lv_has ls 5 [(1, .int (nI k)), (0, .ref (ad 7))]), W p l e (headSpec (ws_ yX3_run cX3_run 5 (some .int)) (rmL 7 0 0)).room s m ([.ref (ad 7)] : List Value).toArray below meth c H locs 0 0 (MQ below (va_Qi (fun (r : Int32) (S' : Nat → Nat → Int32) => tk_ro S S' L0 n0 r) (mEnd D cA ad) (mA ad)) ([.ref (ad 7)] : List Value).toArray s 0 0 (mA ad)) (F0 m 2 ls []) := by
    intro N
    induction N with
    | zero => intro k hk hN; exact absurd hN (Nat.not_lt_zero _)
    | succ N ih_2 =>
      intro k hk hN H locs Sc2 eSc2 hM ls hl
      refine lv_iload_n hx hb dX3_run_2 rfl (lv_at hl 0 rfl) ?_
      refine lv_sipush (v := 284) hx hb dX3_run_3 (by decide) ?_
      refine lv_icmp_ge (tgt := 27) hx hb dX3_run_6 (by decide) (fun c6_b_1 => ?_) (fun c6_b_1 => ?_)
      · skip
        have c6_b_1 := Int32.not_lt.mpr c6_b_1
        have nc6_b_1 := nltF (a := k) (b := 284) rfl rfl (by omega) (by omega) c6_b_1
        obtain rfl : k = 284 := by omega
        refine lv_iconst (v := 0) hx hb dX3_run_27 (by decide) ?_
        refine lv_istore_n (lv' := [(1, .int (0 : Int32)), (0, .ref (ad 7))]) hx hb dX3_run_28 rfl hl (by decide) rfl (fun ls hl => ?_)
        refine lv_aload_n hx hb dX3_run_29 rfl (lv_at hl 1 rfl) ?_
        refine lv_iconst (v := 0) hx hb dX3_run_30 (by decide) ?_
        refine m_put hx hb hts in_X3 hown hK hM 10 4 (by decide) (hts _ q1581) rfl rfl rfl rfl dX3_run_31 (fun H locs S_2 eS_2 hM => ?_)
        refine lv_aload_n hx hb dX3_run_34 rfl (lv_at hl 1 rfl) ?_
        refine va_callv (va_runV (As := []) (rest := []) ⟨hx, hb, hml, hown, hts⟩ (met_X3_reads l D cA ad S_2 L0 0 (by first | assumption | omega | decide) (Eq.trans (show S_2 7 1 = (S 7 1) from (by rw [eS_2, su_s, su_n _ _ (by decide), eSc2, su_n _ _ (by decide)])) e_L0) (by first | assumption | omega | decide) (Eq.trans (show S_2 7 4 = (0 : Int32) from (by rw [eS_2, su_s, su_s])) rfl)) (cwV 0 hts (lw_V q1800 q1802 qs45 q71 q1803) rfl rfl rfl (by decide +kernel) ⟨Nat.le_of_ble_eq_true rfl, Nat.le_of_ble_eq_true rfl⟩) (mPreV hK hM) rfl rfl hl.1 rfl (lv_room (Nat.le_of_ble_eq_true rfl)) dX3_run_35 ⟨Nat.le_of_ble_eq_true rfl, Nat.le_of_ble_eq_true rfl⟩) hM.2.2 (fun _ _ h => h) (fun _ h => h) (fun S_4 t H1 locs ht hvm hr_3 hB hz hk hS => ?_)
        have hM : mSt D cA ad (mA ad) s.heap H1 locs S_4 := ⟨by rw [← ht]; exact hB.1, hB.2, hS⟩
        clear hB ht; generalize H1 = H at hM ⊢; clear hz hk hS
        refine W.widen (k := 0) (n := 0) (Nat.le_refl 0) (Nat.le_refl 0) ?_
        have hr_34 := hr_3; unfold tk_rs at hr_34; rw [show S_2 4 = S 4 from (by rw [eS_2, su_n _ _ (by decide), eSc2, su_n _ _ (by decide)])] at hr_34
        have K0 : tk_rj S S_2 (tk_cp (S 0) (S 2) 284) (S 0) := ⟨(by rw [eS_2, su_n _ _ (by decide), eSc2, su_n _ _ (by decide)]), by rw [eS_2, su_n _ _ (by decide), eSc2, su_s], (by rw [eS_2, su_n _ _ (by decide), eSc2, su_n _ _ (by decide)]), (by rw [eS_2, su_n _ _ (by decide), eSc2, su_n _ _ (by decide)]), (by rw [eS_2, su_n _ _ (by decide), eSc2, su_n _ _ (by decide)]), by rw [eS_2, su_s, su_n _ _ (by decide), eSc2, su_n _ _ (by decide)], by rw [eS_2, su_s, su_n _ _ (by decide), eSc2, su_n _ _ (by decide)], by rw [eS_2, su_s, su_n _ _ (by decide), eSc2, su_n _ _ (by decide)]⟩
        have K1 := rj_rs K0 hr_3
        have cut_38 : ∀ (N : Nat) (dd : Nat → Int32) (p1 Bk f : Nat) (n1 : Int32) (hp1 : p1 ≤ L0) (hok : tk_ok Bk dd) (hB0 : 9999 ≤ Bk) (hBk : Bk + 60000 * (L0 - p1) ≤ 900000000) (hf : L0 - p1 < f) (hac : tk_runR S L0 = tk_run (S 4) L0 f dd p1 n1) (hN : L0 - p1 < N) (H : Heap) (locs : List Loc) (Sc38 : Nat → Nat → Int32) (eSc38 : tk_rj S Sc38 (tk_cp (S 0) (S 2) 284) dd ∧ Sc38 7 3 = nI (tk_ba (S 4) L0 p1) ∧ Sc38 7 4 = nI (tk_to (S 4) L0 p1) ∧ Sc38 7 5 = nI (tk_sr (S 4) L0 p1)) (hM : mSt D cA ad (mA ad) s.heap H locs Sc38), ∀ (ls : Array Slot) (hl : lv_has ls 5 [(1, .int n1), (0, .ref (ad 7))]), W p l e (headSpec (ws_ yX3_run cX3_run 5 (some .int)) (rmL 7 0 0)).room s m ([.ref (ad 7)] : List Value).toArray below meth c H locs 0 0 (MQ below (va_Qi (fun (r : Int32) (S' : Nat → Nat → Int32) => tk_ro S S' L0 n0 r) (mEnd D cA ad) (mA ad)) ([.ref (ad 7)] : List Value).toArray s 0 0 (mA ad)) (F0 m 38 ls []) := by
          intro N
          induction N with
          | zero => intro dd p1 Bk f n1 hp1 hok hB0 hBk hf hac hN; exact absurd hN (Nat.not_lt_zero _)
          | succ N ih_38 =>
            intro dd p1 Bk f n1 hp1 hok hB0 hBk hf hac hN H locs Sc38 eSc38 hM ls hl
            have hbb := tk_ba_b (t := S 4) (L := L0) (p := p1) hp1
            have hbt := tk_to_b (t := S 4) (L := L0) (p := p1) hp1
            refine lv_aload_n hx hb dX3_run_38 rfl (lv_at hl 1 rfl) ?_
            refine m_get hx hb hts in_X3 hown hK hM 11 (by decide) (hts _ q1582) rfl dX3_run_39 ?_
            refine lv_if_eq (tgt := 143) hx hb dX3_run_42 (by decide) (fun c42_b_5 => ?_) (fun c42_b_5 => ?_)
            · skip
              have nc42_b_5 := neqT (a := (tk_sr (S 4) L0 p1)) (b := 0) eSc38.2.2.2 rfl (by omega) (by omega) c42_b_5
              refine lv_aload_n hx hb dX3_run_143 rfl (lv_at hl 1 rfl) ?_
              refine lv_aload_n hx hb dX3_run_144 rfl (lv_at hl 1 rfl) ?_
              refine m_get hx hb hts in_X3 hown hK hM 2 (by decide) (hts _ q1573) rfl dX3_run_145 ?_
              refine va_callv (va_runV (As := [.ref (ad 2)]) (rest := []) ⟨hx, hb, hml, hown, hts⟩ (met_X3_pushes2 l D cA ad Sc38 n0 (by first | assumption | omega | decide) (Eq.trans (by rw [eSc38.1.2.2.2.2.2.1]) hns)) (cwV 1 hts (lw_V q1641 q1643 qs27 q71 q1644) rfl rfl rfl (by decide +kernel) ⟨Nat.le_of_ble_eq_true rfl, Nat.le_of_ble_eq_true rfl⟩) (mPreV hK hM) rfl rfl hl.1 rfl (lv_room (Nat.le_of_ble_eq_true rfl)) dX3_run_148 ⟨Nat.le_of_ble_eq_true rfl, Nat.le_of_ble_eq_true rfl⟩) hM.2.2 (fun _ _ h => h) (fun _ h => h) (fun S_7 t H1 locs ht hvm hr_6 hB hz hk hS => ?_)
              have hM : mSt D cA ad (mA ad) s.heap H1 locs S_7 := ⟨by rw [← ht]; exact hB.1, hB.2, hS⟩
              clear hB ht; generalize H1 = H at hM ⊢; clear hz hk hS
              refine W.widen (k := 0) (n := 0) (Nat.le_refl 0) (Nat.le_refl 0) ?_
              refine lv_aload_n hx hb dX3_run_151 rfl (lv_at hl 1 rfl) ?_
              refine lv_iconst (v := 0) hx hb dX3_run_152 (by decide) ?_
              refine m_put hx hb hts in_X3 hown hK hM 6 1 (by decide) (hts _ q1577) rfl rfl rfl rfl dX3_run_153 (fun H locs S_8 eS_8 hM => ?_)
              refine lv_iload_n hx hb dX3_run_156 rfl (lv_at hl 0 rfl) ?_
              exact W.iret hx hb hr (fun t ht hW => ⟨⟨_, S_8, rfl, (by exact ro_t eSc38.1 (hac.trans (by rw [show f = (f - 1) + 1 by omega]; exact run_0 nc42_b_5)) hr_6 eS_8), by rw [ht]; exact hM.1, hM.2.1⟩, hM.2.2.F ht⟩) hM.2.2.2.2 dX3_run_157
            · skip
              have nc42_b_5 := neqF (a := (tk_sr (S 4) L0 p1)) (b := 0) eSc38.2.2.2 rfl (by omega) (by omega) c42_b_5
              refine lv_aload_n hx hb dX3_run_45 rfl (lv_at hl 1 rfl) ?_
              refine m_get hx hb hts in_X3 hown hK hM 9 (by decide) (hts _ q1580) rfl dX3_run_46 ?_
              refine lv_istore_n (lv' := [(2, .int (Sc38 7 3)), (1, .int n1), (0, .ref (ad 7))]) hx hb dX3_run_49 rfl hl (by decide) rfl (fun ls hl => ?_)
              have cut_66 : ∀   (H : Heap) (locs : List Loc) (Sc66 : Nat → Nat → Int32) (eSc66 : Sc66 = Sc38) (hM : mSt D cA ad (mA ad) s.heap H locs Sc66), ∀ (ls : Array Slot) (hl : lv_has ls 5 [(2, .int (Sc38 7 3)), (1, .int n1), (0, .ref (ad 7))]), W p l e (headSpec (ws_ yX3_run cX3_run 5 (some .int)) (rmL 7 0 0)).room s m ([.ref (ad 7)] : List Value).toArray below meth c H locs 0 0 (MQ below (va_Qi (fun (r : Int32) (S' : Nat → Nat → Int32) => tk_ro S S' L0 n0 r) (mEnd D cA ad) (mA ad)) ([.ref (ad 7)] : List Value).toArray s 0 0 (mA ad)) (F0 m 66 ls [.int (tk_wordP (S 4) L0 p1)]) := by
                intro   H locs Sc66 eSc66 hM ls hl
                have K66 : tk_rj S Sc66 (tk_cp (S 0) (S 2) 284) dd := by rw [eSc66]; exact eSc38.1
                refine lv_istore_n (lv' := [(3, .int (tk_wordP (S 4) L0 p1)), (2, .int (Sc38 7 3)), (1, .int n1), (0, .ref (ad 7))]) hx hb dX3_run_66 rfl hl (by decide) rfl (fun ls hl => ?_)
                refine lv_iload_n hx hb dX3_run_67 rfl (lv_at hl 0 rfl) ?_
                refine vp_callSi (W.runS (As := [.int (tk_wordP (S 4) L0 p1)]) (rest := []) ⟨hx, hb, hml, hown, hts⟩ (met_X3_numbers l (tk_wordP (S 4) L0 p1)) (va_cwS 1 hts (lw_S q1812 q1813 q71 q1814) rfl rfl rfl (by decide +kernel) ⟨Nat.le_of_ble_eq_true rfl, Nat.le_of_ble_eq_true rfl⟩) ⟨fun a U g mk q => q, fun U hU hW => ⟨rfl, trivial⟩⟩ rfl rfl hl.1 rfl (lv_room (Nat.le_of_ble_eq_true rfl)) dX3_run_68 ⟨Nat.le_of_ble_eq_true rfl, Nat.le_of_ble_eq_true rfl⟩) (fun r_9 hr_9 => ?_)
                subst hr_9
                refine lv_if_lt (tgt := 85) hx hb dX3_run_71 (by decide) (fun c71_b_10 => ?_) (fun c71_b_10 => ?_)
                · skip
                  refine lv_aload_n hx hb dX3_run_85 rfl (lv_at hl 3 rfl) ?_
                  refine lv_iconst (v := 1) hx hb dX3_run_86 (by decide) ?_
                  refine lv_aload_n hx hb dX3_run_87 rfl (lv_at hl 3 rfl) ?_
                  refine m_get hx hb hts in_X3 hown hK hM 9 (by decide) (hts _ q1580) (v := .int (Sc38 7 3)) (m_fld rfl (by rw [eSc66])) dX3_run_88 ?_
                  refine lv_ldc (v := -100009) hx hb hown (hts _ q1722) dX3_run_91 ?_
                  refine lv_iload_n hx hb dX3_run_93 rfl (lv_at hl 2 rfl) ?_
                  rw [show (Sc38 7 3) = nI (tk_ba (S 4) L0 p1) from eSc38.2.1]
                  refine va_calli (va_runV (As := [.int (1 : Int32), .int (nI (tk_ba (S 4) L0 p1)), .int (-100009 : Int32), .int n1]) (rest := []) ⟨hx, hb, hml, hown, hts⟩ (met_X3_fails l D cA ad Sc66 (1 : Int32) (tk_ba (S 4) L0 p1) (-100009 : Int32) n1) (cwV 4 hts (lw_V q1827 q1829 qs51 q71 q1830) rfl rfl rfl (by decide +kernel) ⟨Nat.le_of_ble_eq_true rfl, Nat.le_of_ble_eq_true rfl⟩) (mPreV hK hM) rfl rfl hl.1 rfl (lv_room (Nat.le_of_ble_eq_true rfl)) dX3_run_94 ⟨Nat.le_of_ble_eq_true rfl, Nat.le_of_ble_eq_true rfl⟩) hM.2.2 (fun _ _ h => h) (fun _ h => h) (fun r_11 S_12 t H1 locs ht hvm hr_11 hB hz hk hS => ?_)
                  have hM : mSt D cA ad (mA ad) s.heap H1 locs S_12 := ⟨by rw [← ht]; exact hB.1, hB.2, hS⟩
                  clear hB ht; generalize H1 = H at hM ⊢; clear hz hk hS
                  refine W.widen (k := 0) (n := 0) (Nat.le_refl 0) (Nat.le_refl 0) ?_
                  obtain ⟨hr_11a, hr_11b⟩ := hr_11
                  exact W.iret hx hb hr (fun t ht hW => ⟨⟨_, S_12, rfl, (by exact ro_f K66 (hac.trans (by rw [show f = (f - 1) + 1 by omega]; exact run_1 (fun q => nc42_b_5 q) c71_b_10)) hr_11a hr_11b), by rw [ht]; exact hM.1, hM.2.1⟩, hM.2.2.F ht⟩) hM.2.2.2.2 dX3_run_97
                · skip
                  obtain ⟨hmn, hm5⟩ := tk_manyI c71_b_10
                  refine lv_aload_n hx hb dX3_run_74 rfl (lv_at hl 3 rfl) ?_
                  refine lv_iload_n hx hb dX3_run_75 rfl (lv_at hl 0 rfl) ?_
                  refine vp_callSi (W.runS (As := [.int (tk_wordP (S 4) L0 p1)]) (rest := [.ref (ad 7)]) ⟨hx, hb, hml, hown, hts⟩ (met_X3_numbers l (tk_wordP (S 4) L0 p1)) (va_cwS 1 hts (lw_S q1812 q1813 q71 q1814) rfl rfl rfl (by decide +kernel) ⟨Nat.le_of_ble_eq_true rfl, Nat.le_of_ble_eq_true rfl⟩) ⟨fun a U g mk q => q, fun U hU hW => ⟨rfl, trivial⟩⟩ rfl rfl hl.1 rfl (lv_room (Nat.le_of_ble_eq_true rfl)) dX3_run_76 ⟨Nat.le_of_ble_eq_true rfl, Nat.le_of_ble_eq_true rfl⟩) (fun r_13 hr_13 => ?_)
                  subst hr_13
                  rw [show (tk_nums (tk_wordP (S 4) L0 p1)) = nI (tk_many (S 4) L0 p1) from hmn]
                  refine va_calli (va_runV (As := [.int (nI (tk_many (S 4) L0 p1))]) (rest := []) ⟨hx, hb, hml, hown, hts⟩ (met_X3_readsNumbers l D cA ad Sc66 (tk_many (S 4) L0 p1) L0 (tk_to (S 4) L0 p1) (by first | assumption | omega | decide) (Eq.trans (show Sc66 7 1 = (S 7 1) from (by rw [eSc66, eSc38.1.2.2.2.2.2.2.1])) e_L0) hbt.2.1 (Eq.trans (show Sc66 7 4 = (Sc38 7 4) from (by rw [eSc66])) eSc38.2.2.1) hm5) (cwV 1 hts (lw_V q1815 q1817 qs48 q71 q1818) rfl rfl rfl (by decide +kernel) ⟨Nat.le_of_ble_eq_true rfl, Nat.le_of_ble_eq_true rfl⟩) (mPreV hK hM) rfl rfl hl.1 rfl (lv_room (Nat.le_of_ble_eq_true rfl)) dX3_run_79 ⟨Nat.le_of_ble_eq_true rfl, Nat.le_of_ble_eq_true rfl⟩) hM.2.2 (fun _ _ h => h) (fun _ h => h) (fun r_14 S_15 t H1 locs ht hvm hr_14 hB hz hk hS => ?_)
                  have hM : mSt D cA ad (mA ad) s.heap H1 locs S_15 := ⟨by rw [← ht]; exact hB.1, hB.2, hS⟩
                  clear hB ht; generalize H1 = H at hM ⊢; clear hz hk hS
                  refine W.widen (k := 0) (n := 0) (Nat.le_refl 0) (Nat.le_refl 0) ?_
                  obtain ⟨hr_14, hr_14S⟩ := hr_14
                  have K2 := rj_rn K66 hr_14S
                  have hrn := hr_14S; unfold tk_rn at hrn; rw [K66.2.2.2.1] at hr_14 hrn
                  rcases hr_14 with ⟨er_hr_14, hr_14⟩ | ⟨er_hr_14, hr_14⟩
                  · subst er_hr_14
                    refine lv_if_ne (tgt := 98) hx hb dX3_run_82 (by decide) (fun _ => ?_) (fun c_ => absurd c_ (by decide))
                    refine lv_aload_n hx hb dX3_run_98 rfl (lv_at hl 3 rfl) ?_
                    refine lv_iload_n hx hb dX3_run_99 rfl (lv_at hl 0 rfl) ?_
                    refine va_calli (va_runV (As := [.int (tk_wordP (S 4) L0 p1)]) (rest := []) ⟨hx, hb, hml, hown, hts⟩ (met_X3_does l D cA ad S_15 (tk_wordP (S 4) L0 p1) (by rw [K2.1]; exact hok)) (cwV 1 hts (lw_V q1831 q1833 qs52 q71 q1834) rfl rfl rfl (by decide +kernel) ⟨Nat.le_of_ble_eq_true rfl, Nat.le_of_ble_eq_true rfl⟩) (mPreV hK hM) rfl rfl hl.1 rfl (lv_room (Nat.le_of_ble_eq_true rfl)) dX3_run_100 ⟨Nat.le_of_ble_eq_true rfl, Nat.le_of_ble_eq_true rfl⟩) hM.2.2 (fun _ _ h => h) (fun _ h => h) (fun r_16 S_17 t H1 locs ht hvm hr_16 hB hz hk hS => ?_)
                    have hM : mSt D cA ad (mA ad) s.heap H1 locs S_17 := ⟨by rw [← ht]; exact hB.1, hB.2, hS⟩
                    clear hB ht; generalize H1 = H at hM ⊢; clear hz hk hS
                    refine W.widen (k := 0) (n := 0) (Nat.le_refl 0) (Nat.le_refl 0) ?_
                    obtain ⟨hr_16a, hr_16b⟩ := hr_16
                    have hdo : tk_does (S_15 0) (S_15 6) (tk_wordP (S 4) L0 p1) = tk_does dd (tk_gg (S 4) L0 p1) (tk_wordP (S 4) L0 p1) := by rw [K2.1]; exact tk_does_g hmn hm5 (hrn.2.2.2 hr_14).2
                    rw [hdo] at hr_16a hr_16b
                    have K3 := rj_sm K2 hr_16b
                    have hoky := ok_does hok hB0 (by omega) (tk_gg (S 4) L0 p1) (tk_wordP (S 4) L0 p1)
                    refine lv_istore (lv' := [(4, .int r_16), (3, .int (tk_wordP (S 4) L0 p1)), (2, .int (Sc38 7 3)), (1, .int n1), (0, .ref (ad 7))]) hx hb dX3_run_103 hl (by decide) rfl (fun ls hl => ?_)
                    refine lv_iload hx hb dX3_run_105 (lv_at hl 0 rfl) ?_
                    refine lv_ldc (v := -100001) hx hb hown (hts _ q1636) dX3_run_107 ?_
                    refine lv_icmp_gt (tgt := 133) hx hb dX3_run_109 (by decide) (fun c109_b_18 => ?_) (fun c109_b_18 => ?_)
                    · skip
                      refine lv_iinc (v := (n1 + (1 : Int32))) (lv' := [(1, .int (n1 + (1 : Int32))), (4, .int r_16), (3, .int (tk_wordP (S 4) L0 p1)), (2, .int (Sc38 7 3)), (0, .ref (ad 7))]) hx hb dX3_run_133 hl (k := 3) rfl rfl (by decide) rfl (fun ls hl => ?_)
                      refine lv_aload_n hx hb dX3_run_136 rfl (lv_at hl 4 rfl) ?_
                      refine va_callv (va_runV (As := []) (rest := []) ⟨hx, hb, hml, hown, hts⟩ (met_X3_reads l D cA ad S_17 L0 (tk_ps (S 4) L0 (tk_to (S 4) L0 p1) ((tk_many (S 4) L0 p1) + 1)) (by first | assumption | omega | decide) (Eq.trans (show S_17 7 1 = (S 7 1) from (by rw [K3.2.2.2.2.2.2.1])) e_L0) (tk_ps_b (t := S 4) hbt.2.1 _).2 (Eq.trans (hr_16b.2.2.2.2.2.2.2 _ (by decide)) (hrn.2.2.2 hr_14).1)) (cwV 0 hts (lw_V q1800 q1802 qs45 q71 q1803) rfl rfl rfl (by decide +kernel) ⟨Nat.le_of_ble_eq_true rfl, Nat.le_of_ble_eq_true rfl⟩) (mPreV hK hM) rfl rfl hl.1 rfl (lv_room (Nat.le_of_ble_eq_true rfl)) dX3_run_137 ⟨Nat.le_of_ble_eq_true rfl, Nat.le_of_ble_eq_true rfl⟩) hM.2.2 (fun _ _ h => h) (fun _ h => h) (fun S_20 t H1 locs ht hvm hr_19 hB hz hk hS => ?_)
                      have hM : mSt D cA ad (mA ad) s.heap H1 locs S_20 := ⟨by rw [← ht]; exact hB.1, hB.2, hS⟩
                      clear hB ht; generalize H1 = H at hM ⊢; clear hz hk hS
                      refine W.widen (k := 0) (n := 0) (Nat.le_refl 0) (Nat.le_refl 0) ?_
                      have hr_194 := hr_19; unfold tk_rs at hr_194; rw [show S_17 4 = S 4 from (by rw [K3.2.2.2.1])] at hr_194
                      have K4 := rj_rs K3 hr_19
                      refine lv_goto (tgt := 38) hx hb dX3_run_140 (by decide) ?_
                      have hps := tk_ps_b (t := S 4) (L := L0) (p := (tk_to (S 4) L0 p1)) hbt.2.1 ((tk_many (S 4) L0 p1) + 1)
                      have hbx := hbt.2.2.1 nc42_b_5
                      exact ih_38 (tk_does dd (tk_gg (S 4) L0 p1) (tk_wordP (S 4) L0 p1)).2 (tk_ps (S 4) L0 (tk_to (S 4) L0 p1) ((tk_many (S 4) L0 p1) + 1)) (Bk + 60000) (f - 1) (n1 + 1) hps.2 hoky.1 (by omega) (by omega) (by omega) (hac.trans (by rw [show f = (f - 1) + 1 by omega]; exact run_3 (fun q => nc42_b_5 q) c71_b_10 hr_14 (by rw [← hr_16a]; exact c109_b_18))) (by omega) _ _ _ (⟨K4, hr_194.2.1, hr_194.2.2.1, hr_194.2.2.2.1⟩) hM ls (lv_sub hl [0, 4] rfl)
                    · skip
                      refine lv_aload_n hx hb dX3_run_112 rfl (lv_at hl 4 rfl) ?_
                      refine lv_iload hx hb dX3_run_113 (lv_at hl 0 rfl) ?_
                      refine lv_ldc (v := -100001) hx hb hown (hts _ q1636) dX3_run_115 ?_
                      refine lv_icmp_ne (tgt := 124) hx hb dX3_run_117 (by decide) (fun c117_b_21 => ?_) (fun c117_b_21 => ?_)
                      · skip
                        refine lv_iconst (v := 3) hx hb dX3_run_124 (by decide) ?_
                        refine lv_iload_n hx hb dX3_run_125 rfl (lv_at hl 2 rfl) ?_
                        refine lv_iload hx hb dX3_run_126 (lv_at hl 0 rfl) ?_
                        refine lv_iload_n hx hb dX3_run_128 rfl (lv_at hl 3 rfl) ?_
                        rw [show (Sc38 7 3) = nI (tk_ba (S 4) L0 p1) from eSc38.2.1]
                        refine va_calli (va_runV (As := [.int (3 : Int32), .int (nI (tk_ba (S 4) L0 p1)), .int r_16, .int n1]) (rest := []) ⟨hx, hb, hml, hown, hts⟩ (met_X3_fails l D cA ad S_17 (3 : Int32) (tk_ba (S 4) L0 p1) r_16 n1) (cwV 4 hts (lw_V q1827 q1829 qs51 q71 q1830) rfl rfl rfl (by decide +kernel) ⟨Nat.le_of_ble_eq_true rfl, Nat.le_of_ble_eq_true rfl⟩) (mPreV hK hM) rfl rfl hl.1 rfl (lv_room (Nat.le_of_ble_eq_true rfl)) dX3_run_129 ⟨Nat.le_of_ble_eq_true rfl, Nat.le_of_ble_eq_true rfl⟩) hM.2.2 (fun _ _ h => h) (fun _ h => h) (fun r_22 S_23 t H1 locs ht hvm hr_22 hB hz hk hS => ?_)
                        have hM : mSt D cA ad (mA ad) s.heap H1 locs S_23 := ⟨by rw [← ht]; exact hB.1, hB.2, hS⟩
                        clear hB ht; generalize H1 = H at hM ⊢; clear hz hk hS
                        refine W.widen (k := 0) (n := 0) (Nat.le_refl 0) (Nat.le_refl 0) ?_
                        obtain ⟨hr_22a, hr_22b⟩ := hr_22
                        exact W.iret hx hb hr (fun t ht hW => ⟨⟨_, S_23, rfl, (by exact ro_f K3 (hac.trans (by rw [show f = (f - 1) + 1 by omega]; exact (run_4 (fun q => nc42_b_5 q) c71_b_10 hr_14 (by rw [← hr_16a]; exact c109_b_18)).trans (by rw [← hr_16a, if_neg c117_b_21]))) hr_22a hr_22b), by rw [ht]; exact hM.1, hM.2.1⟩, hM.2.2.F ht⟩) hM.2.2.2.2 dX3_run_132
                      · skip
                        refine lv_iconst (v := 2) hx hb dX3_run_120 (by decide) ?_
                        refine lv_goto (tgt := 125) hx hb dX3_run_121 (by decide) ?_
                        refine lv_iload_n hx hb dX3_run_125 rfl (lv_at hl 2 rfl) ?_
                        refine lv_iload hx hb dX3_run_126 (lv_at hl 0 rfl) ?_
                        refine lv_iload_n hx hb dX3_run_128 rfl (lv_at hl 3 rfl) ?_
                        rw [show (Sc38 7 3) = nI (tk_ba (S 4) L0 p1) from eSc38.2.1]
                        refine va_calli (va_runV (As := [.int (2 : Int32), .int (nI (tk_ba (S 4) L0 p1)), .int r_16, .int n1]) (rest := []) ⟨hx, hb, hml, hown, hts⟩ (met_X3_fails l D cA ad S_17 (2 : Int32) (tk_ba (S 4) L0 p1) r_16 n1) (cwV 4 hts (lw_V q1827 q1829 qs51 q71 q1830) rfl rfl rfl (by decide +kernel) ⟨Nat.le_of_ble_eq_true rfl, Nat.le_of_ble_eq_true rfl⟩) (mPreV hK hM) rfl rfl hl.1 rfl (lv_room (Nat.le_of_ble_eq_true rfl)) dX3_run_129 ⟨Nat.le_of_ble_eq_true rfl, Nat.le_of_ble_eq_true rfl⟩) hM.2.2 (fun _ _ h => h) (fun _ h => h) (fun r_24 S_25 t H1 locs ht hvm hr_24 hB hz hk hS => ?_)
                        have hM : mSt D cA ad (mA ad) s.heap H1 locs S_25 := ⟨by rw [← ht]; exact hB.1, hB.2, hS⟩
                        clear hB ht; generalize H1 = H at hM ⊢; clear hz hk hS
                        refine W.widen (k := 0) (n := 0) (Nat.le_refl 0) (Nat.le_refl 0) ?_
                        obtain ⟨hr_24a, hr_24b⟩ := hr_24
                        exact W.iret hx hb hr (fun t ht hW => ⟨⟨_, S_25, rfl, (by exact ro_f K3 (hac.trans (by rw [show f = (f - 1) + 1 by omega]; exact (run_4 (fun q => nc42_b_5 q) c71_b_10 hr_14 (by rw [← hr_16a]; exact c109_b_18)).trans (by rw [← hr_16a, if_pos c117_b_21]))) hr_24a hr_24b), by rw [ht]; exact hM.1, hM.2.1⟩, hM.2.2.F ht⟩) hM.2.2.2.2 dX3_run_132
                  · subst er_hr_14
                    refine lv_if_ne (tgt := 98) hx hb dX3_run_82 (by decide) (fun c_ => absurd (by decide) c_) (fun _ => ?_)
                    refine lv_aload_n hx hb dX3_run_85 rfl (lv_at hl 3 rfl) ?_
                    refine lv_iconst (v := 1) hx hb dX3_run_86 (by decide) ?_
                    refine lv_aload_n hx hb dX3_run_87 rfl (lv_at hl 3 rfl) ?_
                    refine m_get hx hb hts in_X3 hown hK hM 9 (by decide) (hts _ q1580) rfl dX3_run_88 ?_
                    refine lv_ldc (v := -100009) hx hb hown (hts _ q1722) dX3_run_91 ?_
                    refine lv_iload_n hx hb dX3_run_93 rfl (lv_at hl 2 rfl) ?_
                    rw [show (S_15 7 3) = nI ((tk_rno (S 4) L0 (tk_many (S 4) L0 p1) (tk_to (S 4) L0 p1)).2) from hrn.2.1]
                    refine va_calli (va_runV (As := [.int (1 : Int32), .int (nI ((tk_rno (S 4) L0 (tk_many (S 4) L0 p1) (tk_to (S 4) L0 p1)).2)), .int (-100009 : Int32), .int n1]) (rest := []) ⟨hx, hb, hml, hown, hts⟩ (met_X3_fails l D cA ad S_15 (1 : Int32) ((tk_rno (S 4) L0 (tk_many (S 4) L0 p1) (tk_to (S 4) L0 p1)).2) (-100009 : Int32) n1) (cwV 4 hts (lw_V q1827 q1829 qs51 q71 q1830) rfl rfl rfl (by decide +kernel) ⟨Nat.le_of_ble_eq_true rfl, Nat.le_of_ble_eq_true rfl⟩) (mPreV hK hM) rfl rfl hl.1 rfl (lv_room (Nat.le_of_ble_eq_true rfl)) dX3_run_94 ⟨Nat.le_of_ble_eq_true rfl, Nat.le_of_ble_eq_true rfl⟩) hM.2.2 (fun _ _ h => h) (fun _ h => h) (fun r_26 S_27 t H1 locs ht hvm hr_26 hB hz hk hS => ?_)
                    have hM : mSt D cA ad (mA ad) s.heap H1 locs S_27 := ⟨by rw [← ht]; exact hB.1, hB.2, hS⟩
                    clear hB ht; generalize H1 = H at hM ⊢; clear hz hk hS
                    refine W.widen (k := 0) (n := 0) (Nat.le_refl 0) (Nat.le_refl 0) ?_
                    obtain ⟨hr_26a, hr_26b⟩ := hr_26
                    exact W.iret hx hb hr (fun t ht hW => ⟨⟨_, S_27, rfl, (by exact ro_f K2 (hac.trans (by rw [show f = (f - 1) + 1 by omega]; exact run_2 (fun q => nc42_b_5 q) c71_b_10 hr_14)) hr_26a hr_26b), by rw [ht]; exact hM.1, hM.2.1⟩, hM.2.2.F ht⟩) hM.2.2.2.2 dX3_run_97
              refine lv_aload_n hx hb dX3_run_50 rfl (lv_at hl 2 rfl) ?_
              refine m_get hx hb hts in_X3 hown hK hM 11 (by decide) (hts _ q1582) rfl dX3_run_51 ?_
              refine lv_iconst (v := 1) hx hb dX3_run_54 (by decide) ?_
              refine lv_icmp_ne (tgt := 65) hx hb dX3_run_55 (by decide) (fun c55_b_28 => ?_) (fun c55_b_28 => ?_)
              · skip
                have nc55_b_28 := neqF (a := (tk_sr (S 4) L0 p1)) (b := 1) eSc38.2.2.2 rfl (by omega) (by omega) c55_b_28
                refine lv_iconst (v := 0) hx hb dX3_run_65 (by decide) ?_
                rw [show (0 : Int32) = (tk_wordP (S 4) L0 p1) from by rw [tk_wordP, if_neg nc55_b_28]]
                exact cut_66   _ _ _ (rfl) hM ls (lv_sub hl [0, 1, 2] rfl)
              · skip
                have nc55_b_28 := neqT (a := (tk_sr (S 4) L0 p1)) (b := 1) eSc38.2.2.2 rfl (by omega) (by omega) c55_b_28
                refine lv_aload_n hx hb dX3_run_58 rfl (lv_at hl 2 rfl) ?_
                refine vp_callSi (W.runV (As := []) (rest := []) ⟨hx, hb, hml, hown, hts⟩ (met_X3_word l D cA ad Sc38 (tk_ba (S 4) L0 p1) (tk_to (S 4) L0 p1) eSc38.2.1 eSc38.2.2.1 (by first | assumption | omega | decide) (by first | assumption | omega | decide)) (cwV 0 hts (lw_V q1808 q1810 qs47 q71 q1811) rfl rfl rfl (by decide +kernel) ⟨Nat.le_of_ble_eq_true rfl, Nat.le_of_ble_eq_true rfl⟩) (mPreV hK hM) rfl rfl hl.1 rfl (lv_room (Nat.le_of_ble_eq_true rfl)) dX3_run_59 ⟨Nat.le_of_ble_eq_true rfl, Nat.le_of_ble_eq_true rfl⟩) (fun r_29 hr_29 => ?_)
                rw [show Sc38 4 = S 4 from (by rw [eSc38.1.2.2.2.1])] at hr_29
                subst hr_29
                refine lv_goto (tgt := 66) hx hb dX3_run_62 (by decide) ?_
                rw [show (tk_word (S 4) (tk_ba (S 4) L0 p1) (tk_to (S 4) L0 p1)) = (tk_wordP (S 4) L0 p1) from by rw [tk_wordP, if_pos nc55_b_28]]
                exact cut_66   _ _ _ (rfl) hM ls (lv_sub hl [0, 1, 2] rfl)
        exact cut_38 _ (S 0) 0 B (L0 + 1) 0 (Nat.zero_le _) hI hB0 (by omega) (by omega) rfl (Nat.lt_succ_self _) _ _ _ (⟨K1, hr_34.2.1, hr_34.2.2.1, hr_34.2.2.2.1⟩) hM ls (lv_sub hl [0, 1] rfl)
      · skip
        have c6_b_1 := Int32.not_le.mp c6_b_1
        have nc6_b_1 := nltT (a := k) (b := 284) rfl rfl (by omega) (by omega) c6_b_1
        refine lv_aload_n hx hb dX3_run_9 rfl (lv_at hl 1 rfl) ?_
        refine m_get hx hb hts in_X3 hown hK hM 2 (by decide) (hts _ q1573) rfl dX3_run_10 ?_
        refine lv_iload_n hx hb dX3_run_13 rfl (lv_at hl 0 rfl) ?_
        refine lv_aload_n hx hb dX3_run_14 rfl (lv_at hl 1 rfl) ?_
        refine m_get hx hb hts in_X3 hown hK hM 0 (by decide) (hts _ q1571) rfl dX3_run_15 ?_
        refine lv_iload_n hx hb dX3_run_18 rfl (lv_at hl 0 rfl) ?_
        refine m_iald hx hb hK hM 0 1 rfl k rfl (by omega) (v := (S 0 k)) (by rw [eSc2, su_n _ _ (by decide)]) dX3_run_19 (by decide) ?_
        refine m_iast hx hb hK hM 2 3 rfl (fun _ => rfl) k rfl (by omega) dX3_run_20 (by decide) (fun H locs S_30 eS_30 hM => ?_)
        refine lv_iinc (v := (nI (k + 1))) (lv' := [(1, .int (nI (k + 1))), (0, .ref (ad 7))]) hx hb dX3_run_21 hl (k := 0) rfl (ixA rfl rfl) (by decide) rfl (fun ls hl => ?_)
        refine lv_goto (tgt := 2) hx hb dX3_run_24 (by decide) ?_
        exact ih_2 (k + 1) (by omega) (by omega) _ _ _ (by rw [eS_30, eSc2, su_su, su_s, ← tk_cp_s]) hM ls (lv_sub hl [0, 1] rfl)
  exact cut_2 _ 0 (by omega) (Nat.lt_succ_self _) _ _ _ (by rw [tk_cp_0, su_self]) hM ls (lv_sub hl [0, 1] rfl)
