set_option maxHeartbeats 4000000 in
set_option maxRecDepth 100000 in
theorem met_X3_readsNumbers (l : Launch) (D : va_G) (cA : Nat → ClassId) (ad : Nat → Nat) (S : Nat → Nat → Int32) (m0 : Nat) (L0 : Nat) (p0 : Nat) (hL : L0 ≤ 140) (e_L0 : S 7 1 = nI L0) (hp : p0 ≤ L0) (e_p0 : S 7 4 = nI p0) (hm0 : m0 ≤ 5) : Met l yX3_readsNumbers (ws_ yX3_readsNumbers cX3_readsNumbers 3 (some .boolean)) (rmL 4 0 0) (mPre D cA ad S [.int (nI m0)]) (va_Qi (fun (r : Int32) (S' : Nat → Nat → Int32) => pB r (tk_rno (S 4) L0 m0 p0).1 ∧ tk_rn S S' L0 p0 m0) (mEnd D cA ad) (mA ad)) 0 0 (mA ad) := by
  refine Met.ofW (cc := cX3_readsNumbers) (maxL := 3) (ret := (some .boolean)) (by decide) rfl ?_
  intro p e s m args below meth c s₁ Bd hml hv
  obtain ⟨rfl, hP, hK, hD⟩ := hv
  have hx := Bd.exec
  have hb := Bd.bytes
  have hr := Bd.returns
  have hts := atoms_spec (ws := (ws_ yX3_readsNumbers cX3_readsNumbers 3 (some .boolean))) Bd.pre
  have hts : ∀ w ∈ lw_all, w.before _ s = true := fun w h => hts w (List.mem_cons_of_mem _ h)
  have hown : s.vm.findClass RX3 = some m.cls := findClass_of_methodNamed Bd.named
  have hlocks := Bd.notSynchronized
  have hM : mSt D cA ad (mA ad) s.heap s.heap [] S := ⟨hP, hD, va_S.rf⟩
  have hl := lv_entry ([.ref (ad 7), .int (nI m0)]) (n := 3) (Nat.le_of_ble_eq_true rfl)
  rw [lg_entry_eq]
  generalize (lg_sl ([.ref (ad 7), .int (nI m0)]) ++ List.replicate (3 - (lg_sl ([.ref (ad 7), .int (nI m0)])).length) Slot.unset).toArray = ls at hl ⊢
  have hl : lv_has ls 3 [(0, .ref (ad 7)), (1, .int (nI m0))] := hl
  refine lv_iconst (v := 0) hx hb dX3_readsNumbers_0 (by decide) ?_
  refine lv_istore_n (lv' := [(2, .int (0 : Int32)), (0, .ref (ad 7)), (1, .int (nI m0))]) hx hb dX3_readsNumbers_1 rfl hl (by decide) rfl (fun ls hl => ?_)
  have cut_2 : ∀ (N : Nat) (k : Nat) (hk : k ≤ m0) (hac : tk_rno (S 4) L0 m0 p0 = tk_rno (S 4) L0 (m0 - k) (tk_ps (S 4) L0 p0 k)) (hN : m0 - k < N) (H : Heap) (locs : List Loc) (Sc2 : Nat → Nat → Int32) (eSc2 : tk_rk S Sc2 L0 p0 k) (hM : mSt D cA ad (mA ad) s.heap H locs Sc2), ∀ (ls : Array Slot) (hl : lv_has ls 3 [(2, .int (nI k)), (0, .ref (ad 7)), (1, .int (nI m0))]), W p l e (headSpec (ws_ yX3_readsNumbers cX3_readsNumbers 3 (some .boolean)) (rmL 4 0 0)).room s m ([.ref (ad 7), .int (nI m0)] : List Value).toArray below meth c H locs 0 0 (MQ below (va_Qi (fun (r : Int32) (S' : Nat → Nat → Int32) => pB r (tk_rno (S 4) L0 m0 p0).1 ∧ tk_rn S S' L0 p0 m0) (mEnd D cA ad) (mA ad)) ([.ref (ad 7), .int (nI m0)] : List Value).toArray s 0 0 (mA ad)) (F0 m 2 ls []) := by
    intro N
    induction N with
    | zero => intro k hk hac hN; exact absurd hN (Nat.not_lt_zero _)
    | succ N ih_2 =>
      intro k hk hac hN H locs Sc2 eSc2 hM ls hl
      refine lv_iload_n hx hb dX3_readsNumbers_2 rfl (lv_at hl 0 rfl) ?_
      refine lv_iload_n hx hb dX3_readsNumbers_3 rfl (lv_at hl 2 rfl) ?_
      refine lv_icmp_ge (tgt := 36) hx hb dX3_readsNumbers_4 (by decide) (fun c4_b_1 => ?_) (fun c4_b_1 => ?_)
      · skip
        have c4_b_1 := Int32.not_lt.mpr c4_b_1
        have nc4_b_1 := nltF (a := k) (b := m0) rfl rfl (by omega) (by omega) c4_b_1
        obtain rfl : m0 = k := by omega
        refine lv_aload_n hx hb dX3_readsNumbers_36 rfl (lv_at hl 1 rfl) ?_
        refine va_callv (va_runV (As := []) (rest := []) ⟨hx, hb, hml, hown, hts⟩ (met_X3_reads l D cA ad Sc2 L0 (tk_ps (S 4) L0 p0 m0) (by first | assumption | omega | decide) (Eq.trans (show Sc2 7 1 = (S 7 1) from (by rw [eSc2.2.2.1 _ (by decide) (by decide) (by decide)])) e_L0) (tk_ps_b hp _).2 eSc2.2.1) (cwV 0 hts (lw_V q1800 q1802 qs45 q71 q1803) rfl rfl rfl (by decide +kernel) ⟨Nat.le_of_ble_eq_true rfl, Nat.le_of_ble_eq_true rfl⟩) (mPreV hK hM) rfl rfl hl.1 rfl (lv_room (Nat.le_of_ble_eq_true rfl)) dX3_readsNumbers_37 ⟨Nat.le_of_ble_eq_true rfl, Nat.le_of_ble_eq_true rfl⟩) hM.2.2 (fun _ _ h => h) (fun _ h => h) (fun S_3 t H1 locs ht hvm hr_2 hB hz hk hS => ?_)
        have hM : mSt D cA ad (mA ad) s.heap H1 locs S_3 := ⟨by rw [← ht]; exact hB.1, hB.2, hS⟩
        clear hB ht; generalize H1 = H at hM ⊢; clear hz hk hS
        refine W.widen (k := 0) (n := 0) (Nat.le_refl 0) (Nat.le_refl 0) ?_
        have hr_24 := hr_2; unfold tk_rs at hr_24; rw [show Sc2 4 = S 4 from (by rw [eSc2.1 _ (by decide) (by decide)])] at hr_24
        have hpb := tk_ps_b (t := S 4) hp m0
        have hbb := tk_ba_b (t := S 4) (L := L0) (p := (tk_ps (S 4) L0 p0 m0)) hpb.2
        have hbt := tk_to_b (t := S 4) (L := L0) (p := (tk_ps (S 4) L0 p0 m0)) hpb.2
        refine lv_aload_n hx hb dX3_readsNumbers_40 rfl (lv_at hl 1 rfl) ?_
        refine m_get hx hb hts in_X3 hown hK hM 11 (by decide) (hts _ q1582) rfl dX3_readsNumbers_41 ?_
        refine lv_iconst (v := 3) hx hb dX3_readsNumbers_44 (by decide) ?_
        refine lv_icmp_ne (tgt := 66) hx hb dX3_readsNumbers_45 (by decide) (fun c45_b_4 => ?_) (fun c45_b_4 => ?_)
        · skip
          have nc45_b_4 := neqF (a := (tk_sr (S 4) L0 (tk_ps (S 4) L0 p0 m0))) (b := 3) hr_24.2.2.2.1 rfl (by omega) (by omega) c45_b_4
          refine lv_iconst (v := 0) hx hb dX3_readsNumbers_66 (by decide) ?_
          exact W.zret hx hb hr rfl (fun t ht hW => ⟨⟨_, S_3, rfl, ⟨Or.inr ⟨rfl, by rw [hac, Nat.sub_self, tk_rno]; simp [nc45_b_4]⟩, by exact tk_rnT eSc2 hr_2 hac⟩, by rw [ht]; exact hM.1, hM.2.1⟩, hM.2.2.F ht⟩) hM.2.2.2.2 dX3_readsNumbers_67
        · skip
          have nc45_b_4 := neqT (a := (tk_sr (S 4) L0 (tk_ps (S 4) L0 p0 m0))) (b := 3) hr_24.2.2.2.1 rfl (by omega) (by omega) c45_b_4
          refine lv_aload_n hx hb dX3_readsNumbers_48 rfl (lv_at hl 1 rfl) ?_
          refine m_get hx hb hts in_X3 hown hK hM 5 (by decide) (hts _ q1576) rfl dX3_readsNumbers_49 ?_
          refine lv_aload_n hx hb dX3_readsNumbers_52 rfl (lv_at hl 1 rfl) ?_
          refine m_get hx hb hts in_X3 hown hK hM 9 (by decide) (hts _ q1580) rfl dX3_readsNumbers_53 ?_
          refine m_cald hx hb hK hM (tk_ba (S 4) L0 (tk_ps (S 4) L0 p0 m0)) hr_24.2.1 (by omega) (v := (S 4 (tk_ba (S 4) L0 (tk_ps (S 4) L0 p0 m0)))) (by rw [hr_2.1 _ (by decide), eSc2.1 _ (by decide) (by decide)]) dX3_readsNumbers_56 ?_
          refine lv_bipush (v := 59) hx hb dX3_readsNumbers_57 (by decide) ?_
          refine lv_icmp_ne (tgt := 66) hx hb dX3_readsNumbers_59 (by decide) (fun c59_b_5 => ?_) (fun c59_b_5 => ?_)
          · skip
            refine lv_iconst (v := 0) hx hb dX3_readsNumbers_66 (by decide) ?_
            exact W.zret hx hb hr rfl (fun t ht hW => ⟨⟨_, S_3, rfl, ⟨Or.inr ⟨rfl, by rw [hac, Nat.sub_self, tk_rno]; simp [nc45_b_4, c59_b_5]⟩, by exact tk_rnT eSc2 hr_2 hac⟩, by rw [ht]; exact hM.1, hM.2.1⟩, hM.2.2.F ht⟩) hM.2.2.2.2 dX3_readsNumbers_67
          · skip
            refine lv_iconst (v := 1) hx hb dX3_readsNumbers_62 (by decide) ?_
            refine lv_goto (tgt := 67) hx hb dX3_readsNumbers_63 (by decide) ?_
            exact W.zret hx hb hr rfl (fun t ht hW => ⟨⟨_, S_3, rfl, ⟨Or.inl ⟨rfl, by rw [hac, Nat.sub_self, tk_rno]; simp [nc45_b_4, c59_b_5]⟩, by exact tk_rnT eSc2 hr_2 hac⟩, by rw [ht]; exact hM.1, hM.2.1⟩, hM.2.2.F ht⟩) hM.2.2.2.2 dX3_readsNumbers_67
      · skip
        have c4_b_1 := Int32.not_le.mp c4_b_1
        have nc4_b_1 := nltT (a := k) (b := m0) rfl rfl (by omega) (by omega) c4_b_1
        refine lv_aload_n hx hb dX3_readsNumbers_7 rfl (lv_at hl 1 rfl) ?_
        refine va_callv (va_runV (As := []) (rest := []) ⟨hx, hb, hml, hown, hts⟩ (met_X3_reads l D cA ad Sc2 L0 (tk_ps (S 4) L0 p0 k) (by first | assumption | omega | decide) (Eq.trans (show Sc2 7 1 = (S 7 1) from (by rw [eSc2.2.2.1 _ (by decide) (by decide) (by decide)])) e_L0) (tk_ps_b hp _).2 eSc2.2.1) (cwV 0 hts (lw_V q1800 q1802 qs45 q71 q1803) rfl rfl rfl (by decide +kernel) ⟨Nat.le_of_ble_eq_true rfl, Nat.le_of_ble_eq_true rfl⟩) (mPreV hK hM) rfl rfl hl.1 rfl (lv_room (Nat.le_of_ble_eq_true rfl)) dX3_readsNumbers_8 ⟨Nat.le_of_ble_eq_true rfl, Nat.le_of_ble_eq_true rfl⟩) hM.2.2 (fun _ _ h => h) (fun _ h => h) (fun S_7 t H1 locs ht hvm hr_6 hB hz hk hS => ?_)
        have hM : mSt D cA ad (mA ad) s.heap H1 locs S_7 := ⟨by rw [← ht]; exact hB.1, hB.2, hS⟩
        clear hB ht; generalize H1 = H at hM ⊢; clear hz hk hS
        refine W.widen (k := 0) (n := 0) (Nat.le_refl 0) (Nat.le_refl 0) ?_
        have hr_64 := hr_6; unfold tk_rs at hr_64; rw [show Sc2 4 = S 4 from (by rw [eSc2.1 _ (by decide) (by decide)])] at hr_64
        have hpb := tk_ps_b (t := S 4) hp k
        have hbb := tk_ba_b (t := S 4) (L := L0) (p := (tk_ps (S 4) L0 p0 k)) hpb.2
        have hbt := tk_to_b (t := S 4) (L := L0) (p := (tk_ps (S 4) L0 p0 k)) hpb.2
        refine lv_aload_n hx hb dX3_readsNumbers_11 rfl (lv_at hl 1 rfl) ?_
        refine vp_callSi (W.runV (As := []) (rest := []) ⟨hx, hb, hml, hown, hts⟩ (met_X3_isNumber l D cA ad S_7 (tk_ba (S 4) L0 (tk_ps (S 4) L0 p0 k)) (tk_to (S 4) L0 (tk_ps (S 4) L0 p0 k)) (tk_sr (S 4) L0 (tk_ps (S 4) L0 p0 k)) hr_64.2.1 hr_64.2.2.1 (by first | assumption | omega | decide) (by first | assumption | omega | decide) hr_64.2.2.2.1 (by first | assumption | omega | decide) (by first | assumption | omega | decide)) (cwV 0 hts (lw_V q1819 q1821 qs49 q71 q1822) rfl rfl rfl (by decide +kernel) ⟨Nat.le_of_ble_eq_true rfl, Nat.le_of_ble_eq_true rfl⟩) (mPreV hK hM) rfl rfl hl.1 rfl (lv_room (Nat.le_of_ble_eq_true rfl)) dX3_readsNumbers_12 ⟨Nat.le_of_ble_eq_true rfl, Nat.le_of_ble_eq_true rfl⟩) (fun r_8 hr_8 => ?_)
        rw [show S_7 4 = S 4 from (by rw [hr_6.1 _ (by decide), eSc2.1 _ (by decide) (by decide)])] at hr_8
        rcases hr_8 with ⟨er_hr_8, hr_8⟩ | ⟨er_hr_8, hr_8⟩
        · subst er_hr_8
          refine lv_if_ne (tgt := 20) hx hb dX3_readsNumbers_15 (by decide) (fun _ => ?_) (fun c_ => absurd c_ (by decide))
          refine lv_aload_n hx hb dX3_readsNumbers_20 rfl (lv_at hl 1 rfl) ?_
          refine m_get hx hb hts in_X3 hown hK hM 12 (by decide) (hts _ q1583) rfl dX3_readsNumbers_21 ?_
          refine lv_iload_n hx hb dX3_readsNumbers_24 rfl (lv_at hl 0 rfl) ?_
          refine lv_aload_n hx hb dX3_readsNumbers_25 rfl (lv_at hl 1 rfl) ?_
          refine vp_callSi (W.runV (As := []) (rest := [.int (nI k), .ref (ad 6)]) ⟨hx, hb, hml, hown, hts⟩ (met_X3_value l D cA ad S_7 (tk_ba (S 4) L0 (tk_ps (S 4) L0 p0 k)) (tk_to (S 4) L0 (tk_ps (S 4) L0 p0 k)) hr_64.2.1 hr_64.2.2.1 (by first | assumption | omega | decide) (by first | assumption | omega | decide)) (cwV 0 hts (lw_V q1823 q1825 qs50 q71 q1826) rfl rfl rfl (by decide +kernel) ⟨Nat.le_of_ble_eq_true rfl, Nat.le_of_ble_eq_true rfl⟩) (mPreV hK hM) rfl rfl hl.1 rfl (lv_room (Nat.le_of_ble_eq_true rfl)) dX3_readsNumbers_26 ⟨Nat.le_of_ble_eq_true rfl, Nat.le_of_ble_eq_true rfl⟩) (fun r_9 hr_9 => ?_)
          rw [show S_7 4 = S 4 from (by rw [hr_6.1 _ (by decide), eSc2.1 _ (by decide) (by decide)])] at hr_9
          subst hr_9
          refine m_iast hx hb hK hM 6 7 rfl (fun _ => rfl) k rfl (by omega) dX3_readsNumbers_29 (by decide) (fun H locs S_10 eS_10 hM => ?_)
          refine lv_iinc (v := (nI (k + 1))) (lv' := [(2, .int (nI (k + 1))), (0, .ref (ad 7)), (1, .int (nI m0))]) hx hb dX3_readsNumbers_30 hl (k := 0) rfl (ixA rfl rfl) (by decide) rfl (fun ls hl => ?_)
          refine lv_goto (tgt := 2) hx hb dX3_readsNumbers_33 (by decide) ?_
          exact ih_2 (k + 1) (by omega) (hac.trans (tk_rnoY (by omega) hr_8)) (by omega) _ _ _ (tk_rkS eSc2 hr_6 eS_10) hM ls (lv_sub hl [0, 1, 2] rfl)
        · subst er_hr_8
          refine lv_if_ne (tgt := 20) hx hb dX3_readsNumbers_15 (by decide) (fun c_ => absurd (by decide) c_) (fun _ => ?_)
          refine lv_iconst (v := 0) hx hb dX3_readsNumbers_18 (by decide) ?_
          exact W.zret hx hb hr rfl (fun t ht hW => ⟨⟨_, S_7, rfl, ⟨Or.inr ⟨rfl, by rw [hac, tk_rnoN (by omega) hr_8]⟩, by exact tk_rnF eSc2 hr_6 (by rw [hac, tk_rnoN (by omega) hr_8])⟩, by rw [ht]; exact hM.1, hM.2.1⟩, hM.2.2.F ht⟩) hM.2.2.2.2 dX3_readsNumbers_19
  exact cut_2 _ 0 (by omega) rfl (Nat.lt_succ_self _) _ _ _ (tk_rk0 e_p0) hM ls (lv_sub hl [0, 1, 2] rfl)
