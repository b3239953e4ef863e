set_option maxHeartbeats 4000000 in
set_option maxRecDepth 100000 in
theorem met_X3_keeps (l : Launch) (D : va_G) (cA : Nat → ClassId) (ad : Nat → Nat) (S : Nat → Nat → Int32) : Met l yX3_keeps (ws_ yX3_keeps cX3_keeps 2 none) (rmL 1 0 0) (mPre D cA ad S []) (va_Qv (fun (S' : Nat → Nat → Int32) => S' = su S 1 (tk_cp (S 0) (S 1) 284)) (mEnd D cA ad) (mA ad)) 0 0 (mA ad) := by
  refine Met.ofW (cc := cX3_keeps) (maxL := 2) (ret := none) (by decide) rfl ?_
  intro p e s m args below meth c s₁ Bd hml hv
  obtain ⟨rfl, hP, hK, hD⟩ := hv
  have hx := Bd.exec
  have hb := Bd.bytes
  have hr := Bd.returns
  have hts := atoms_spec (ws := (ws_ yX3_keeps cX3_keeps 2 none)) Bd.pre
  have hts : ∀ w ∈ lw_all, w.before _ s = true := fun w h => hts w (List.mem_cons_of_mem _ h)
  have hown : s.vm.findClass RX3 = some m.cls := findClass_of_methodNamed Bd.named
  have hlocks := Bd.notSynchronized
  have hM : mSt D cA ad (mA ad) s.heap s.heap [] S := ⟨hP, hD, va_S.rf⟩
  have hl := lv_entry ([.ref (ad 7)]) (n := 2) (Nat.le_of_ble_eq_true rfl)
  rw [lg_entry_eq]
  generalize (lg_sl ([.ref (ad 7)]) ++ List.replicate (2 - (lg_sl ([.ref (ad 7)])).length) Slot.unset).toArray = ls at hl ⊢
  have hl : lv_has ls 2 [(0, .ref (ad 7))] := hl
  refine lv_iconst (v := 0) hx hb dX3_keeps_0 (by decide) ?_
  refine lv_istore_n (lv' := [(1, .int (0 : Int32)), (0, .ref (ad 7))]) hx hb dX3_keeps_1 rfl hl (by decide) rfl (fun ls hl => ?_)
  have cut_2 : ∀ (N : Nat) (k : Nat) (hk : k ≤ 284) (hN : 284 - k < N) (H : Heap) (locs : List Loc) (Sc2 : Nat → Nat → Int32) (eSc2 : Sc2 = su S 1 (tk_cp (S 0) (S 1) k)) (hM : mSt D cA ad (mA ad) s.heap H locs Sc2), ∀ (ls : Array Slot) (hl : lv_has ls 2 [(1, .int (nI k)), (0, .ref (ad 7))]), W p l e (headSpec (ws_ yX3_keeps cX3_keeps 2 none) (rmL 1 0 0)).room s m ([.ref (ad 7)] : List Value).toArray below meth c H locs 0 0 (MQ below (va_Qv (fun (S' : Nat → Nat → Int32) => S' = su S 1 (tk_cp (S 0) (S 1) 284)) (mEnd D cA ad) (mA ad)) ([.ref (ad 7)] : List Value).toArray s 0 0 (mA ad)) (F0 m 2 ls []) := by
    intro N
    induction N with
    | zero => intro k hk hN; exact absurd hN (Nat.not_lt_zero _)
    | succ N ih_2 =>
      intro k hk hN H locs Sc2 eSc2 hM ls hl
      refine lv_iload_n hx hb dX3_keeps_2 rfl (lv_at hl 0 rfl) ?_
      refine lv_sipush (v := 284) hx hb dX3_keeps_3 (by decide) ?_
      refine lv_icmp_ge (tgt := 27) hx hb dX3_keeps_6 (by decide) (fun c6_b_1 => ?_) (fun c6_b_1 => ?_)
      · skip
        have c6_b_1 := Int32.not_lt.mpr c6_b_1
        have nc6_b_1 := nltF (a := k) (b := 284) rfl rfl (by omega) (by omega) c6_b_1
        exact W.vret hx hb hr (fun t ht hW => ⟨⟨Sc2, rfl, (by rw [eSc2, show k = 284 by omega]), by rw [ht]; exact hM.1, hM.2.1⟩, hM.2.2.F ht⟩) hM.2.2.2.2 dX3_keeps_27
      · skip
        have c6_b_1 := Int32.not_le.mp c6_b_1
        have nc6_b_1 := nltT (a := k) (b := 284) rfl rfl (by omega) (by omega) c6_b_1
        refine lv_aload_n hx hb dX3_keeps_9 rfl (lv_at hl 1 rfl) ?_
        refine m_get hx hb hts in_X3 hown hK hM 1 (by decide) (hts _ q1572) rfl dX3_keeps_10 ?_
        refine lv_iload_n hx hb dX3_keeps_13 rfl (lv_at hl 0 rfl) ?_
        refine lv_aload_n hx hb dX3_keeps_14 rfl (lv_at hl 1 rfl) ?_
        refine m_get hx hb hts in_X3 hown hK hM 0 (by decide) (hts _ q1571) rfl dX3_keeps_15 ?_
        refine lv_iload_n hx hb dX3_keeps_18 rfl (lv_at hl 0 rfl) ?_
        refine m_iald hx hb hK hM 0 1 rfl k rfl (by omega) (v := (S 0 k)) (by rw [eSc2, su_n _ _ (by decide)]) dX3_keeps_19 (by decide) ?_
        refine m_iast hx hb hK hM 1 2 rfl (fun _ => rfl) k rfl (by omega) dX3_keeps_20 (by decide) (fun H locs S_2 eS_2 hM => ?_)
        refine lv_iinc (v := (nI (k + 1))) (lv' := [(1, .int (nI (k + 1))), (0, .ref (ad 7))]) hx hb dX3_keeps_21 hl (k := 0) rfl (ixA rfl rfl) (by decide) rfl (fun ls hl => ?_)
        refine lv_goto (tgt := 2) hx hb dX3_keeps_24 (by decide) ?_
        exact ih_2 (k + 1) (by omega) (by omega) _ _ _ (by rw [eS_2, eSc2, su_su, su_s, tk_cp_s]) hM ls (lv_sub hl [0, 1] rfl)
  exact cut_2 _ 0 (by omega) (Nat.lt_succ_self _) _ _ _ (by rw [tk_cp_0, su_self]) hM ls (lv_sub hl [0, 1] rfl)

set_option maxHeartbeats 4000000 in
set_option maxRecDepth 100000 in
theorem met_X3_pushes1 (l : Launch) (D : va_G) (cA : Nat → ClassId) (ad : Nat → Nat) (S : Nat → Nat → Int32) (n0 : Nat) (hn : n0 ≤ 5) (hns : S 7 0 = nI n0) : Met l yX3_pushes (ws_ yX3_pushes cX3_pushes 3 none) (rmL 1 0 0) (mPre D cA ad S [.ref (ad 1)]) (va_Qv (fun (S' : Nat → Nat → Int32) => tk_pu S S' n0 (S 1)) (mEnd D cA ad) (mA ad)) 0 0 (mA ad) := by
  refine Met.ofW (cc := cX3_pushes) (maxL := 3) (ret := none) (by decide) rfl ?_
  intro p e s m args below meth c s₁ Bd hml hv
  obtain ⟨rfl, hP, hK, hD⟩ := hv
  have hx := Bd.exec
  have hb := Bd.bytes
  have hr := Bd.returns
  have hts := atoms_spec (ws := (ws_ yX3_pushes cX3_pushes 3 none)) Bd.pre
  have hts : ∀ w ∈ lw_all, w.before _ s = true := fun w h => hts w (List.mem_cons_of_mem _ h)
  have hown : s.vm.findClass RX3 = some m.cls := findClass_of_methodNamed Bd.named
  have hlocks := Bd.notSynchronized
  have hM : mSt D cA ad (mA ad) s.heap s.heap [] S := ⟨hP, hD, va_S.rf⟩
  have hl := lv_entry ([.ref (ad 7), .ref (ad 1)]) (n := 3) (Nat.le_of_ble_eq_true rfl)
  rw [lg_entry_eq]
  generalize (lg_sl ([.ref (ad 7), .ref (ad 1)]) ++ List.replicate (3 - (lg_sl ([.ref (ad 7), .ref (ad 1)])).length) Slot.unset).toArray = ls at hl ⊢
  have hl : lv_has ls 3 [(0, .ref (ad 7)), (1, .ref (ad 1))] := hl
  refine lv_aload_n hx hb dX3_pushes_0 rfl (lv_at hl 0 rfl) ?_
  refine m_get hx hb hts in_X3 hown hK hM 4 (by decide) (hts _ q1575) rfl dX3_pushes_1 ?_
  refine lv_iconst (v := 5) hx hb dX3_pushes_4 (by decide) ?_
  refine lv_icmp_ne (tgt := 49) hx hb dX3_pushes_5 (by decide) (fun c5_b_1 => ?_) (fun c5_b_1 => ?_)
  · skip
    have nc5_b_1 := neqF (a := n0) (b := 5) hns rfl (by omega) (by omega) c5_b_1
    refine lv_iconst (v := 0) hx hb dX3_pushes_49 (by decide) ?_
    refine lv_istore_n (lv' := [(2, .int (0 : Int32)), (0, .ref (ad 7)), (1, .ref (ad 1))]) hx hb dX3_pushes_50 rfl hl (by decide) rfl (fun ls hl => ?_)
    have cut_51 : ∀ (N : Nat) (k : Nat) (hk : k ≤ 284) (hN : 284 - k < N) (H : Heap) (locs : List Loc) (Sc51 : Nat → Nat → Int32) (eSc51 : Sc51 = su S 3 (tk_pt (S 3) (S 1) (284 * n0) k)) (hM : mSt D cA ad (mA ad) s.heap H locs Sc51), ∀ (ls : Array Slot) (hl : lv_has ls 3 [(2, .int (nI k)), (0, .ref (ad 7)), (1, .ref (ad 1))]), W p l e (headSpec (ws_ yX3_pushes cX3_pushes 3 none) (rmL 1 0 0)).room s m ([.ref (ad 7), .ref (ad 1)] : List Value).toArray below meth c H locs 0 0 (MQ below (va_Qv (fun (S' : Nat → Nat → Int32) => tk_pu S S' n0 (S 1)) (mEnd D cA ad) (mA ad)) ([.ref (ad 7), .ref (ad 1)] : List Value).toArray s 0 0 (mA ad)) (F0 m 51 ls []) := by
      intro N
      induction N with
      | zero => intro k hk hN; exact absurd hN (Nat.not_lt_zero _)
      | succ N ih_51 =>
        intro k hk hN H locs Sc51 eSc51 hM ls hl
        refine lv_iload_n hx hb dX3_pushes_51 rfl (lv_at hl 0 rfl) ?_
        refine lv_sipush (v := 284) hx hb dX3_pushes_52 (by decide) ?_
        refine lv_icmp_ge (tgt := 82) hx hb dX3_pushes_55 (by decide) (fun c55_b_2 => ?_) (fun c55_b_2 => ?_)
        · skip
          have c55_b_2 := Int32.not_lt.mpr c55_b_2
          have nc55_b_2 := nltF (a := k) (b := 284) rfl rfl (by omega) (by omega) c55_b_2
          obtain rfl : k = 284 := by omega
          refine lv_aload_n hx hb dX3_pushes_82 rfl (lv_at hl 1 rfl) ?_
          refine lv_dup hx hb dX3_pushes_83 rfl ?_
          refine m_get hx hb hts in_X3 hown hK hM 4 (by decide) (hts _ q1575) (v := .int (S 7 0)) (m_fld rfl (by rw [eSc51, su_n _ _ (by decide)])) dX3_pushes_84 ?_
          refine lv_iconst (v := 1) hx hb dX3_pushes_87 (by decide) ?_
          refine lv_iadd hx hb dX3_pushes_88 ?_
          refine m_put hx hb hts in_X3 hown hK hM 4 0 (by decide) (hts _ q1575) rfl rfl rfl rfl dX3_pushes_89 (fun H locs S_3 eS_3 hM => ?_)
          exact W.vret hx hb hr (fun t ht hW => ⟨⟨S_3, rfl, (by subst eS_3; subst eSc51; refine ⟨fun j h3 h7 => by simp [su_n, h3, h7], fun j h0 => by simp [su_s, su_n, h0], ?_, ?_⟩ <;> simp [su_s, su_n, tk_pn, hns, tk_pw_n, nc5_b_1, nI_1]), by rw [ht]; exact hM.1, hM.2.1⟩, hM.2.2.F ht⟩) hM.2.2.2.2 dX3_pushes_92
        · skip
          have c55_b_2 := Int32.not_le.mp c55_b_2
          have nc55_b_2 := nltT (a := k) (b := 284) rfl rfl (by omega) (by omega) c55_b_2
          refine lv_aload_n hx hb dX3_pushes_58 rfl (lv_at hl 1 rfl) ?_
          refine m_get hx hb hts in_X3 hown hK hM 3 (by decide) (hts _ q1574) rfl dX3_pushes_59 ?_
          refine lv_sipush (v := 284) hx hb dX3_pushes_62 (by decide) ?_
          refine lv_aload_n hx hb dX3_pushes_65 rfl (lv_at hl 1 rfl) ?_
          refine m_get hx hb hts in_X3 hown hK hM 4 (by decide) (hts _ q1575) (v := .int (S 7 0)) (m_fld rfl (by rw [eSc51, su_n _ _ (by decide)])) dX3_pushes_66 ?_
          refine lv_imul hx hb dX3_pushes_69 ?_
          refine lv_iload_n hx hb dX3_pushes_70 rfl (lv_at hl 0 rfl) ?_
          refine lv_iadd hx hb dX3_pushes_71 ?_
          refine lv_aload_n hx hb dX3_pushes_72 rfl (lv_at hl 2 rfl) ?_
          refine lv_iload_n hx hb dX3_pushes_73 rfl (lv_at hl 0 rfl) ?_
          refine m_iald hx hb hK hM 1 2 rfl k rfl (by omega) (v := (S 1 k)) (by rw [eSc51, su_n _ _ (by decide)]) dX3_pushes_74 (by decide) ?_
          refine m_iast hx hb hK hM 3 4 rfl (fun _ => rfl) ((284 * n0) + k) (ixA (ixM rfl hns) rfl) (by omega) dX3_pushes_75 (by decide) (fun H locs S_4 eS_4 hM => ?_)
          refine lv_iinc (v := (nI (k + 1))) (lv' := [(2, .int (nI (k + 1))), (0, .ref (ad 7)), (1, .ref (ad 1))]) hx hb dX3_pushes_76 hl (k := 0) rfl (ixA rfl rfl) (by decide) rfl (fun ls hl => ?_)
          refine lv_goto (tgt := 51) hx hb dX3_pushes_79 (by decide) ?_
          exact ih_51 (k + 1) (by omega) (by omega) _ _ _ (by rw [eS_4, eSc51, su_su, su_s, ← tk_pt_s]) hM ls (lv_sub hl [0, 1, 2] rfl)
    exact cut_51 _ 0 (by omega) (Nat.lt_succ_self _) _ _ _ (by rw [tk_pt_0, su_self]) hM ls (lv_sub hl [0, 1, 2] rfl)
  · skip
    have nc5_b_1 := neqT (a := n0) (b := 5) hns rfl (by omega) (by omega) c5_b_1
    subst nc5_b_1
    refine lv_iconst (v := 0) hx hb dX3_pushes_8 (by decide) ?_
    refine lv_istore_n (lv' := [(2, .int (0 : Int32)), (0, .ref (ad 7)), (1, .ref (ad 1))]) hx hb dX3_pushes_9 rfl hl (by decide) rfl (fun ls hl => ?_)
    have cut_10 : ∀ (N : Nat) (k : Nat) (hk : k ≤ 1136) (hN : 1136 - k < N) (H : Heap) (locs : List Loc) (Sc10 : Nat → Nat → Int32) (eSc10 : Sc10 = su S 3 (tk_sh (S 3) 0 284 k)) (hM : mSt D cA ad (mA ad) s.heap H locs Sc10), ∀ (ls : Array Slot) (hl : lv_has ls 3 [(2, .int (nI k)), (0, .ref (ad 7)), (1, .ref (ad 1))]), W p l e (headSpec (ws_ yX3_pushes cX3_pushes 3 none) (rmL 1 0 0)).room s m ([.ref (ad 7), .ref (ad 1)] : List Value).toArray below meth c H locs 0 0 (MQ below (va_Qv (fun (S' : Nat → Nat → Int32) => tk_pu S S' 5 (S 1)) (mEnd D cA ad) (mA ad)) ([.ref (ad 7), .ref (ad 1)] : List Value).toArray s 0 0 (mA ad)) (F0 m 10 ls []) := by
      intro N
      induction N with
      | zero => intro k hk hN; exact absurd hN (Nat.not_lt_zero _)
      | succ N ih_10 =>
        intro k hk hN H locs Sc10 eSc10 hM ls hl
        refine lv_iload_n hx hb dX3_pushes_10 rfl (lv_at hl 0 rfl) ?_
        refine lv_sipush (v := 1136) hx hb dX3_pushes_11 (by decide) ?_
        refine lv_icmp_ge (tgt := 39) hx hb dX3_pushes_14 (by decide) (fun c14_b_5 => ?_) (fun c14_b_5 => ?_)
        · skip
          have c14_b_5 := Int32.not_lt.mpr c14_b_5
          have nc14_b_5 := nltF (a := k) (b := 1136) rfl rfl (by omega) (by omega) c14_b_5
          obtain rfl : k = 1136 := by omega
          refine lv_aload_n hx hb dX3_pushes_39 rfl (lv_at hl 1 rfl) ?_
          refine lv_dup hx hb dX3_pushes_40 rfl ?_
          refine m_get hx hb hts in_X3 hown hK hM 4 (by decide) (hts _ q1575) (v := .int (S 7 0)) (m_fld rfl (by rw [eSc10, su_n _ _ (by decide)])) dX3_pushes_41 ?_
          refine lv_iconst (v := 1) hx hb dX3_pushes_44 (by decide) ?_
          refine lv_isub hx hb dX3_pushes_45 ?_
          refine m_put hx hb hts in_X3 hown hK hM 4 0 (by decide) (hts _ q1575) rfl rfl rfl rfl dX3_pushes_46 (fun H locs S_6 eS_6 hM => ?_)
          refine lv_iconst (v := 0) hx hb dX3_pushes_49 (by decide) ?_
          refine lv_istore_n (lv' := [(2, .int (0 : Int32)), (0, .ref (ad 7)), (1, .ref (ad 1))]) hx hb dX3_pushes_50 rfl hl (by decide) rfl (fun ls hl => ?_)
          have cut_51 : ∀ (N : Nat) (k : Nat) (hk : k ≤ 284) (hN : 284 - k < N) (H : Heap) (locs : List Loc) (Sc51 : Nat → Nat → Int32) (eSc51 : Sc51 = su S_6 3 (tk_pt (S_6 3) (S 1) (284 * 4) k)) (hM : mSt D cA ad (mA ad) s.heap H locs Sc51), ∀ (ls : Array Slot) (hl : lv_has ls 3 [(2, .int (nI k)), (0, .ref (ad 7)), (1, .ref (ad 1))]), W p l e (headSpec (ws_ yX3_pushes cX3_pushes 3 none) (rmL 1 0 0)).room s m ([.ref (ad 7), .ref (ad 1)] : List Value).toArray below meth c H locs 0 0 (MQ below (va_Qv (fun (S' : Nat → Nat → Int32) => tk_pu S S' 5 (S 1)) (mEnd D cA ad) (mA ad)) ([.ref (ad 7), .ref (ad 1)] : List Value).toArray s 0 0 (mA ad)) (F0 m 51 ls []) := by
            intro N
            induction N with
            | zero => intro k hk hN; exact absurd hN (Nat.not_lt_zero _)
            | succ N ih_51 =>
              intro k hk hN H locs Sc51 eSc51 hM ls hl
              refine lv_iload_n hx hb dX3_pushes_51 rfl (lv_at hl 0 rfl) ?_
              refine lv_sipush (v := 284) hx hb dX3_pushes_52 (by decide) ?_
              refine lv_icmp_ge (tgt := 82) hx hb dX3_pushes_55 (by decide) (fun c55_b_7 => ?_) (fun c55_b_7 => ?_)
              · skip
                have c55_b_7 := Int32.not_lt.mpr c55_b_7
                have nc55_b_7 := nltF (a := k) (b := 284) rfl rfl (by omega) (by omega) c55_b_7
                obtain rfl : k = 284 := by omega
                refine lv_aload_n hx hb dX3_pushes_82 rfl (lv_at hl 1 rfl) ?_
                refine lv_dup hx hb dX3_pushes_83 rfl ?_
                refine m_get hx hb hts in_X3 hown hK hM 4 (by decide) (hts _ q1575) (v := .int ((S 7 0) - (1 : Int32))) (m_fld rfl (by rw [eSc51, su_n _ _ (by decide), eS_6, su_s, su_s])) dX3_pushes_84 ?_
                refine lv_iconst (v := 1) hx hb dX3_pushes_87 (by decide) ?_
                refine lv_iadd hx hb dX3_pushes_88 ?_
                refine m_put hx hb hts in_X3 hown hK hM 4 0 (by decide) (hts _ q1575) rfl rfl rfl rfl dX3_pushes_89 (fun H locs S_8 eS_8 hM => ?_)
                exact W.vret hx hb hr (fun t ht hW => ⟨⟨S_8, rfl, (by subst eS_8; subst eSc51; subst eS_6; subst eSc10; refine ⟨fun j h3 h7 => by simp [su_n, h3, h7], fun j h0 => by simp [su_s, su_n, h0], ?_, ?_⟩ <;> simp [su_s, su_n, tk_pn, hns, ← tk_pw_5]), by rw [ht]; exact hM.1, hM.2.1⟩, hM.2.2.F ht⟩) hM.2.2.2.2 dX3_pushes_92
              · skip
                have c55_b_7 := Int32.not_le.mp c55_b_7
                have nc55_b_7 := nltT (a := k) (b := 284) rfl rfl (by omega) (by omega) c55_b_7
                refine lv_aload_n hx hb dX3_pushes_58 rfl (lv_at hl 1 rfl) ?_
                refine m_get hx hb hts in_X3 hown hK hM 3 (by decide) (hts _ q1574) rfl dX3_pushes_59 ?_
                refine lv_sipush (v := 284) hx hb dX3_pushes_62 (by decide) ?_
                refine lv_aload_n hx hb dX3_pushes_65 rfl (lv_at hl 1 rfl) ?_
                refine m_get hx hb hts in_X3 hown hK hM 4 (by decide) (hts _ q1575) (v := .int ((S 7 0) - (1 : Int32))) (m_fld rfl (by rw [eSc51, su_n _ _ (by decide), eS_6, su_s, su_s])) dX3_pushes_66 ?_
                refine lv_imul hx hb dX3_pushes_69 ?_
                refine lv_iload_n hx hb dX3_pushes_70 rfl (lv_at hl 0 rfl) ?_
                refine lv_iadd hx hb dX3_pushes_71 ?_
                refine lv_aload_n hx hb dX3_pushes_72 rfl (lv_at hl 2 rfl) ?_
                refine lv_iload_n hx hb dX3_pushes_73 rfl (lv_at hl 0 rfl) ?_
                refine m_iald hx hb hK hM 1 2 rfl k rfl (by omega) (v := (S 1 k)) (by rw [eSc51, su_n _ _ (by decide), eS_6, su_n _ _ (by decide), eSc10, su_n _ _ (by decide)]) dX3_pushes_74 (by decide) ?_
                refine m_iast hx hb hK hM 3 4 rfl (fun _ => rfl) ((284 * 4) + k) (ixA (ixM rfl (ixS hns rfl (by decide))) rfl) (by omega) dX3_pushes_75 (by decide) (fun H locs S_9 eS_9 hM => ?_)
                refine lv_iinc (v := (nI (k + 1))) (lv' := [(2, .int (nI (k + 1))), (0, .ref (ad 7)), (1, .ref (ad 1))]) hx hb dX3_pushes_76 hl (k := 0) rfl (ixA rfl rfl) (by decide) rfl (fun ls hl => ?_)
                refine lv_goto (tgt := 51) hx hb dX3_pushes_79 (by decide) ?_
                exact ih_51 (k + 1) (by omega) (by omega) _ _ _ (by rw [eS_9, eSc51, su_su, su_s, ← tk_pt_s]) hM ls (lv_sub hl [0, 1, 2] rfl)
          exact cut_51 _ 0 (by omega) (Nat.lt_succ_self _) _ _ _ (by rw [tk_pt_0, su_self]) hM ls (lv_sub hl [0, 1, 2] rfl)
        · skip
          have c14_b_5 := Int32.not_le.mp c14_b_5
          have nc14_b_5 := nltT (a := k) (b := 1136) rfl rfl (by omega) (by omega) c14_b_5
          refine lv_aload_n hx hb dX3_pushes_17 rfl (lv_at hl 1 rfl) ?_
          refine m_get hx hb hts in_X3 hown hK hM 3 (by decide) (hts _ q1574) rfl dX3_pushes_18 ?_
          refine lv_iload_n hx hb dX3_pushes_21 rfl (lv_at hl 0 rfl) ?_
          refine lv_aload_n hx hb dX3_pushes_22 rfl (lv_at hl 1 rfl) ?_
          refine m_get hx hb hts in_X3 hown hK hM 3 (by decide) (hts _ q1574) rfl dX3_pushes_23 ?_
          refine lv_iload_n hx hb dX3_pushes_26 rfl (lv_at hl 0 rfl) ?_
          refine lv_sipush (v := 284) hx hb dX3_pushes_27 (by decide) ?_
          refine lv_iadd hx hb dX3_pushes_30 ?_
          refine m_iald hx hb hK hM 3 4 rfl (k + 284) (ixA rfl rfl) (by omega) (v := (S 3 (k + 284))) (by rw [eSc10, su_s, tk_sh_r _ (by decide)]) dX3_pushes_31 (by decide) ?_
          refine m_iast hx hb hK hM 3 4 rfl (fun _ => rfl) k rfl (by omega) dX3_pushes_32 (by decide) (fun H locs S_10 eS_10 hM => ?_)
          refine lv_iinc (v := (nI (k + 1))) (lv' := [(2, .int (nI (k + 1))), (0, .ref (ad 7)), (1, .ref (ad 1))]) hx hb dX3_pushes_33 hl (k := 0) rfl (ixA rfl rfl) (by decide) rfl (fun ls hl => ?_)
          refine lv_goto (tgt := 10) hx hb dX3_pushes_36 (by decide) ?_
          exact ih_10 (k + 1) (by omega) (by omega) _ _ _ (by rw [eS_10, eSc10, su_su, su_s, ← tk_sh_s _ _ _ _ (Nat.zero_le _)]) hM ls (lv_sub hl [0, 1, 2] rfl)
    exact cut_10 _ 0 (by omega) (Nat.lt_succ_self _) _ _ _ (by rw [tk_sh_0, su_self]) hM ls (lv_sub hl [0, 1, 2] rfl)

set_option maxHeartbeats 4000000 in
set_option maxRecDepth 100000 in
theorem met_X3_pushes2 (l : Launch) (D : va_G) (cA : Nat → ClassId) (ad : Nat → Nat) (S : Nat → Nat → Int32) (n0 : Nat) (hn : n0 ≤ 5) (hns : S 7 0 = nI n0) : Met l yX3_pushes (ws_ yX3_pushes cX3_pushes 3 none) (rmL 1 0 0) (mPre D cA ad S [.ref (ad 2)]) (va_Qv (fun (S' : Nat → Nat → Int32) => tk_pu S S' n0 (S 2)) (mEnd D cA ad) (mA ad)) 0 0 (mA ad) := by
  refine Met.ofW (cc := cX3_pushes) (maxL := 3) (ret := none) (by decide) rfl ?_
  intro p e s m args below meth c s₁ Bd hml hv
  obtain ⟨rfl, hP, hK, hD⟩ := hv
  have hx := Bd.exec
  have hb := Bd.bytes
  have hr := Bd.returns
  have hts := atoms_spec (ws := (ws_ yX3_pushes cX3_pushes 3 none)) Bd.pre
  have hts : ∀ w ∈ lw_all, w.before _ s = true := fun w h => hts w (List.mem_cons_of_mem _ h)
  have hown : s.vm.findClass RX3 = some m.cls := findClass_of_methodNamed Bd.named
  have hlocks := Bd.notSynchronized
  have hM : mSt D cA ad (mA ad) s.heap s.heap [] S := ⟨hP, hD, va_S.rf⟩
  have hl := lv_entry ([.ref (ad 7), .ref (ad 2)]) (n := 3) (Nat.le_of_ble_eq_true rfl)
  rw [lg_entry_eq]
  generalize (lg_sl ([.ref (ad 7), .ref (ad 2)]) ++ List.replicate (3 - (lg_sl ([.ref (ad 7), .ref (ad 2)])).length) Slot.unset).toArray = ls at hl ⊢
  have hl : lv_has ls 3 [(0, .ref (ad 7)), (1, .ref (ad 2))] := hl
  refine lv_aload_n hx hb dX3_pushes_0 rfl (lv_at hl 0 rfl) ?_
  refine m_get hx hb hts in_X3 hown hK hM 4 (by decide) (hts _ q1575) rfl dX3_pushes_1 ?_
  refine lv_iconst (v := 5) hx hb dX3_pushes_4 (by decide) ?_
  refine lv_icmp_ne (tgt := 49) hx hb dX3_pushes_5 (by decide) (fun c5_b_1 => ?_) (fun c5_b_1 => ?_)
  · skip
    have nc5_b_1 := neqF (a := n0) (b := 5) hns rfl (by omega) (by omega) c5_b_1
    refine lv_iconst (v := 0) hx hb dX3_pushes_49 (by decide) ?_
    refine lv_istore_n (lv' := [(2, .int (0 : Int32)), (0, .ref (ad 7)), (1, .ref (ad 2))]) hx hb dX3_pushes_50 rfl hl (by decide) rfl (fun ls hl => ?_)
    have cut_51 : ∀ (N : Nat) (k : Nat) (hk : k ≤ 284) (hN : 284 - k < N) (H : Heap) (locs : List Loc) (Sc51 : Nat → Nat → Int32) (eSc51 : Sc51 = su S 3 (tk_pt (S 3) (S 2) (284 * n0) k)) (hM : mSt D cA ad (mA ad) s.heap H locs Sc51), ∀ (ls : Array Slot) (hl : lv_has ls 3 [(2, .int (nI k)), (0, .ref (ad 7)), (1, .ref (ad 2))]), W p l e (headSpec (ws_ yX3_pushes cX3_pushes 3 none) (rmL 1 0 0)).room s m ([.ref (ad 7), .ref (ad 2)] : List Value).toArray below meth c H locs 0 0 (MQ below (va_Qv (fun (S' : Nat → Nat → Int32) => tk_pu S S' n0 (S 2)) (mEnd D cA ad) (mA ad)) ([.ref (ad 7), .ref (ad 2)] : List Value).toArray s 0 0 (mA ad)) (F0 m 51 ls []) := by
      intro N
      induction N with
      | zero => intro k hk hN; exact absurd hN (Nat.not_lt_zero _)
      | succ N ih_51 =>
        intro k hk hN H locs Sc51 eSc51 hM ls hl
        refine lv_iload_n hx hb dX3_pushes_51 rfl (lv_at hl 0 rfl) ?_
        refine lv_sipush (v := 284) hx hb dX3_pushes_52 (by decide) ?_
        refine lv_icmp_ge (tgt := 82) hx hb dX3_pushes_55 (by decide) (fun c55_b_2 => ?_) (fun c55_b_2 => ?_)
        · skip
          have c55_b_2 := Int32.not_lt.mpr c55_b_2
          have nc55_b_2 := nltF (a := k) (b := 284) rfl rfl (by omega) (by omega) c55_b_2
          obtain rfl : k = 284 := by omega
          refine lv_aload_n hx hb dX3_pushes_82 rfl (lv_at hl 1 rfl) ?_
          refine lv_dup hx hb dX3_pushes_83 rfl ?_
          refine m_get hx hb hts in_X3 hown hK hM 4 (by decide) (hts _ q1575) (v := .int (S 7 0)) (m_fld rfl (by rw [eSc51, su_n _ _ (by decide)])) dX3_pushes_84 ?_
          refine lv_iconst (v := 1) hx hb dX3_pushes_87 (by decide) ?_
          refine lv_iadd hx hb dX3_pushes_88 ?_
          refine m_put hx hb hts in_X3 hown hK hM 4 0 (by decide) (hts _ q1575) rfl rfl rfl rfl dX3_pushes_89 (fun H locs S_3 eS_3 hM => ?_)
          exact W.vret hx hb hr (fun t ht hW => ⟨⟨S_3, rfl, (by subst eS_3; subst eSc51; refine ⟨fun j h3 h7 => by simp [su_n, h3, h7], fun j h0 => by simp [su_s, su_n, h0], ?_, ?_⟩ <;> simp [su_s, su_n, tk_pn, hns, tk_pw_n, nc5_b_1, nI_1]), by rw [ht]; exact hM.1, hM.2.1⟩, hM.2.2.F ht⟩) hM.2.2.2.2 dX3_pushes_92
        · skip
          have c55_b_2 := Int32.not_le.mp c55_b_2
          have nc55_b_2 := nltT (a := k) (b := 284) rfl rfl (by omega) (by omega) c55_b_2
          refine lv_aload_n hx hb dX3_pushes_58 rfl (lv_at hl 1 rfl) ?_
          refine m_get hx hb hts in_X3 hown hK hM 3 (by decide) (hts _ q1574) rfl dX3_pushes_59 ?_
          refine lv_sipush (v := 284) hx hb dX3_pushes_62 (by decide) ?_
          refine lv_aload_n hx hb dX3_pushes_65 rfl (lv_at hl 1 rfl) ?_
          refine m_get hx hb hts in_X3 hown hK hM 4 (by decide) (hts _ q1575) (v := .int (S 7 0)) (m_fld rfl (by rw [eSc51, su_n _ _ (by decide)])) dX3_pushes_66 ?_
          refine lv_imul hx hb dX3_pushes_69 ?_
          refine lv_iload_n hx hb dX3_pushes_70 rfl (lv_at hl 0 rfl) ?_
          refine lv_iadd hx hb dX3_pushes_71 ?_
          refine lv_aload_n hx hb dX3_pushes_72 rfl (lv_at hl 2 rfl) ?_
          refine lv_iload_n hx hb dX3_pushes_73 rfl (lv_at hl 0 rfl) ?_
          refine m_iald hx hb hK hM 2 3 rfl k rfl (by omega) (v := (S 2 k)) (by rw [eSc51, su_n _ _ (by decide)]) dX3_pushes_74 (by decide) ?_
          refine m_iast hx hb hK hM 3 4 rfl (fun _ => rfl) ((284 * n0) + k) (ixA (ixM rfl hns) rfl) (by omega) dX3_pushes_75 (by decide) (fun H locs S_4 eS_4 hM => ?_)
          refine lv_iinc (v := (nI (k + 1))) (lv' := [(2, .int (nI (k + 1))), (0, .ref (ad 7)), (1, .ref (ad 2))]) hx hb dX3_pushes_76 hl (k := 0) rfl (ixA rfl rfl) (by decide) rfl (fun ls hl => ?_)
          refine lv_goto (tgt := 51) hx hb dX3_pushes_79 (by decide) ?_
          exact ih_51 (k + 1) (by omega) (by omega) _ _ _ (by rw [eS_4, eSc51, su_su, su_s, ← tk_pt_s]) hM ls (lv_sub hl [0, 1, 2] rfl)
    exact cut_51 _ 0 (by omega) (Nat.lt_succ_self _) _ _ _ (by rw [tk_pt_0, su_self]) hM ls (lv_sub hl [0, 1, 2] rfl)
  · skip
    have nc5_b_1 := neqT (a := n0) (b := 5) hns rfl (by omega) (by omega) c5_b_1
    subst nc5_b_1
    refine lv_iconst (v := 0) hx hb dX3_pushes_8 (by decide) ?_
    refine lv_istore_n (lv' := [(2, .int (0 : Int32)), (0, .ref (ad 7)), (1, .ref (ad 2))]) hx hb dX3_pushes_9 rfl hl (by decide) rfl (fun ls hl => ?_)
    have cut_10 : ∀ (N : Nat) (k : Nat) (hk : k ≤ 1136) (hN : 1136 - k < N) (H : Heap) (locs : List Loc) (Sc10 : Nat → Nat → Int32) (eSc10 : Sc10 = su S 3 (tk_sh (S 3) 0 284 k)) (hM : mSt D cA ad (mA ad) s.heap H locs Sc10), ∀ (ls : Array Slot) (hl : lv_has ls 3 [(2, .int (nI k)), (0, .ref (ad 7)), (1, .ref (ad 2))]), W p l e (headSpec (ws_ yX3_pushes cX3_pushes 3 none) (rmL 1 0 0)).room s m ([.ref (ad 7), .ref (ad 2)] : List Value).toArray below meth c H locs 0 0 (MQ below (va_Qv (fun (S' : Nat → Nat → Int32) => tk_pu S S' 5 (S 2)) (mEnd D cA ad) (mA ad)) ([.ref (ad 7), .ref (ad 2)] : List Value).toArray s 0 0 (mA ad)) (F0 m 10 ls []) := by
      intro N
      induction N with
      | zero => intro k hk hN; exact absurd hN (Nat.not_lt_zero _)
      | succ N ih_10 =>
        intro k hk hN H locs Sc10 eSc10 hM ls hl
        refine lv_iload_n hx hb dX3_pushes_10 rfl (lv_at hl 0 rfl) ?_
        refine lv_sipush (v := 1136) hx hb dX3_pushes_11 (by decide) ?_
        refine lv_icmp_ge (tgt := 39) hx hb dX3_pushes_14 (by decide) (fun c14_b_5 => ?_) (fun c14_b_5 => ?_)
        · skip
          have c14_b_5 := Int32.not_lt.mpr c14_b_5
          have nc14_b_5 := nltF (a := k) (b := 1136) rfl rfl (by omega) (by omega) c14_b_5
          obtain rfl : k = 1136 := by omega
          refine lv_aload_n hx hb dX3_pushes_39 rfl (lv_at hl 1 rfl) ?_
          refine lv_dup hx hb dX3_pushes_40 rfl ?_
          refine m_get hx hb hts in_X3 hown hK hM 4 (by decide) (hts _ q1575) (v := .int (S 7 0)) (m_fld rfl (by rw [eSc10, su_n _ _ (by decide)])) dX3_pushes_41 ?_
          refine lv_iconst (v := 1) hx hb dX3_pushes_44 (by decide) ?_
          refine lv_isub hx hb dX3_pushes_45 ?_
          refine m_put hx hb hts in_X3 hown hK hM 4 0 (by decide) (hts _ q1575) rfl rfl rfl rfl dX3_pushes_46 (fun H locs S_6 eS_6 hM => ?_)
          refine lv_iconst (v := 0) hx hb dX3_pushes_49 (by decide) ?_
          refine lv_istore_n (lv' := [(2, .int (0 : Int32)), (0, .ref (ad 7)), (1, .ref (ad 2))]) hx hb dX3_pushes_50 rfl hl (by decide) rfl (fun ls hl => ?_)
          have cut_51 : ∀ (N : Nat) (k : Nat) (hk : k ≤ 284) (hN : 284 - k < N) (H : Heap) (locs : List Loc) (Sc51 : Nat → Nat → Int32) (eSc51 : Sc51 = su S_6 3 (tk_pt (S_6 3) (S 2) (284 * 4) k)) (hM : mSt D cA ad (mA ad) s.heap H locs Sc51), ∀ (ls : Array Slot) (hl : lv_has ls 3 [(2, .int (nI k)), (0, .ref (ad 7)), (1, .ref (ad 2))]), W p l e (headSpec (ws_ yX3_pushes cX3_pushes 3 none) (rmL 1 0 0)).room s m ([.ref (ad 7), .ref (ad 2)] : List Value).toArray below meth c H locs 0 0 (MQ below (va_Qv (fun (S' : Nat → Nat → Int32) => tk_pu S S' 5 (S 2)) (mEnd D cA ad) (mA ad)) ([.ref (ad 7), .ref (ad 2)] : List Value).toArray s 0 0 (mA ad)) (F0 m 51 ls []) := by
            intro N
            induction N with
            | zero => intro k hk hN; exact absurd hN (Nat.not_lt_zero _)
            | succ N ih_51 =>
              intro k hk hN H locs Sc51 eSc51 hM ls hl
              refine lv_iload_n hx hb dX3_pushes_51 rfl (lv_at hl 0 rfl) ?_
              refine lv_sipush (v := 284) hx hb dX3_pushes_52 (by decide) ?_
              refine lv_icmp_ge (tgt := 82) hx hb dX3_pushes_55 (by decide) (fun c55_b_7 => ?_) (fun c55_b_7 => ?_)
              · skip
                have c55_b_7 := Int32.not_lt.mpr c55_b_7
                have nc55_b_7 := nltF (a := k) (b := 284) rfl rfl (by omega) (by omega) c55_b_7
                obtain rfl : k = 284 := by omega
                refine lv_aload_n hx hb dX3_pushes_82 rfl (lv_at hl 1 rfl) ?_
                refine lv_dup hx hb dX3_pushes_83 rfl ?_
                refine m_get hx hb hts in_X3 hown hK hM 4 (by decide) (hts _ q1575) (v := .int ((S 7 0) - (1 : Int32))) (m_fld rfl (by rw [eSc51, su_n _ _ (by decide), eS_6, su_s, su_s])) dX3_pushes_84 ?_
                refine lv_iconst (v := 1) hx hb dX3_pushes_87 (by decide) ?_
                refine lv_iadd hx hb dX3_pushes_88 ?_
                refine m_put hx hb hts in_X3 hown hK hM 4 0 (by decide) (hts _ q1575) rfl rfl rfl rfl dX3_pushes_89 (fun H locs S_8 eS_8 hM => ?_)
                exact W.vret hx hb hr (fun t ht hW => ⟨⟨S_8, rfl, (by subst eS_8; subst eSc51; subst eS_6; subst eSc10; refine ⟨fun j h3 h7 => by simp [su_n, h3, h7], fun j h0 => by simp [su_s, su_n, h0], ?_, ?_⟩ <;> simp [su_s, su_n, tk_pn, hns, ← tk_pw_5]), by rw [ht]; exact hM.1, hM.2.1⟩, hM.2.2.F ht⟩) hM.2.2.2.2 dX3_pushes_92
              · skip
                have c55_b_7 := Int32.not_le.mp c55_b_7
                have nc55_b_7 := nltT (a := k) (b := 284) rfl rfl (by omega) (by omega) c55_b_7
                refine lv_aload_n hx hb dX3_pushes_58 rfl (lv_at hl 1 rfl) ?_
                refine m_get hx hb hts in_X3 hown hK hM 3 (by decide) (hts _ q1574) rfl dX3_pushes_59 ?_
                refine lv_sipush (v := 284) hx hb dX3_pushes_62 (by decide) ?_
                refine lv_aload_n hx hb dX3_pushes_65 rfl (lv_at hl 1 rfl) ?_
                refine m_get hx hb hts in_X3 hown hK hM 4 (by decide) (hts _ q1575) (v := .int ((S 7 0) - (1 : Int32))) (m_fld rfl (by rw [eSc51, su_n _ _ (by decide), eS_6, su_s, su_s])) dX3_pushes_66 ?_
                refine lv_imul hx hb dX3_pushes_69 ?_
                refine lv_iload_n hx hb dX3_pushes_70 rfl (lv_at hl 0 rfl) ?_
                refine lv_iadd hx hb dX3_pushes_71 ?_
                refine lv_aload_n hx hb dX3_pushes_72 rfl (lv_at hl 2 rfl) ?_
                refine lv_iload_n hx hb dX3_pushes_73 rfl (lv_at hl 0 rfl) ?_
                refine m_iald hx hb hK hM 2 3 rfl k rfl (by omega) (v := (S 2 k)) (by rw [eSc51, su_n _ _ (by decide), eS_6, su_n _ _ (by decide), eSc10, su_n _ _ (by decide)]) dX3_pushes_74 (by decide) ?_
                refine m_iast hx hb hK hM 3 4 rfl (fun _ => rfl) ((284 * 4) + k) (ixA (ixM rfl (ixS hns rfl (by decide))) rfl) (by omega) dX3_pushes_75 (by decide) (fun H locs S_9 eS_9 hM => ?_)
                refine lv_iinc (v := (nI (k + 1))) (lv' := [(2, .int (nI (k + 1))), (0, .ref (ad 7)), (1, .ref (ad 2))]) hx hb dX3_pushes_76 hl (k := 0) rfl (ixA rfl rfl) (by decide) rfl (fun ls hl => ?_)
                refine lv_goto (tgt := 51) hx hb dX3_pushes_79 (by decide) ?_
                exact ih_51 (k + 1) (by omega) (by omega) _ _ _ (by rw [eS_9, eSc51, su_su, su_s, ← tk_pt_s]) hM ls (lv_sub hl [0, 1, 2] rfl)
          exact cut_51 _ 0 (by omega) (Nat.lt_succ_self _) _ _ _ (by rw [tk_pt_0, su_self]) hM ls (lv_sub hl [0, 1, 2] rfl)
        · skip
          have c14_b_5 := Int32.not_le.mp c14_b_5
          have nc14_b_5 := nltT (a := k) (b := 1136) rfl rfl (by omega) (by omega) c14_b_5
          refine lv_aload_n hx hb dX3_pushes_17 rfl (lv_at hl 1 rfl) ?_
          refine m_get hx hb hts in_X3 hown hK hM 3 (by decide) (hts _ q1574) rfl dX3_pushes_18 ?_
          refine lv_iload_n hx hb dX3_pushes_21 rfl (lv_at hl 0 rfl) ?_
          refine lv_aload_n hx hb dX3_pushes_22 rfl (lv_at hl 1 rfl) ?_
          refine m_get hx hb hts in_X3 hown hK hM 3 (by decide) (hts _ q1574) rfl dX3_pushes_23 ?_
          refine lv_iload_n hx hb dX3_pushes_26 rfl (lv_at hl 0 rfl) ?_
          refine lv_sipush (v := 284) hx hb dX3_pushes_27 (by decide) ?_
          refine lv_iadd hx hb dX3_pushes_30 ?_
          refine m_iald hx hb hK hM 3 4 rfl (k + 284) (ixA rfl rfl) (by omega) (v := (S 3 (k + 284))) (by rw [eSc10, su_s, tk_sh_r _ (by decide)]) dX3_pushes_31 (by decide) ?_
          refine m_iast hx hb hK hM 3 4 rfl (fun _ => rfl) k rfl (by omega) dX3_pushes_32 (by decide) (fun H locs S_10 eS_10 hM => ?_)
          refine lv_iinc (v := (nI (k + 1))) (lv' := [(2, .int (nI (k + 1))), (0, .ref (ad 7)), (1, .ref (ad 2))]) hx hb dX3_pushes_33 hl (k := 0) rfl (ixA rfl rfl) (by decide) rfl (fun ls hl => ?_)
          refine lv_goto (tgt := 10) hx hb dX3_pushes_36 (by decide) ?_
          exact ih_10 (k + 1) (by omega) (by omega) _ _ _ (by rw [eS_10, eSc10, su_su, su_s, ← tk_sh_s _ _ _ _ (Nat.zero_le _)]) hM ls (lv_sub hl [0, 1, 2] rfl)
    exact cut_10 _ 0 (by omega) (Nat.lt_succ_self _) _ _ _ (by rw [tk_sh_0, su_self]) hM ls (lv_sub hl [0, 1, 2] rfl)

set_option maxHeartbeats 4000000 in
set_option maxRecDepth 100000 in
theorem met_X3_acted (l : Launch) (D : va_G) (cA : Nat → ClassId) (ad : Nat → Nat) (S : Nat → Nat → Int32) (n0 : Nat) (x0 : Int32) (hn : n0 ≤ 5) (hns : S 7 0 = nI n0) : Met l yX3_acted (ws_ yX3_acted cX3_acted 2 (some .int)) (rmL 2 0 0) (mPre D cA ad S [.int x0]) (va_Qi (fun (r : Int32) (S' : Nat → Nat → Int32) => r = x0 ∧ tk_ac S S' n0 x0) (mEnd D cA ad) (mA ad)) 0 0 (mA ad) := by
  refine Met.ofW (cc := cX3_acted) (maxL := 2) (ret := (some .int)) (by decide) rfl ?_
  intro p e s m args below meth c s₁ Bd hml hv
  obtain ⟨rfl, hP, hK, hD⟩ := hv
  have hx := Bd.exec
  have hb := Bd.bytes
  have hr := Bd.returns
  have hts := atoms_spec (ws := (ws_ yX3_acted cX3_acted 2 (some .int))) Bd.pre
  have hts : ∀ w ∈ lw_all, w.before _ s = true := fun w h => hts w (List.mem_cons_of_mem _ h)
  have hown : s.vm.findClass RX3 = some m.cls := findClass_of_methodNamed Bd.named
  have hlocks := Bd.notSynchronized
  have hM : mSt D cA ad (mA ad) s.heap s.heap [] S := ⟨hP, hD, va_S.rf⟩
  have hl := lv_entry ([.ref (ad 7), .int x0]) (n := 2) (Nat.le_of_ble_eq_true rfl)
  rw [lg_entry_eq]
  generalize (lg_sl ([.ref (ad 7), .int x0]) ++ List.replicate (2 - (lg_sl ([.ref (ad 7), .int x0])).length) Slot.unset).toArray = ls at hl ⊢
  have hl : lv_has ls 2 [(0, .ref (ad 7)), (1, .int x0)] := hl
  refine lv_iload_n hx hb dX3_acted_0 rfl (lv_at hl 1 rfl) ?_
  refine lv_ldc (v := -100001) hx hb hown (hts _ q1636) dX3_acted_1 ?_
  refine lv_icmp_le (tgt := 14) hx hb dX3_acted_3 (by decide) (fun c3_b_1 => ?_) (fun c3_b_1 => ?_)
  · skip
    have c3_b_1 := Int32.not_lt.mpr c3_b_1
    refine lv_iload_n hx hb dX3_acted_14 rfl (lv_at hl 1 rfl) ?_
    exact W.iret hx hb hr (fun t ht hW => ⟨⟨_, S, rfl, (by first | exact ⟨rfl, fun _ => by assumption, fun q => absurd c3_b_1 q⟩ | exact ⟨rfl, fun q => absurd q c3_b_1, fun _ => rfl⟩), by rw [ht]; exact hM.1, hM.2.1⟩, hM.2.2.F ht⟩) hM.2.2.2.2 dX3_acted_15
  · skip
    have c3_b_1 := Int32.not_le.mp c3_b_1
    refine lv_aload_n hx hb dX3_acted_6 rfl (lv_at hl 0 rfl) ?_
    refine lv_aload_n hx hb dX3_acted_7 rfl (lv_at hl 0 rfl) ?_
    refine m_get hx hb hts in_X3 hown hK hM 1 (by decide) (hts _ q1572) rfl dX3_acted_8 ?_
    refine va_callv (va_runV (As := [.ref (ad 1)]) (rest := []) ⟨hx, hb, hml, hown, hts⟩ (met_X3_pushes1 l D cA ad S n0 (by first | assumption | omega | decide) (Eq.trans rfl hns)) (cwV 1 hts (lw_V q1641 q1643 qs27 q71 q1644) rfl rfl rfl (by decide +kernel) ⟨Nat.le_of_ble_eq_true rfl, Nat.le_of_ble_eq_true rfl⟩) (mPreV hK hM) rfl rfl hl.1 rfl (lv_room (Nat.le_of_ble_eq_true rfl)) dX3_acted_11 ⟨Nat.le_of_ble_eq_true rfl, Nat.le_of_ble_eq_true rfl⟩) hM.2.2 (fun _ _ h => h) (fun _ h => h) (fun S_3 t H1 locs ht hvm hr_2 hB hz hk hS => ?_)
    have hM : mSt D cA ad (mA ad) s.heap H1 locs S_3 := ⟨by rw [← ht]; exact hB.1, hB.2, hS⟩
    clear hB ht; generalize H1 = H at hM ⊢; clear hz hk hS
    refine W.widen (k := 0) (n := 0) (Nat.le_refl 0) (Nat.le_refl 0) ?_
    refine lv_iload_n hx hb dX3_acted_14 rfl (lv_at hl 1 rfl) ?_
    exact W.iret hx hb hr (fun t ht hW => ⟨⟨_, S_3, rfl, (by first | exact ⟨rfl, fun _ => by assumption, fun q => absurd c3_b_1 q⟩ | exact ⟨rfl, fun q => absurd q c3_b_1, fun _ => rfl⟩), by rw [ht]; exact hM.1, hM.2.1⟩, hM.2.2.F ht⟩) hM.2.2.2.2 dX3_acted_15
