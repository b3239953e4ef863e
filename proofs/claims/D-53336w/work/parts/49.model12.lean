set_option maxHeartbeats 4000000 in
set_option maxRecDepth 100000 in
theorem met_X3_append (l : Launch) (D : va_G) (cA : Nat → ClassId) (ad : Nat → Nat) (S : Nat → Nat → Int32) (x0 : Int32) (L0 : Nat) (hL : L0 ≤ 140) (e_L0 : S 7 1 = nI L0) : Met l yX3_append (ws_ yX3_append cX3_append 2 (some .int)) (rmL 2 0 0) (mPre D cA ad S [.int x0]) (va_Qi (fun (r : Int32) (S' : Nat → Nat → Int32) => r = (tk_app S L0 x0).1 ∧ S' = (tk_app S L0 x0).2) (mEnd D cA ad) (mA ad)) 0 0 (mA ad) := by
  refine Met.ofW (cc := cX3_append) (maxL := 2) (ret := (some .int)) (by decide) rfl ?_
  intro p e s m args below meth c s₁ Bd hml hv
  obtain ⟨rfl, hP, hK, hD⟩ := hv
  have hx := Bd.exec
  have hb := Bd.bytes
  have hr := Bd.returns
  have hts := atoms_spec (ws := (ws_ yX3_append cX3_append 2 (some .int))) Bd.pre
  have hts : ∀ w ∈ lw_all, w.before _ s = true := fun w h => hts w (List.mem_cons_of_mem _ h)
  have hown : s.vm.findClass RX3 = some m.cls := findClass_of_methodNamed Bd.named
  have hlocks := Bd.notSynchronized
  have hM : mSt D cA ad (mA ad) s.heap s.heap [] S := ⟨hP, hD, va_S.rf⟩
  have hl := lv_entry ([.ref (ad 7), .int x0]) (n := 2) (Nat.le_of_ble_eq_true rfl)
  rw [lg_entry_eq]
  generalize (lg_sl ([.ref (ad 7), .int x0]) ++ List.replicate (2 - (lg_sl ([.ref (ad 7), .int x0])).length) Slot.unset).toArray = ls at hl ⊢
  have hl : lv_has ls 2 [(0, .ref (ad 7)), (1, .int x0)] := hl
  refine lv_iload_n hx hb dX3_append_0 rfl (lv_at hl 1 rfl) ?_
  refine lv_iconst (v := 1) hx hb dX3_append_1 (by decide) ?_
  refine lv_sipush (v := 255) hx hb dX3_append_2 (by decide) ?_
  refine vp_callSi (W.runS (As := [.int x0, .int (1 : Int32), .int (255 : Int32)]) (rest := []) ⟨hx, hb, hml, hown, hts⟩ (met_X3_in l x0 (1 : Int32) (255 : Int32)) (va_cwS 3 hts (lw_S q1633 q1634 q71 q1635) rfl rfl rfl (by decide +kernel) ⟨Nat.le_of_ble_eq_true rfl, Nat.le_of_ble_eq_true rfl⟩) ⟨fun a U g mk q => q, fun U hU hW => ⟨rfl, trivial⟩⟩ rfl rfl hl.1 rfl (lv_room (Nat.le_of_ble_eq_true rfl)) dX3_append_5 ⟨Nat.le_of_ble_eq_true rfl, Nat.le_of_ble_eq_true rfl⟩) (fun r_1 hr_1 => ?_)
  rcases hr_1 with ⟨er_hr_1, hr_1⟩ | ⟨er_hr_1, hr_1⟩
  · subst er_hr_1
    refine lv_if_ne (tgt := 14) hx hb dX3_append_8 (by decide) (fun _ => ?_) (fun c_ => absurd c_ (by decide))
    refine lv_aload_n hx hb dX3_append_14 rfl (lv_at hl 0 rfl) ?_
    refine m_get hx hb hts in_X3 hown hK hM 6 (by decide) (hts _ q1577) rfl dX3_append_15 ?_
    refine lv_sipush (v := 140) hx hb dX3_append_18 (by decide) ?_
    refine lv_icmp_ne (tgt := 27) hx hb dX3_append_21 (by decide) (fun c21_b_2 => ?_) (fun c21_b_2 => ?_)
    · skip
      have nc21_b_2 := neqF (a := L0) (b := 140) e_L0 rfl (by omega) (by omega) c21_b_2
      refine lv_aload_n hx hb dX3_append_27 rfl (lv_at hl 0 rfl) ?_
      refine m_get hx hb hts in_X3 hown hK hM 5 (by decide) (hts _ q1576) rfl dX3_append_28 ?_
      refine lv_aload_n hx hb dX3_append_31 rfl (lv_at hl 0 rfl) ?_
      refine m_get hx hb hts in_X3 hown hK hM 6 (by decide) (hts _ q1577) rfl dX3_append_32 ?_
      refine lv_iload_n hx hb dX3_append_35 rfl (lv_at hl 1 rfl) ?_
      refine lv_i2c hx hb dX3_append_36 rfl ?_
      refine m_cast hx hb hK hM L0 e_L0 (by omega) dX3_append_37 (fun H locs S_3 eS_3 hM => ?_)
      refine lv_aload_n hx hb dX3_append_38 rfl (lv_at hl 0 rfl) ?_
      refine lv_dup hx hb dX3_append_39 rfl ?_
      refine m_get hx hb hts in_X3 hown hK hM 6 (by decide) (hts _ q1577) (v := .int (S 7 1)) (m_fld rfl (by rw [eS_3, su_n _ _ (by decide)])) dX3_append_40 ?_
      refine lv_iconst (v := 1) hx hb dX3_append_43 (by decide) ?_
      refine lv_iadd hx hb dX3_append_44 ?_
      refine m_put hx hb hts in_X3 hown hK hM 6 1 (by decide) (hts _ q1577) rfl rfl rfl rfl dX3_append_45 (fun H locs S_4 eS_4 hM => ?_)
      refine lv_aload_n hx hb dX3_append_48 rfl (lv_at hl 0 rfl) ?_
      refine m_get hx hb hts in_X3 hown hK hM 6 (by decide) (hts _ q1577) (v := .int ((S 7 1) + (1 : Int32))) (m_fld rfl (by rw [eS_4, su_s, su_s])) dX3_append_49 ?_
      exact W.iret hx hb hr (fun t ht hW => ⟨⟨_, S_4, rfl, (by subst eS_4; subst eS_3; exact ⟨by simp [tk_app, hr_1, nc21_b_2, e_L0, nI_1], by simp [tk_app, hr_1, nc21_b_2, tk_chr hr_1, su_s, su_n, e_L0, nI_1]⟩), by rw [ht]; exact hM.1, hM.2.1⟩, hM.2.2.F ht⟩) hM.2.2.2.2 dX3_append_52
    · skip
      have nc21_b_2 := neqT (a := L0) (b := 140) e_L0 rfl (by omega) (by omega) c21_b_2
      subst nc21_b_2
      refine lv_ldc (v := -100003) hx hb hown (hts _ q1677) dX3_append_24 ?_
      exact W.iret hx hb hr (fun t ht hW => ⟨⟨_, S, rfl, (by exact ⟨by simp [tk_app, hr_1, c21_b_2], by simp [tk_app, hr_1, c21_b_2]⟩), by rw [ht]; exact hM.1, hM.2.1⟩, hM.2.2.F ht⟩) hM.2.2.2.2 dX3_append_26
  · subst er_hr_1
    refine lv_if_ne (tgt := 14) hx hb dX3_append_8 (by decide) (fun c_ => absurd (by decide) c_) (fun _ => ?_)
    refine lv_ldc (v := -100001) hx hb hown (hts _ q1636) dX3_append_11 ?_
    exact W.iret hx hb hr (fun t ht hW => ⟨⟨_, S, rfl, (by exact ⟨by simp [tk_app, hr_1], by simp [tk_app, hr_1]⟩), by rw [ht]; exact hM.1, hM.2.1⟩, hM.2.2.F ht⟩) hM.2.2.2.2 dX3_append_13

set_option maxHeartbeats 4000000 in
set_option maxRecDepth 100000 in
theorem met_X3_clearText (l : Launch) (D : va_G) (cA : Nat → ClassId) (ad : Nat → Nat) (S : Nat → Nat → Int32) : Met l yX3_clearText (ws_ yX3_clearText cX3_clearText 2 (some .int)) (rmL 1 0 0) (mPre D cA ad S []) (va_Qi (fun (r : Int32) (S' : Nat → Nat → Int32) => r = S 7 1 ∧ S' = su S 7 (su (S 7) 1 0)) (mEnd D cA ad) (mA ad)) 0 0 (mA ad) := by
  refine Met.ofW (cc := cX3_clearText) (maxL := 2) (ret := (some .int)) (by decide) rfl ?_
  intro p e s m args below meth c s₁ Bd hml hv
  obtain ⟨rfl, hP, hK, hD⟩ := hv
  have hx := Bd.exec
  have hb := Bd.bytes
  have hr := Bd.returns
  have hts := atoms_spec (ws := (ws_ yX3_clearText cX3_clearText 2 (some .int))) Bd.pre
  have hts : ∀ w ∈ lw_all, w.before _ s = true := fun w h => hts w (List.mem_cons_of_mem _ h)
  have hown : s.vm.findClass RX3 = some m.cls := findClass_of_methodNamed Bd.named
  have hlocks := Bd.notSynchronized
  have hM : mSt D cA ad (mA ad) s.heap s.heap [] S := ⟨hP, hD, va_S.rf⟩
  have hl := lv_entry ([.ref (ad 7)]) (n := 2) (Nat.le_of_ble_eq_true rfl)
  rw [lg_entry_eq]
  generalize (lg_sl ([.ref (ad 7)]) ++ List.replicate (2 - (lg_sl ([.ref (ad 7)])).length) Slot.unset).toArray = ls at hl ⊢
  have hl : lv_has ls 2 [(0, .ref (ad 7))] := hl
  refine lv_aload_n hx hb dX3_clearText_0 rfl (lv_at hl 0 rfl) ?_
  refine m_get hx hb hts in_X3 hown hK hM 6 (by decide) (hts _ q1577) rfl dX3_clearText_1 ?_
  refine lv_istore_n (lv' := [(1, .int (S 7 1)), (0, .ref (ad 7))]) hx hb dX3_clearText_4 rfl hl (by decide) rfl (fun ls hl => ?_)
  refine lv_aload_n hx hb dX3_clearText_5 rfl (lv_at hl 1 rfl) ?_
  refine lv_iconst (v := 0) hx hb dX3_clearText_6 (by decide) ?_
  refine m_put hx hb hts in_X3 hown hK hM 6 1 (by decide) (hts _ q1577) rfl rfl rfl rfl dX3_clearText_7 (fun H locs S_1 eS_1 hM => ?_)
  refine lv_iload_n hx hb dX3_clearText_10 rfl (lv_at hl 0 rfl) ?_
  exact W.iret hx hb hr (fun t ht hW => ⟨⟨_, S_1, rfl, (by exact ⟨rfl, by assumption⟩), by rw [ht]; exact hM.1, hM.2.1⟩, hM.2.2.F ht⟩) hM.2.2.2.2 dX3_clearText_11

set_option maxHeartbeats 4000000 in
set_option maxRecDepth 100000 in
theorem met_X3_failure (l : Launch) (D : va_G) (cA : Nat → ClassId) (ad : Nat → Nat) (S : Nat → Nat → Int32) (w0 : Int32) : Met l yX3_failure (ws_ yX3_failure cX3_failure 2 (some .int)) (rmL 2 0 0) (mPre D cA ad S [.int w0]) (vp_Si (fun r => r = tk_failq (S 7 2) (S 5) w0)) 0 0 (fun _ => False) := by
  refine Met.ofW (cc := cX3_failure) (maxL := 2) (ret := (some .int)) (by decide) rfl ?_
  intro p e s m args below meth c s₁ Bd hml hv
  obtain ⟨rfl, hP, hK, hD⟩ := hv
  have hx := Bd.exec
  have hb := Bd.bytes
  have hr := Bd.returns
  have hts := atoms_spec (ws := (ws_ yX3_failure cX3_failure 2 (some .int))) Bd.pre
  have hts : ∀ w ∈ lw_all, w.before _ s = true := fun w h => hts w (List.mem_cons_of_mem _ h)
  have hown : s.vm.findClass RX3 = some m.cls := findClass_of_methodNamed Bd.named
  have hlocks := Bd.notSynchronized
  have hM : mSt D cA ad (mA ad) s.heap s.heap [] S := ⟨hP, hD, va_S.rf⟩
  have hl := lv_entry ([.ref (ad 7), .int w0]) (n := 2) (Nat.le_of_ble_eq_true rfl)
  rw [lg_entry_eq]
  generalize (lg_sl ([.ref (ad 7), .int w0]) ++ List.replicate (2 - (lg_sl ([.ref (ad 7), .int w0])).length) Slot.unset).toArray = ls at hl ⊢
  have hl : lv_has ls 2 [(0, .ref (ad 7)), (1, .int w0)] := hl
  refine lv_iload_n hx hb dX3_failure_0 rfl (lv_at hl 1 rfl) ?_
  refine lv_iconst (v := 0) hx hb dX3_failure_1 (by decide) ?_
  refine lv_iconst (v := 4) hx hb dX3_failure_2 (by decide) ?_
  refine vp_callSi (W.runS (As := [.int w0, .int (0 : Int32), .int (4 : Int32)]) (rest := []) ⟨hx, hb, hml, hown, hts⟩ (met_X3_in l w0 (0 : Int32) (4 : Int32)) (va_cwS 3 hts (lw_S q1633 q1634 q71 q1635) rfl rfl rfl (by decide +kernel) ⟨Nat.le_of_ble_eq_true rfl, Nat.le_of_ble_eq_true rfl⟩) ⟨fun a U g mk q => q, fun U hU hW => ⟨rfl, trivial⟩⟩ rfl rfl hl.1 rfl (lv_room (Nat.le_of_ble_eq_true rfl)) dX3_failure_3 ⟨Nat.le_of_ble_eq_true rfl, Nat.le_of_ble_eq_true rfl⟩) (fun r_1 hr_1 => ?_)
  rcases hr_1 with ⟨er_hr_1, hr_1⟩ | ⟨er_hr_1, hr_1⟩
  · subst er_hr_1
    obtain ⟨w1, hw1, rfl⟩ := tk_inN (n := 4) (by decide) hr_1
    have nnw : (nI w1).toNatClampNeg = w1 := nI_clamp (by omega)
    refine lv_if_ne (tgt := 12) hx hb dX3_failure_6 (by decide) (fun _ => ?_) (fun c_ => absurd c_ (by decide))
    refine lv_aload_n hx hb dX3_failure_12 rfl (lv_at hl 0 rfl) ?_
    refine m_get hx hb hts in_X3 hown hK hM 8 (by decide) (hts _ q1579) rfl dX3_failure_13 ?_
    refine lv_if_eq (tgt := 28) hx hb dX3_failure_16 (by decide) (fun c16_b_2 => ?_) (fun c16_b_2 => ?_)
    · skip
      refine lv_ldc (v := -100009) hx hb hown (hts _ q1722) dX3_failure_28 ?_
      exact W.iret hx hb hr (fun t ht hW => ⟨_, rfl, (by simp [tk_failq, hr_1, nnw, c16_b_2]), ht⟩) (fun _ h => absurd h List.not_mem_nil) dX3_failure_30
    · skip
      refine lv_aload_n hx hb dX3_failure_19 rfl (lv_at hl 0 rfl) ?_
      refine m_get hx hb hts in_X3 hown hK hM 7 (by decide) (hts _ q1578) rfl dX3_failure_20 ?_
      refine lv_iload_n hx hb dX3_failure_23 rfl (lv_at hl 1 rfl) ?_
      refine m_iald hx hb hK hM 5 6 rfl w1 rfl (by omega) (v := (S 5 w1)) rfl dX3_failure_24 (by decide) ?_
      refine lv_goto (tgt := 30) hx hb dX3_failure_25 (by decide) ?_
      exact W.iret hx hb hr (fun t ht hW => ⟨_, rfl, (by simp [tk_failq, hr_1, nnw, c16_b_2]), ht⟩) (fun _ h => absurd h List.not_mem_nil) dX3_failure_30
  · subst er_hr_1
    refine lv_if_ne (tgt := 12) hx hb dX3_failure_6 (by decide) (fun c_ => absurd (by decide) c_) (fun _ => ?_)
    refine lv_ldc (v := -100001) hx hb hown (hts _ q1636) dX3_failure_9 ?_
    exact W.iret hx hb hr (fun t ht hW => ⟨_, rfl, (by simp [tk_failq, hr_1]), ht⟩) (fun _ h => absurd h List.not_mem_nil) dX3_failure_11

set_option maxHeartbeats 4000000 in
set_option maxRecDepth 100000 in
theorem met_X3_isIn (l : Launch) (D : va_G) (cA : Nat → ClassId) (ad : Nat → Nat) (S : Nat → Nat → Int32) (lo : Int32) (hi : Int32) (L0 : Nat) (p0 : Nat) (hL : L0 ≤ 140) (e_L0 : S 7 1 = nI L0) (hp : p0 ≤ L0) (e_p0 : S 7 4 = nI p0) : Met l yX3_isIn (ws_ yX3_isIn cX3_isIn 3 (some .boolean)) (rmL 2 0 0) (mPre D cA ad S [.int lo, .int hi]) (vp_Si (fun r => pB r (decide (p0 < L0) && tk_in (S 4 p0) lo hi))) 0 0 (fun _ => False) := by
  refine Met.ofW (cc := cX3_isIn) (maxL := 3) (ret := (some .boolean)) (by decide) rfl ?_
  intro p e s m args below meth c s₁ Bd hml hv
  obtain ⟨rfl, hP, hK, hD⟩ := hv
  have hx := Bd.exec
  have hb := Bd.bytes
  have hr := Bd.returns
  have hts := atoms_spec (ws := (ws_ yX3_isIn cX3_isIn 3 (some .boolean))) Bd.pre
  have hts : ∀ w ∈ lw_all, w.before _ s = true := fun w h => hts w (List.mem_cons_of_mem _ h)
  have hown : s.vm.findClass RX3 = some m.cls := findClass_of_methodNamed Bd.named
  have hlocks := Bd.notSynchronized
  have hM : mSt D cA ad (mA ad) s.heap s.heap [] S := ⟨hP, hD, va_S.rf⟩
  have hl := lv_entry ([.ref (ad 7), .int lo, .int hi]) (n := 3) (Nat.le_of_ble_eq_true rfl)
  rw [lg_entry_eq]
  generalize (lg_sl ([.ref (ad 7), .int lo, .int hi]) ++ List.replicate (3 - (lg_sl ([.ref (ad 7), .int lo, .int hi])).length) Slot.unset).toArray = ls at hl ⊢
  have hl : lv_has ls 3 [(0, .ref (ad 7)), (1, .int lo), (2, .int hi)] := hl
  refine lv_aload_n hx hb dX3_isIn_0 rfl (lv_at hl 0 rfl) ?_
  refine m_get hx hb hts in_X3 hown hK hM 10 (by decide) (hts _ q1581) rfl dX3_isIn_1 ?_
  refine lv_aload_n hx hb dX3_isIn_4 rfl (lv_at hl 0 rfl) ?_
  refine m_get hx hb hts in_X3 hown hK hM 6 (by decide) (hts _ q1577) rfl dX3_isIn_5 ?_
  refine lv_icmp_ge (tgt := 32) hx hb dX3_isIn_8 (by decide) (fun c8_b_1 => ?_) (fun c8_b_1 => ?_)
  · skip
    have c8_b_1 := Int32.not_lt.mpr c8_b_1
    have nc8_b_1 := nltF (a := p0) (b := L0) e_p0 e_L0 (by omega) (by omega) c8_b_1
    have hlt : ¬ p0 < L0 := Nat.not_lt.mpr nc8_b_1
    refine lv_iconst (v := 0) hx hb dX3_isIn_32 (by decide) ?_
    exact W.zret hx hb hr rfl (fun t ht hW => ⟨_, rfl, Or.inr ⟨rfl, by simp [hlt]⟩, ht⟩) (fun _ h => absurd h List.not_mem_nil) dX3_isIn_33
  · skip
    have c8_b_1 := Int32.not_le.mp c8_b_1
    have nc8_b_1 := nltT (a := p0) (b := L0) e_p0 e_L0 (by omega) (by omega) c8_b_1
    refine lv_aload_n hx hb dX3_isIn_11 rfl (lv_at hl 0 rfl) ?_
    refine m_get hx hb hts in_X3 hown hK hM 5 (by decide) (hts _ q1576) rfl dX3_isIn_12 ?_
    refine lv_aload_n hx hb dX3_isIn_15 rfl (lv_at hl 0 rfl) ?_
    refine m_get hx hb hts in_X3 hown hK hM 10 (by decide) (hts _ q1581) rfl dX3_isIn_16 ?_
    refine m_cald hx hb hK hM p0 e_p0 (by omega) (v := (S 4 p0)) rfl dX3_isIn_19 ?_
    refine lv_iload_n hx hb dX3_isIn_20 rfl (lv_at hl 1 rfl) ?_
    refine lv_iload_n hx hb dX3_isIn_21 rfl (lv_at hl 2 rfl) ?_
    refine vp_callSi (W.runS (As := [.int (S 4 p0), .int lo, .int hi]) (rest := []) ⟨hx, hb, hml, hown, hts⟩ (met_X3_in l (S 4 p0) lo hi) (va_cwS 3 hts (lw_S q1633 q1634 q71 q1635) rfl rfl rfl (by decide +kernel) ⟨Nat.le_of_ble_eq_true rfl, Nat.le_of_ble_eq_true rfl⟩) ⟨fun a U g mk q => q, fun U hU hW => ⟨rfl, trivial⟩⟩ rfl rfl hl.1 rfl (lv_room (Nat.le_of_ble_eq_true rfl)) dX3_isIn_22 ⟨Nat.le_of_ble_eq_true rfl, Nat.le_of_ble_eq_true rfl⟩) (fun r_2 hr_2 => ?_)
    rcases hr_2 with ⟨er_hr_2, hr_2⟩ | ⟨er_hr_2, hr_2⟩
    · subst er_hr_2
      refine lv_if_eq (tgt := 32) hx hb dX3_isIn_25 (by decide) (fun c_ => absurd c_ (by decide)) (fun _ => ?_)
      refine lv_iconst (v := 1) hx hb dX3_isIn_28 (by decide) ?_
      refine lv_goto (tgt := 33) hx hb dX3_isIn_29 (by decide) ?_
      exact W.zret hx hb hr rfl (fun t ht hW => ⟨_, rfl, Or.inl ⟨rfl, by simp [c8_b_1, hr_2, nc8_b_1]⟩, ht⟩) (fun _ h => absurd h List.not_mem_nil) dX3_isIn_33
    · subst er_hr_2
      refine lv_if_eq (tgt := 32) hx hb dX3_isIn_25 (by decide) (fun _ => ?_) (fun c_ => absurd (by decide) c_)
      refine lv_iconst (v := 0) hx hb dX3_isIn_32 (by decide) ?_
      exact W.zret hx hb hr rfl (fun t ht hW => ⟨_, rfl, Or.inr ⟨rfl, by simp [c8_b_1, hr_2, nc8_b_1]⟩, ht⟩) (fun _ h => absurd h List.not_mem_nil) dX3_isIn_33

set_option maxHeartbeats 4000000 in
set_option maxRecDepth 100000 in
theorem met_X3_reads (l : Launch) (D : va_G) (cA : Nat → ClassId) (ad : Nat → Nat) (S : Nat → Nat → Int32) (L0 : Nat) (p0 : Nat) (hL : L0 ≤ 140) (e_L0 : S 7 1 = nI L0) (hp : p0 ≤ L0) (e_p0 : S 7 4 = nI p0) : Met l yX3_reads (ws_ yX3_reads cX3_reads 1 none) (rmL 3 0 0) (mPre D cA ad S []) (va_Qv (fun (S' : Nat → Nat → Int32) => tk_rs S S' L0 p0) (mEnd D cA ad) (mA ad)) 0 0 (mA ad) := by
  refine Met.ofW (cc := cX3_reads) (maxL := 1) (ret := none) (by decide) rfl ?_
  intro p e s m args below meth c s₁ Bd hml hv
  obtain ⟨rfl, hP, hK, hD⟩ := hv
  have hx := Bd.exec
  have hb := Bd.bytes
  have hr := Bd.returns
  have hts := atoms_spec (ws := (ws_ yX3_reads cX3_reads 1 none)) Bd.pre
  have hts : ∀ w ∈ lw_all, w.before _ s = true := fun w h => hts w (List.mem_cons_of_mem _ h)
  have hown : s.vm.findClass RX3 = some m.cls := findClass_of_methodNamed Bd.named
  have hlocks := Bd.notSynchronized
  have hM : mSt D cA ad (mA ad) s.heap s.heap [] S := ⟨hP, hD, va_S.rf⟩
  have hl := lv_entry ([.ref (ad 7)]) (n := 1) (Nat.le_of_ble_eq_true rfl)
  rw [lg_entry_eq]
  generalize (lg_sl ([.ref (ad 7)]) ++ List.replicate (1 - (lg_sl ([.ref (ad 7)])).length) Slot.unset).toArray = ls at hl ⊢
  have hl : lv_has ls 1 [(0, .ref (ad 7))] := hl
  have cut_0 : ∀ (N : Nat) (k : Nat) (hk : p0 ≤ k) (hk2 : k ≤ L0) (hac : tk_w (tk_spc (S 4)) L0 (L0 - p0) p0 = tk_w (tk_spc (S 4)) L0 (L0 - k) k) (hN : L0 - k < N) (H : Heap) (locs : List Loc) (Sc0 : Nat → Nat → Int32) (eSc0 : Sc0 = su S 7 (su (S 7) 4 (nI k))) (hM : mSt D cA ad (mA ad) s.heap H locs Sc0), ∀ (ls : Array Slot) (hl : lv_has ls 1 [(0, .ref (ad 7))]), W p l e (headSpec (ws_ yX3_reads cX3_reads 1 none) (rmL 3 0 0)).room s m ([.ref (ad 7)] : List Value).toArray below meth c H locs 0 0 (MQ below (va_Qv (fun (S' : Nat → Nat → Int32) => tk_rs S S' L0 p0) (mEnd D cA ad) (mA ad)) ([.ref (ad 7)] : List Value).toArray s 0 0 (mA ad)) (F0 m 0 ls []) := by
    intro N
    induction N with
    | zero => intro k hk hk2 hac hN; exact absurd hN (Nat.not_lt_zero _)
    | succ N ih_0 =>
      intro k hk hk2 hac hN H locs Sc0 eSc0 hM ls hl
      refine lv_aload_n hx hb dX3_reads_0 rfl (lv_at hl 0 rfl) ?_
      refine m_get hx hb hts in_X3 hown hK hM 10 (by decide) (hts _ q1581) rfl dX3_reads_1 ?_
      refine lv_aload_n hx hb dX3_reads_4 rfl (lv_at hl 0 rfl) ?_
      refine m_get hx hb hts in_X3 hown hK hM 6 (by decide) (hts _ q1577) (v := .int (S 7 1)) (m_fld rfl (by rw [eSc0, su_s, su_n _ _ (by decide)])) dX3_reads_5 ?_
      refine lv_icmp_ge (tgt := 38) hx hb dX3_reads_8 (by decide) (fun c8_b_1 => ?_) (fun c8_b_1 => ?_)
      · skip
        have c8_b_1 := Int32.not_lt.mpr c8_b_1
        have nc8_b_1 := nltF (a := k) (b := L0) (by rw [eSc0, su_s, su_s]) e_L0 (by omega) (by omega) c8_b_1
        have hsb : tk_ba (S 4) L0 p0 = k := by rw [tk_ba, hac]; exact tk_wN (Or.inl nc8_b_1)
        refine lv_aload_n hx hb dX3_reads_38 rfl (lv_at hl 0 rfl) ?_
        refine lv_aload_n hx hb dX3_reads_39 rfl (lv_at hl 0 rfl) ?_
        refine m_get hx hb hts in_X3 hown hK hM 10 (by decide) (hts _ q1581) rfl dX3_reads_40 ?_
        refine m_put hx hb hts in_X3 hown hK hM 9 3 (by decide) (hts _ q1580) rfl rfl rfl rfl dX3_reads_43 (fun H locs S_2 eS_2 hM => ?_)
        have cut_93 : ∀ (so : Nat) (hso : tk_sr (S 4) L0 p0 = so) (hso3 : so ≤ 3) (H : Heap) (locs : List Loc) (Sc93 : Nat → Nat → Int32) (eSc93 : Sc93 = S_2) (hM : mSt D cA ad (mA ad) s.heap H locs Sc93), ∀ (ls : Array Slot) (hl : lv_has ls 1 [(0, .ref (ad 7))]), W p l e (headSpec (ws_ yX3_reads cX3_reads 1 none) (rmL 3 0 0)).room s m ([.ref (ad 7)] : List Value).toArray below meth c H locs 0 0 (MQ below (va_Qv (fun (S' : Nat → Nat → Int32) => tk_rs S S' L0 p0) (mEnd D cA ad) (mA ad)) ([.ref (ad 7)] : List Value).toArray s 0 0 (mA ad)) (F0 m 93 ls [.int (nI so), .ref (ad 7)]) := by
          intro so hso hso3 H locs Sc93 eSc93 hM ls hl
          refine m_put hx hb hts in_X3 hown hK hM 11 5 (by decide) (hts _ q1582) rfl rfl rfl rfl dX3_reads_93 (fun H locs S_3 eS_3 hM => ?_)
          have cut_96 : ∀ (N : Nat) (k2 : Nat) (hk3 : k ≤ k2) (hk4 : k2 ≤ L0) (hac2 : tk_w (tk_f (S 4) so) L0 (L0 - k) k = tk_w (tk_f (S 4) so) L0 (L0 - k2) k2) (hN : L0 - k2 < N) (H : Heap) (locs : List Loc) (Sc96 : Nat → Nat → Int32) (eSc96 : Sc96 = su S_3 7 (su (S_3 7) 4 (nI k2))) (hM : mSt D cA ad (mA ad) s.heap H locs Sc96), ∀ (ls : Array Slot) (hl : lv_has ls 1 [(0, .ref (ad 7))]), W p l e (headSpec (ws_ yX3_reads cX3_reads 1 none) (rmL 3 0 0)).room s m ([.ref (ad 7)] : List Value).toArray below meth c H locs 0 0 (MQ below (va_Qv (fun (S' : Nat → Nat → Int32) => tk_rs S S' L0 p0) (mEnd D cA ad) (mA ad)) ([.ref (ad 7)] : List Value).toArray s 0 0 (mA ad)) (F0 m 96 ls []) := by
            intro N
            induction N with
            | zero => intro k2 hk3 hk4 hac2 hN; exact absurd hN (Nat.not_lt_zero _)
            | succ N ih_96 =>
              intro k2 hk3 hk4 hac2 hN H locs Sc96 eSc96 hM ls hl
              refine lv_aload_n hx hb dX3_reads_96 rfl (lv_at hl 0 rfl) ?_
              refine m_get hx hb hts in_X3 hown hK hM 11 (by decide) (hts _ q1582) (v := .int (nI so)) (m_fld rfl (by rw [eSc96, su_s, su_n _ _ (by decide), eS_3, su_s, su_s])) dX3_reads_97 ?_
              refine lv_iconst (v := 1) hx hb dX3_reads_100 (by decide) ?_
              refine lv_icmp_ne (tgt := 115) hx hb dX3_reads_101 (by decide) (fun c101_b_4 => ?_) (fun c101_b_4 => ?_)
              · skip
                have nc101_b_4 := neqF (a := so) (b := 1) rfl rfl (by omega) (by omega) c101_b_4
                refine lv_aload_n hx hb dX3_reads_115 rfl (lv_at hl 0 rfl) ?_
                refine m_get hx hb hts in_X3 hown hK hM 11 (by decide) (hts _ q1582) (v := .int (nI so)) (m_fld rfl (by rw [eSc96, su_s, su_n _ _ (by decide), eS_3, su_s, su_s])) dX3_reads_116 ?_
                refine lv_iconst (v := 2) hx hb dX3_reads_119 (by decide) ?_
                refine lv_icmp_ne (tgt := 147) hx hb dX3_reads_120 (by decide) (fun c120_b_5 => ?_) (fun c120_b_5 => ?_)
                · skip
                  have nc120_b_5 := neqF (a := so) (b := 2) rfl rfl (by omega) (by omega) c120_b_5
                  refine lv_aload_n hx hb dX3_reads_147 rfl (lv_at hl 0 rfl) ?_
                  refine lv_dup hx hb dX3_reads_148 rfl ?_
                  refine m_get hx hb hts in_X3 hown hK hM 10 (by decide) (hts _ q1581) rfl dX3_reads_149 ?_
                  refine lv_aload_n hx hb dX3_reads_152 rfl (lv_at hl 0 rfl) ?_
                  refine m_get hx hb hts in_X3 hown hK hM 11 (by decide) (hts _ q1582) (v := .int (nI so)) (m_fld rfl (by rw [eSc96, su_s, su_n _ _ (by decide), eS_3, su_s, su_s])) dX3_reads_153 ?_
                  refine lv_iconst (v := 3) hx hb dX3_reads_156 (by decide) ?_
                  refine lv_icmp_ne (tgt := 164) hx hb dX3_reads_157 (by decide) (fun c157_b_6 => ?_) (fun c157_b_6 => ?_)
                  · skip
                    have nc157_b_6 := neqF (a := so) (b := 3) rfl rfl (by omega) (by omega) c157_b_6
                    refine lv_iconst (v := 0) hx hb dX3_reads_164 (by decide) ?_
                    refine lv_iadd hx hb dX3_reads_165 ?_
                    refine m_put hx hb hts in_X3 hown hK hM 10 4 (by decide) (hts _ q1581) rfl rfl rfl rfl dX3_reads_166 (fun H locs S_7 eS_7 hM => ?_)
                    have hto : tk_to (S 4) L0 p0 = k2 + (if so = 3 then 1 else 0) := by rw [tk_to, hso, hsb, hac2, tk_wX (by rw [tk_f0 nc101_b_4 nc120_b_5, Bool.and_false])]
                    rw [if_neg nc157_b_6] at hto
                    exact W.vret hx hb hr (fun t ht hW => ⟨⟨S_7, rfl, (by subst eS_7; subst eSc96; subst eS_3; subst eSc93; subst eS_2; subst eSc0; exact ⟨fun j hj => by simp [su_n, hj], by rw [hsb]; simp [su_s, su_n], by rw [hto]; simp [su_s, su_n, nI_1], by rw [hso]; simp [su_s, su_n], fun j h3 h4 h5 => by simp [su_s, su_n, h3, h4, h5]⟩), by rw [ht]; exact hM.1, hM.2.1⟩, hM.2.2.F ht⟩) hM.2.2.2.2 dX3_reads_169
                  · skip
                    have nc157_b_6 := neqT (a := so) (b := 3) rfl rfl (by omega) (by omega) c157_b_6
                    refine lv_iconst (v := 1) hx hb dX3_reads_160 (by decide) ?_
                    refine lv_goto (tgt := 165) hx hb dX3_reads_161 (by decide) ?_
                    refine lv_iadd hx hb dX3_reads_165 ?_
                    refine m_put hx hb hts in_X3 hown hK hM 10 4 (by decide) (hts _ q1581) rfl rfl rfl rfl dX3_reads_166 (fun H locs S_8 eS_8 hM => ?_)
                    have hto : tk_to (S 4) L0 p0 = k2 + (if so = 3 then 1 else 0) := by rw [tk_to, hso, hsb, hac2, tk_wX (by rw [tk_f0 nc101_b_4 nc120_b_5, Bool.and_false])]
                    rw [if_pos nc157_b_6] at hto
                    exact W.vret hx hb hr (fun t ht hW => ⟨⟨S_8, rfl, (by subst eS_8; subst eSc96; subst eS_3; subst eSc93; subst eS_2; subst eSc0; exact ⟨fun j hj => by simp [su_n, hj], by rw [hsb]; simp [su_s, su_n], by rw [hto]; simp [su_s, su_n, nI_1], by rw [hso]; simp [su_s, su_n], fun j h3 h4 h5 => by simp [su_s, su_n, h3, h4, h5]⟩), by rw [ht]; exact hM.1, hM.2.1⟩, hM.2.2.F ht⟩) hM.2.2.2.2 dX3_reads_169
                · skip
                  have nc120_b_5 := neqT (a := so) (b := 2) rfl rfl (by omega) (by omega) c120_b_5
                  refine lv_aload_n hx hb dX3_reads_123 rfl (lv_at hl 0 rfl) ?_
                  refine lv_bipush (v := 48) hx hb dX3_reads_124 (by decide) ?_
                  refine lv_bipush (v := 57) hx hb dX3_reads_126 (by decide) ?_
                  refine vp_callSi (W.runV (As := [.int (48 : Int32), .int (57 : Int32)]) (rest := []) ⟨hx, hb, hml, hown, hts⟩ (met_X3_isIn l D cA ad Sc96 (48 : Int32) (57 : Int32) L0 k2 (by first | assumption | omega | decide) (Eq.trans (show Sc96 7 1 = (S 7 1) from (by rw [eSc96, su_s, su_n _ _ (by decide), eS_3, su_s, su_n _ _ (by decide), eSc93, eS_2, su_s, su_n _ _ (by decide), eSc0, su_s, su_n _ _ (by decide)])) e_L0) (by first | assumption | omega | decide) (by rw [eSc96, su_s, su_s])) (cwV 2 hts (lw_V q1804 q1806 qs46 q71 q1807) rfl rfl rfl (by decide +kernel) ⟨Nat.le_of_ble_eq_true rfl, Nat.le_of_ble_eq_true rfl⟩) (mPreV hK hM) rfl rfl hl.1 rfl (lv_room (Nat.le_of_ble_eq_true rfl)) dX3_reads_128 ⟨Nat.le_of_ble_eq_true rfl, Nat.le_of_ble_eq_true rfl⟩) (fun r_9 hr_9 => ?_)
                  rw [show Sc96 4 = S 4 from (by rw [eSc96, su_n _ _ (by decide), eS_3, su_n _ _ (by decide), eSc93, eS_2, su_n _ _ (by decide), eSc0, su_n _ _ (by decide)])] at hr_9
                  rcases hr_9 with ⟨er_hr_9, hr_9⟩ | ⟨er_hr_9, hr_9⟩
                  · subst er_hr_9
                    refine lv_if_eq (tgt := 147) hx hb dX3_reads_131 (by decide) (fun c_ => absurd c_ (by decide)) (fun _ => ?_)
                    refine lv_aload_n hx hb dX3_reads_134 rfl (lv_at hl 0 rfl) ?_
                    refine lv_dup hx hb dX3_reads_135 rfl ?_
                    refine m_get hx hb hts in_X3 hown hK hM 10 (by decide) (hts _ q1581) rfl dX3_reads_136 ?_
                    refine lv_iconst (v := 1) hx hb dX3_reads_139 (by decide) ?_
                    refine lv_iadd hx hb dX3_reads_140 ?_
                    refine m_put hx hb hts in_X3 hown hK hM 10 4 (by decide) (hts _ q1581) rfl rfl rfl rfl dX3_reads_141 (fun H locs S_10 eS_10 hM => ?_)
                    refine lv_goto (tgt := 96) hx hb dX3_reads_144 (by decide) ?_
                    have hlk := tk_wT (so := so) (t := S 4) (L := L0) (k := k2) (by rw [tk_f2 nc120_b_5]; exact hr_9)
                    exact ih_96 (k2 + 1) (by omega) hlk.1 (hac2.trans hlk.2) (by omega) _ _ _ (by rw [eS_10, eSc96]; simp only [su_su, su_s, nI_1]) hM ls (lv_sub hl [0] rfl)
                  · subst er_hr_9
                    refine lv_if_eq (tgt := 147) hx hb dX3_reads_131 (by decide) (fun _ => ?_) (fun c_ => absurd (by decide) c_)
                    refine lv_aload_n hx hb dX3_reads_147 rfl (lv_at hl 0 rfl) ?_
                    refine lv_dup hx hb dX3_reads_148 rfl ?_
                    refine m_get hx hb hts in_X3 hown hK hM 10 (by decide) (hts _ q1581) rfl dX3_reads_149 ?_
                    refine lv_aload_n hx hb dX3_reads_152 rfl (lv_at hl 0 rfl) ?_
                    refine m_get hx hb hts in_X3 hown hK hM 11 (by decide) (hts _ q1582) (v := .int (nI so)) (m_fld rfl (by rw [eSc96, su_s, su_n _ _ (by decide), eS_3, su_s, su_s])) dX3_reads_153 ?_
                    refine lv_iconst (v := 3) hx hb dX3_reads_156 (by decide) ?_
                    refine lv_icmp_ne (tgt := 164) hx hb dX3_reads_157 (by decide) (fun _ => ?_) (fun c_ => (absurd ((c120_b_5).symm.trans c_) (by decide)))
                    refine lv_iconst (v := 0) hx hb dX3_reads_164 (by decide) ?_
                    refine lv_iadd hx hb dX3_reads_165 ?_
                    refine m_put hx hb hts in_X3 hown hK hM 10 4 (by decide) (hts _ q1581) rfl rfl rfl rfl dX3_reads_166 (fun H locs S_11 eS_11 hM => ?_)
                    have hto : tk_to (S 4) L0 p0 = k2 + (if so = 3 then 1 else 0) := by rw [tk_to, hso, hsb, hac2, tk_wX (by rw [tk_f2 nc120_b_5]; exact hr_9)]
                    rw [if_neg (by omega)] at hto
                    exact W.vret hx hb hr (fun t ht hW => ⟨⟨S_11, rfl, (by subst eS_11; subst eSc96; subst eS_3; subst eSc93; subst eS_2; subst eSc0; exact ⟨fun j hj => by simp [su_n, hj], by rw [hsb]; simp [su_s, su_n], by rw [hto]; simp [su_s, su_n, nI_1], by rw [hso]; simp [su_s, su_n], fun j h3 h4 h5 => by simp [su_s, su_n, h3, h4, h5]⟩), by rw [ht]; exact hM.1, hM.2.1⟩, hM.2.2.F ht⟩) hM.2.2.2.2 dX3_reads_169
              · skip
                have nc101_b_4 := neqT (a := so) (b := 1) rfl rfl (by omega) (by omega) c101_b_4
                refine lv_aload_n hx hb dX3_reads_104 rfl (lv_at hl 0 rfl) ?_
                refine lv_bipush (v := 97) hx hb dX3_reads_105 (by decide) ?_
                refine lv_bipush (v := 122) hx hb dX3_reads_107 (by decide) ?_
                refine vp_callSi (W.runV (As := [.int (97 : Int32), .int (122 : Int32)]) (rest := []) ⟨hx, hb, hml, hown, hts⟩ (met_X3_isIn l D cA ad Sc96 (97 : Int32) (122 : Int32) L0 k2 (by first | assumption | omega | decide) (Eq.trans (show Sc96 7 1 = (S 7 1) from (by rw [eSc96, su_s, su_n _ _ (by decide), eS_3, su_s, su_n _ _ (by decide), eSc93, eS_2, su_s, su_n _ _ (by decide), eSc0, su_s, su_n _ _ (by decide)])) e_L0) (by first | assumption | omega | decide) (by rw [eSc96, su_s, su_s])) (cwV 2 hts (lw_V q1804 q1806 qs46 q71 q1807) rfl rfl rfl (by decide +kernel) ⟨Nat.le_of_ble_eq_true rfl, Nat.le_of_ble_eq_true rfl⟩) (mPreV hK hM) rfl rfl hl.1 rfl (lv_room (Nat.le_of_ble_eq_true rfl)) dX3_reads_109 ⟨Nat.le_of_ble_eq_true rfl, Nat.le_of_ble_eq_true rfl⟩) (fun r_12 hr_12 => ?_)
                rw [show Sc96 4 = S 4 from (by rw [eSc96, su_n _ _ (by decide), eS_3, su_n _ _ (by decide), eSc93, eS_2, su_n _ _ (by decide), eSc0, su_n _ _ (by decide)])] at hr_12
                rcases hr_12 with ⟨er_hr_12, hr_12⟩ | ⟨er_hr_12, hr_12⟩
                · subst er_hr_12
                  refine lv_if_ne (tgt := 134) hx hb dX3_reads_112 (by decide) (fun _ => ?_) (fun c_ => absurd c_ (by decide))
                  refine lv_aload_n hx hb dX3_reads_134 rfl (lv_at hl 0 rfl) ?_
                  refine lv_dup hx hb dX3_reads_135 rfl ?_
                  refine m_get hx hb hts in_X3 hown hK hM 10 (by decide) (hts _ q1581) rfl dX3_reads_136 ?_
                  refine lv_iconst (v := 1) hx hb dX3_reads_139 (by decide) ?_
                  refine lv_iadd hx hb dX3_reads_140 ?_
                  refine m_put hx hb hts in_X3 hown hK hM 10 4 (by decide) (hts _ q1581) rfl rfl rfl rfl dX3_reads_141 (fun H locs S_13 eS_13 hM => ?_)
                  refine lv_goto (tgt := 96) hx hb dX3_reads_144 (by decide) ?_
                  have hlk := tk_wT (so := so) (t := S 4) (L := L0) (k := k2) (by rw [tk_f1 nc101_b_4]; exact hr_12)
                  exact ih_96 (k2 + 1) (by omega) hlk.1 (hac2.trans hlk.2) (by omega) _ _ _ (by rw [eS_13, eSc96]; simp only [su_su, su_s, nI_1]) hM ls (lv_sub hl [0] rfl)
                · subst er_hr_12
                  refine lv_if_ne (tgt := 134) hx hb dX3_reads_112 (by decide) (fun c_ => absurd (by decide) c_) (fun _ => ?_)
                  refine lv_aload_n hx hb dX3_reads_115 rfl (lv_at hl 0 rfl) ?_
                  refine m_get hx hb hts in_X3 hown hK hM 11 (by decide) (hts _ q1582) (v := .int (nI so)) (m_fld rfl (by rw [eSc96, su_s, su_n _ _ (by decide), eS_3, su_s, su_s])) dX3_reads_116 ?_
                  refine lv_iconst (v := 2) hx hb dX3_reads_119 (by decide) ?_
                  refine lv_icmp_ne (tgt := 147) hx hb dX3_reads_120 (by decide) (fun _ => ?_) (fun c_ => (absurd ((c101_b_4).symm.trans c_) (by decide)))
                  refine lv_aload_n hx hb dX3_reads_147 rfl (lv_at hl 0 rfl) ?_
                  refine lv_dup hx hb dX3_reads_148 rfl ?_
                  refine m_get hx hb hts in_X3 hown hK hM 10 (by decide) (hts _ q1581) rfl dX3_reads_149 ?_
                  refine lv_aload_n hx hb dX3_reads_152 rfl (lv_at hl 0 rfl) ?_
                  refine m_get hx hb hts in_X3 hown hK hM 11 (by decide) (hts _ q1582) (v := .int (nI so)) (m_fld rfl (by rw [eSc96, su_s, su_n _ _ (by decide), eS_3, su_s, su_s])) dX3_reads_153 ?_
                  refine lv_iconst (v := 3) hx hb dX3_reads_156 (by decide) ?_
                  refine lv_icmp_ne (tgt := 164) hx hb dX3_reads_157 (by decide) (fun _ => ?_) (fun c_ => (absurd ((c101_b_4).symm.trans c_) (by decide)))
                  refine lv_iconst (v := 0) hx hb dX3_reads_164 (by decide) ?_
                  refine lv_iadd hx hb dX3_reads_165 ?_
                  refine m_put hx hb hts in_X3 hown hK hM 10 4 (by decide) (hts _ q1581) rfl rfl rfl rfl dX3_reads_166 (fun H locs S_14 eS_14 hM => ?_)
                  have hto : tk_to (S 4) L0 p0 = k2 + (if so = 3 then 1 else 0) := by rw [tk_to, hso, hsb, hac2, tk_wX (by rw [tk_f1 nc101_b_4]; exact hr_12)]
                  rw [if_neg (by omega)] at hto
                  exact W.vret hx hb hr (fun t ht hW => ⟨⟨S_14, rfl, (by subst eS_14; subst eSc96; subst eS_3; subst eSc93; subst eS_2; subst eSc0; exact ⟨fun j hj => by simp [su_n, hj], by rw [hsb]; simp [su_s, su_n], by rw [hto]; simp [su_s, su_n, nI_1], by rw [hso]; simp [su_s, su_n], fun j h3 h4 h5 => by simp [su_s, su_n, h3, h4, h5]⟩), by rw [ht]; exact hM.1, hM.2.1⟩, hM.2.2.F ht⟩) hM.2.2.2.2 dX3_reads_169
          exact cut_96 _ k (Nat.le_refl _) hk2 rfl (Nat.lt_succ_self _) _ _ _ (by rw [show nI k = S_3 7 4 from (Eq.trans (by rw [eS_3, su_s, su_n _ _ (by decide), eSc93, eS_2, su_s, su_n _ _ (by decide)]) (by rw [eSc0, su_s, su_s])).symm, su_self, su_self]) hM ls (lv_sub hl [0] rfl)
        refine lv_aload_n hx hb dX3_reads_46 rfl (lv_at hl 0 rfl) ?_
        refine lv_aload_n hx hb dX3_reads_47 rfl (lv_at hl 0 rfl) ?_
        refine m_get hx hb hts in_X3 hown hK hM 10 (by decide) (hts _ q1581) (v := .int (Sc0 7 4)) (m_fld rfl (by rw [eS_2, su_s, su_n _ _ (by decide)])) dX3_reads_48 ?_
        refine lv_aload_n hx hb dX3_reads_51 rfl (lv_at hl 0 rfl) ?_
        refine m_get hx hb hts in_X3 hown hK hM 6 (by decide) (hts _ q1577) (v := .int (S 7 1)) (m_fld rfl (by rw [eS_2, su_s, su_n _ _ (by decide), eSc0, su_s, su_n _ _ (by decide)])) dX3_reads_52 ?_
        refine lv_icmp_ne (tgt := 62) hx hb dX3_reads_55 (by decide) (fun c55_b_15 => ?_) (fun c55_b_15 => ?_)
        · skip
          have nc55_b_15 := neqF (a := k) (b := L0) (by rw [eSc0, su_s, su_s]) e_L0 (by omega) (by omega) c55_b_15
          refine lv_aload_n hx hb dX3_reads_62 rfl (lv_at hl 0 rfl) ?_
          refine lv_bipush (v := 97) hx hb dX3_reads_63 (by decide) ?_
          refine lv_bipush (v := 122) hx hb dX3_reads_65 (by decide) ?_
          refine vp_callSi (W.runV (As := [.int (97 : Int32), .int (122 : Int32)]) (rest := [.ref (ad 7)]) ⟨hx, hb, hml, hown, hts⟩ (met_X3_isIn l D cA ad S_2 (97 : Int32) (122 : Int32) L0 k (by first | assumption | omega | decide) (Eq.trans (show S_2 7 1 = (S 7 1) from (by rw [eS_2, su_s, su_n _ _ (by decide), eSc0, su_s, su_n _ _ (by decide)])) e_L0) (by first | assumption | omega | decide) (Eq.trans (show S_2 7 4 = (Sc0 7 4) from (by rw [eS_2, su_s, su_n _ _ (by decide)])) (by rw [eSc0, su_s, su_s]))) (cwV 2 hts (lw_V q1804 q1806 qs46 q71 q1807) rfl rfl rfl (by decide +kernel) ⟨Nat.le_of_ble_eq_true rfl, Nat.le_of_ble_eq_true rfl⟩) (mPreV hK hM) rfl rfl hl.1 rfl (lv_room (Nat.le_of_ble_eq_true rfl)) dX3_reads_67 ⟨Nat.le_of_ble_eq_true rfl, Nat.le_of_ble_eq_true rfl⟩) (fun r_16 hr_16 => ?_)
          rw [show S_2 4 = S 4 from (by rw [eS_2, su_n _ _ (by decide), eSc0, su_n _ _ (by decide)])] at hr_16
          rcases hr_16 with ⟨er_hr_16, hr_16⟩ | ⟨er_hr_16, hr_16⟩
          · subst er_hr_16
            refine lv_if_eq (tgt := 77) hx hb dX3_reads_70 (by decide) (fun c_ => absurd c_ (by decide)) (fun _ => ?_)
            refine lv_iconst (v := 1) hx hb dX3_reads_73 (by decide) ?_
            refine lv_goto (tgt := 93) hx hb dX3_reads_74 (by decide) ?_
            exact cut_93 1 (by rw [tk_sr, hsb, if_neg nc55_b_15, if_pos (show tk_low (S 4) k = true from tk_bT hr_16)]) (by decide)  _ _ _ (rfl) hM ls (lv_sub hl [0] rfl)
          · subst er_hr_16
            refine lv_if_eq (tgt := 77) hx hb dX3_reads_70 (by decide) (fun _ => ?_) (fun c_ => absurd (by decide) c_)
            refine lv_aload_n hx hb dX3_reads_77 rfl (lv_at hl 0 rfl) ?_
            refine lv_bipush (v := 48) hx hb dX3_reads_78 (by decide) ?_
            refine lv_bipush (v := 57) hx hb dX3_reads_80 (by decide) ?_
            refine vp_callSi (W.runV (As := [.int (48 : Int32), .int (57 : Int32)]) (rest := [.ref (ad 7)]) ⟨hx, hb, hml, hown, hts⟩ (met_X3_isIn l D cA ad S_2 (48 : Int32) (57 : Int32) L0 k (by first | assumption | omega | decide) (Eq.trans (show S_2 7 1 = (S 7 1) from (by rw [eS_2, su_s, su_n _ _ (by decide), eSc0, su_s, su_n _ _ (by decide)])) e_L0) (by first | assumption | omega | decide) (Eq.trans (show S_2 7 4 = (Sc0 7 4) from (by rw [eS_2, su_s, su_n _ _ (by decide)])) (by rw [eSc0, su_s, su_s]))) (cwV 2 hts (lw_V q1804 q1806 qs46 q71 q1807) rfl rfl rfl (by decide +kernel) ⟨Nat.le_of_ble_eq_true rfl, Nat.le_of_ble_eq_true rfl⟩) (mPreV hK hM) rfl rfl hl.1 rfl (lv_room (Nat.le_of_ble_eq_true rfl)) dX3_reads_82 ⟨Nat.le_of_ble_eq_true rfl, Nat.le_of_ble_eq_true rfl⟩) (fun r_17 hr_17 => ?_)
            rw [show S_2 4 = S 4 from (by rw [eS_2, su_n _ _ (by decide), eSc0, su_n _ _ (by decide)])] at hr_17
            rcases hr_17 with ⟨er_hr_17, hr_17⟩ | ⟨er_hr_17, hr_17⟩
            · subst er_hr_17
              refine lv_if_eq (tgt := 92) hx hb dX3_reads_85 (by decide) (fun c_ => absurd c_ (by decide)) (fun _ => ?_)
              refine lv_iconst (v := 2) hx hb dX3_reads_88 (by decide) ?_
              refine lv_goto (tgt := 93) hx hb dX3_reads_89 (by decide) ?_
              exact cut_93 2 (by rw [tk_sr, hsb, if_neg nc55_b_15, if_neg (show ¬ tk_low (S 4) k = true from tk_bF hr_16 (by omega)), if_pos (show tk_dig (S 4) k = true from tk_bT hr_17)]) (by decide)  _ _ _ (rfl) hM ls (lv_sub hl [0] rfl)
            · subst er_hr_17
              refine lv_if_eq (tgt := 92) hx hb dX3_reads_85 (by decide) (fun _ => ?_) (fun c_ => absurd (by decide) c_)
              refine lv_iconst (v := 3) hx hb dX3_reads_92 (by decide) ?_
              exact cut_93 3 (by rw [tk_sr, hsb, if_neg nc55_b_15, if_neg (show ¬ tk_low (S 4) k = true from tk_bF hr_16 (by omega)), if_neg (show ¬ tk_dig (S 4) k = true from tk_bF hr_17 (by omega))]) (by decide)  _ _ _ (rfl) hM ls (lv_sub hl [0] rfl)
        · skip
          have nc55_b_15 := neqT (a := k) (b := L0) (by rw [eSc0, su_s, su_s]) e_L0 (by omega) (by omega) c55_b_15
          refine lv_iconst (v := 0) hx hb dX3_reads_58 (by decide) ?_
          refine lv_goto (tgt := 93) hx hb dX3_reads_59 (by decide) ?_
          exact cut_93 0 (by rw [tk_sr, hsb, if_pos nc55_b_15]) (by decide)  _ _ _ (rfl) hM ls (lv_sub hl [0] rfl)
      · skip
        have c8_b_1 := Int32.not_le.mp c8_b_1
        have nc8_b_1 := nltT (a := k) (b := L0) (by rw [eSc0, su_s, su_s]) e_L0 (by omega) (by omega) c8_b_1
        refine lv_aload_n hx hb dX3_reads_11 rfl (lv_at hl 0 rfl) ?_
        refine m_get hx hb hts in_X3 hown hK hM 5 (by decide) (hts _ q1576) rfl dX3_reads_12 ?_
        refine lv_aload_n hx hb dX3_reads_15 rfl (lv_at hl 0 rfl) ?_
        refine m_get hx hb hts in_X3 hown hK hM 10 (by decide) (hts _ q1581) rfl dX3_reads_16 ?_
        refine m_cald hx hb hK hM k (by rw [eSc0, su_s, su_s]) (by omega) (v := (S 4 k)) (by rw [eSc0, su_n _ _ (by decide)]) dX3_reads_19 ?_
        refine lv_bipush (v := 32) hx hb dX3_reads_20 (by decide) ?_
        refine lv_icmp_ne (tgt := 38) hx hb dX3_reads_22 (by decide) (fun c22_b_18 => ?_) (fun c22_b_18 => ?_)
        · skip
          have hsb : tk_ba (S 4) L0 p0 = k := by rw [tk_ba, hac]; exact tk_wN (Or.inr (by simp [tk_spc, c22_b_18]))
          refine lv_aload_n hx hb dX3_reads_38 rfl (lv_at hl 0 rfl) ?_
          refine lv_aload_n hx hb dX3_reads_39 rfl (lv_at hl 0 rfl) ?_
          refine m_get hx hb hts in_X3 hown hK hM 10 (by decide) (hts _ q1581) rfl dX3_reads_40 ?_
          refine m_put hx hb hts in_X3 hown hK hM 9 3 (by decide) (hts _ q1580) rfl rfl rfl rfl dX3_reads_43 (fun H locs S_19 eS_19 hM => ?_)
          have cut_93 : ∀ (so : Nat) (hso : tk_sr (S 4) L0 p0 = so) (hso3 : so ≤ 3) (H : Heap) (locs : List Loc) (Sc93 : Nat → Nat → Int32) (eSc93 : Sc93 = S_19) (hM : mSt D cA ad (mA ad) s.heap H locs Sc93), ∀ (ls : Array Slot) (hl : lv_has ls 1 [(0, .ref (ad 7))]), W p l e (headSpec (ws_ yX3_reads cX3_reads 1 none) (rmL 3 0 0)).room s m ([.ref (ad 7)] : List Value).toArray below meth c H locs 0 0 (MQ below (va_Qv (fun (S' : Nat → Nat → Int32) => tk_rs S S' L0 p0) (mEnd D cA ad) (mA ad)) ([.ref (ad 7)] : List Value).toArray s 0 0 (mA ad)) (F0 m 93 ls [.int (nI so), .ref (ad 7)]) := by
            intro so hso hso3 H locs Sc93 eSc93 hM ls hl
            refine m_put hx hb hts in_X3 hown hK hM 11 5 (by decide) (hts _ q1582) rfl rfl rfl rfl dX3_reads_93 (fun H locs S_20 eS_20 hM => ?_)
            have cut_96 : ∀ (N : Nat) (k2 : Nat) (hk3 : k ≤ k2) (hk4 : k2 ≤ L0) (hac2 : tk_w (tk_f (S 4) so) L0 (L0 - k) k = tk_w (tk_f (S 4) so) L0 (L0 - k2) k2) (hN : L0 - k2 < N) (H : Heap) (locs : List Loc) (Sc96 : Nat → Nat → Int32) (eSc96 : Sc96 = su S_20 7 (su (S_20 7) 4 (nI k2))) (hM : mSt D cA ad (mA ad) s.heap H locs Sc96), ∀ (ls : Array Slot) (hl : lv_has ls 1 [(0, .ref (ad 7))]), W p l e (headSpec (ws_ yX3_reads cX3_reads 1 none) (rmL 3 0 0)).room s m ([.ref (ad 7)] : List Value).toArray below meth c H locs 0 0 (MQ below (va_Qv (fun (S' : Nat → Nat → Int32) => tk_rs S S' L0 p0) (mEnd D cA ad) (mA ad)) ([.ref (ad 7)] : List Value).toArray s 0 0 (mA ad)) (F0 m 96 ls []) := by
              intro N
              induction N with
              | zero => intro k2 hk3 hk4 hac2 hN; exact absurd hN (Nat.not_lt_zero _)
              | succ N ih_96 =>
                intro k2 hk3 hk4 hac2 hN H locs Sc96 eSc96 hM ls hl
                refine lv_aload_n hx hb dX3_reads_96 rfl (lv_at hl 0 rfl) ?_
                refine m_get hx hb hts in_X3 hown hK hM 11 (by decide) (hts _ q1582) (v := .int (nI so)) (m_fld rfl (by rw [eSc96, su_s, su_n _ _ (by decide), eS_20, su_s, su_s])) dX3_reads_97 ?_
                refine lv_iconst (v := 1) hx hb dX3_reads_100 (by decide) ?_
                refine lv_icmp_ne (tgt := 115) hx hb dX3_reads_101 (by decide) (fun c101_b_21 => ?_) (fun c101_b_21 => ?_)
                · skip
                  have nc101_b_21 := neqF (a := so) (b := 1) rfl rfl (by omega) (by omega) c101_b_21
                  refine lv_aload_n hx hb dX3_reads_115 rfl (lv_at hl 0 rfl) ?_
                  refine m_get hx hb hts in_X3 hown hK hM 11 (by decide) (hts _ q1582) (v := .int (nI so)) (m_fld rfl (by rw [eSc96, su_s, su_n _ _ (by decide), eS_20, su_s, su_s])) dX3_reads_116 ?_
                  refine lv_iconst (v := 2) hx hb dX3_reads_119 (by decide) ?_
                  refine lv_icmp_ne (tgt := 147) hx hb dX3_reads_120 (by decide) (fun c120_b_22 => ?_) (fun c120_b_22 => ?_)
                  · skip
                    have nc120_b_22 := neqF (a := so) (b := 2) rfl rfl (by omega) (by omega) c120_b_22
                    refine lv_aload_n hx hb dX3_reads_147 rfl (lv_at hl 0 rfl) ?_
                    refine lv_dup hx hb dX3_reads_148 rfl ?_
                    refine m_get hx hb hts in_X3 hown hK hM 10 (by decide) (hts _ q1581) rfl dX3_reads_149 ?_
                    refine lv_aload_n hx hb dX3_reads_152 rfl (lv_at hl 0 rfl) ?_
                    refine m_get hx hb hts in_X3 hown hK hM 11 (by decide) (hts _ q1582) (v := .int (nI so)) (m_fld rfl (by rw [eSc96, su_s, su_n _ _ (by decide), eS_20, su_s, su_s])) dX3_reads_153 ?_
                    refine lv_iconst (v := 3) hx hb dX3_reads_156 (by decide) ?_
                    refine lv_icmp_ne (tgt := 164) hx hb dX3_reads_157 (by decide) (fun c157_b_23 => ?_) (fun c157_b_23 => ?_)
                    · skip
                      have nc157_b_23 := neqF (a := so) (b := 3) rfl rfl (by omega) (by omega) c157_b_23
                      refine lv_iconst (v := 0) hx hb dX3_reads_164 (by decide) ?_
                      refine lv_iadd hx hb dX3_reads_165 ?_
                      refine m_put hx hb hts in_X3 hown hK hM 10 4 (by decide) (hts _ q1581) rfl rfl rfl rfl dX3_reads_166 (fun H locs S_24 eS_24 hM => ?_)
                      have hto : tk_to (S 4) L0 p0 = k2 + (if so = 3 then 1 else 0) := by rw [tk_to, hso, hsb, hac2, tk_wX (by rw [tk_f0 nc101_b_21 nc120_b_22, Bool.and_false])]
                      rw [if_neg nc157_b_23] at hto
                      exact W.vret hx hb hr (fun t ht hW => ⟨⟨S_24, rfl, (by subst eS_24; subst eSc96; subst eS_20; subst eSc93; subst eS_19; subst eSc0; exact ⟨fun j hj => by simp [su_n, hj], by rw [hsb]; simp [su_s, su_n], by rw [hto]; simp [su_s, su_n, nI_1], by rw [hso]; simp [su_s, su_n], fun j h3 h4 h5 => by simp [su_s, su_n, h3, h4, h5]⟩), by rw [ht]; exact hM.1, hM.2.1⟩, hM.2.2.F ht⟩) hM.2.2.2.2 dX3_reads_169
                    · skip
                      have nc157_b_23 := neqT (a := so) (b := 3) rfl rfl (by omega) (by omega) c157_b_23
                      refine lv_iconst (v := 1) hx hb dX3_reads_160 (by decide) ?_
                      refine lv_goto (tgt := 165) hx hb dX3_reads_161 (by decide) ?_
                      refine lv_iadd hx hb dX3_reads_165 ?_
                      refine m_put hx hb hts in_X3 hown hK hM 10 4 (by decide) (hts _ q1581) rfl rfl rfl rfl dX3_reads_166 (fun H locs S_25 eS_25 hM => ?_)
                      have hto : tk_to (S 4) L0 p0 = k2 + (if so = 3 then 1 else 0) := by rw [tk_to, hso, hsb, hac2, tk_wX (by rw [tk_f0 nc101_b_21 nc120_b_22, Bool.and_false])]
                      rw [if_pos nc157_b_23] at hto
                      exact W.vret hx hb hr (fun t ht hW => ⟨⟨S_25, rfl, (by subst eS_25; subst eSc96; subst eS_20; subst eSc93; subst eS_19; subst eSc0; exact ⟨fun j hj => by simp [su_n, hj], by rw [hsb]; simp [su_s, su_n], by rw [hto]; simp [su_s, su_n, nI_1], by rw [hso]; simp [su_s, su_n], fun j h3 h4 h5 => by simp [su_s, su_n, h3, h4, h5]⟩), by rw [ht]; exact hM.1, hM.2.1⟩, hM.2.2.F ht⟩) hM.2.2.2.2 dX3_reads_169
                  · skip
                    have nc120_b_22 := neqT (a := so) (b := 2) rfl rfl (by omega) (by omega) c120_b_22
                    refine lv_aload_n hx hb dX3_reads_123 rfl (lv_at hl 0 rfl) ?_
                    refine lv_bipush (v := 48) hx hb dX3_reads_124 (by decide) ?_
                    refine lv_bipush (v := 57) hx hb dX3_reads_126 (by decide) ?_
                    refine vp_callSi (W.runV (As := [.int (48 : Int32), .int (57 : Int32)]) (rest := []) ⟨hx, hb, hml, hown, hts⟩ (met_X3_isIn l D cA ad Sc96 (48 : Int32) (57 : Int32) L0 k2 (by first | assumption | omega | decide) (Eq.trans (show Sc96 7 1 = (S 7 1) from (by rw [eSc96, su_s, su_n _ _ (by decide), eS_20, su_s, su_n _ _ (by decide), eSc93, eS_19, su_s, su_n _ _ (by decide), eSc0, su_s, su_n _ _ (by decide)])) e_L0) (by first | assumption | omega | decide) (by rw [eSc96, su_s, su_s])) (cwV 2 hts (lw_V q1804 q1806 qs46 q71 q1807) rfl rfl rfl (by decide +kernel) ⟨Nat.le_of_ble_eq_true rfl, Nat.le_of_ble_eq_true rfl⟩) (mPreV hK hM) rfl rfl hl.1 rfl (lv_room (Nat.le_of_ble_eq_true rfl)) dX3_reads_128 ⟨Nat.le_of_ble_eq_true rfl, Nat.le_of_ble_eq_true rfl⟩) (fun r_26 hr_26 => ?_)
                    rw [show Sc96 4 = S 4 from (by rw [eSc96, su_n _ _ (by decide), eS_20, su_n _ _ (by decide), eSc93, eS_19, su_n _ _ (by decide), eSc0, su_n _ _ (by decide)])] at hr_26
                    rcases hr_26 with ⟨er_hr_26, hr_26⟩ | ⟨er_hr_26, hr_26⟩
                    · subst er_hr_26
                      refine lv_if_eq (tgt := 147) hx hb dX3_reads_131 (by decide) (fun c_ => absurd c_ (by decide)) (fun _ => ?_)
                      refine lv_aload_n hx hb dX3_reads_134 rfl (lv_at hl 0 rfl) ?_
                      refine lv_dup hx hb dX3_reads_135 rfl ?_
                      refine m_get hx hb hts in_X3 hown hK hM 10 (by decide) (hts _ q1581) rfl dX3_reads_136 ?_
                      refine lv_iconst (v := 1) hx hb dX3_reads_139 (by decide) ?_
                      refine lv_iadd hx hb dX3_reads_140 ?_
                      refine m_put hx hb hts in_X3 hown hK hM 10 4 (by decide) (hts _ q1581) rfl rfl rfl rfl dX3_reads_141 (fun H locs S_27 eS_27 hM => ?_)
                      refine lv_goto (tgt := 96) hx hb dX3_reads_144 (by decide) ?_
                      have hlk := tk_wT (so := so) (t := S 4) (L := L0) (k := k2) (by rw [tk_f2 nc120_b_22]; exact hr_26)
                      exact ih_96 (k2 + 1) (by omega) hlk.1 (hac2.trans hlk.2) (by omega) _ _ _ (by rw [eS_27, eSc96]; simp only [su_su, su_s, nI_1]) hM ls (lv_sub hl [0] rfl)
                    · subst er_hr_26
                      refine lv_if_eq (tgt := 147) hx hb dX3_reads_131 (by decide) (fun _ => ?_) (fun c_ => absurd (by decide) c_)
                      refine lv_aload_n hx hb dX3_reads_147 rfl (lv_at hl 0 rfl) ?_
                      refine lv_dup hx hb dX3_reads_148 rfl ?_
                      refine m_get hx hb hts in_X3 hown hK hM 10 (by decide) (hts _ q1581) rfl dX3_reads_149 ?_
                      refine lv_aload_n hx hb dX3_reads_152 rfl (lv_at hl 0 rfl) ?_
                      refine m_get hx hb hts in_X3 hown hK hM 11 (by decide) (hts _ q1582) (v := .int (nI so)) (m_fld rfl (by rw [eSc96, su_s, su_n _ _ (by decide), eS_20, su_s, su_s])) dX3_reads_153 ?_
                      refine lv_iconst (v := 3) hx hb dX3_reads_156 (by decide) ?_
                      refine lv_icmp_ne (tgt := 164) hx hb dX3_reads_157 (by decide) (fun _ => ?_) (fun c_ => (absurd ((c120_b_22).symm.trans c_) (by decide)))
                      refine lv_iconst (v := 0) hx hb dX3_reads_164 (by decide) ?_
                      refine lv_iadd hx hb dX3_reads_165 ?_
                      refine m_put hx hb hts in_X3 hown hK hM 10 4 (by decide) (hts _ q1581) rfl rfl rfl rfl dX3_reads_166 (fun H locs S_28 eS_28 hM => ?_)
                      have hto : tk_to (S 4) L0 p0 = k2 + (if so = 3 then 1 else 0) := by rw [tk_to, hso, hsb, hac2, tk_wX (by rw [tk_f2 nc120_b_22]; exact hr_26)]
                      rw [if_neg (by omega)] at hto
                      exact W.vret hx hb hr (fun t ht hW => ⟨⟨S_28, rfl, (by subst eS_28; subst eSc96; subst eS_20; subst eSc93; subst eS_19; subst eSc0; exact ⟨fun j hj => by simp [su_n, hj], by rw [hsb]; simp [su_s, su_n], by rw [hto]; simp [su_s, su_n, nI_1], by rw [hso]; simp [su_s, su_n], fun j h3 h4 h5 => by simp [su_s, su_n, h3, h4, h5]⟩), by rw [ht]; exact hM.1, hM.2.1⟩, hM.2.2.F ht⟩) hM.2.2.2.2 dX3_reads_169
                · skip
                  have nc101_b_21 := neqT (a := so) (b := 1) rfl rfl (by omega) (by omega) c101_b_21
                  refine lv_aload_n hx hb dX3_reads_104 rfl (lv_at hl 0 rfl) ?_
                  refine lv_bipush (v := 97) hx hb dX3_reads_105 (by decide) ?_
                  refine lv_bipush (v := 122) hx hb dX3_reads_107 (by decide) ?_
                  refine vp_callSi (W.runV (As := [.int (97 : Int32), .int (122 : Int32)]) (rest := []) ⟨hx, hb, hml, hown, hts⟩ (met_X3_isIn l D cA ad Sc96 (97 : Int32) (122 : Int32) L0 k2 (by first | assumption | omega | decide) (Eq.trans (show Sc96 7 1 = (S 7 1) from (by rw [eSc96, su_s, su_n _ _ (by decide), eS_20, su_s, su_n _ _ (by decide), eSc93, eS_19, su_s, su_n _ _ (by decide), eSc0, su_s, su_n _ _ (by decide)])) e_L0) (by first | assumption | omega | decide) (by rw [eSc96, su_s, su_s])) (cwV 2 hts (lw_V q1804 q1806 qs46 q71 q1807) rfl rfl rfl (by decide +kernel) ⟨Nat.le_of_ble_eq_true rfl, Nat.le_of_ble_eq_true rfl⟩) (mPreV hK hM) rfl rfl hl.1 rfl (lv_room (Nat.le_of_ble_eq_true rfl)) dX3_reads_109 ⟨Nat.le_of_ble_eq_true rfl, Nat.le_of_ble_eq_true rfl⟩) (fun r_29 hr_29 => ?_)
                  rw [show Sc96 4 = S 4 from (by rw [eSc96, su_n _ _ (by decide), eS_20, su_n _ _ (by decide), eSc93, eS_19, su_n _ _ (by decide), eSc0, su_n _ _ (by decide)])] at hr_29
                  rcases hr_29 with ⟨er_hr_29, hr_29⟩ | ⟨er_hr_29, hr_29⟩
                  · subst er_hr_29
                    refine lv_if_ne (tgt := 134) hx hb dX3_reads_112 (by decide) (fun _ => ?_) (fun c_ => absurd c_ (by decide))
                    refine lv_aload_n hx hb dX3_reads_134 rfl (lv_at hl 0 rfl) ?_
                    refine lv_dup hx hb dX3_reads_135 rfl ?_
                    refine m_get hx hb hts in_X3 hown hK hM 10 (by decide) (hts _ q1581) rfl dX3_reads_136 ?_
                    refine lv_iconst (v := 1) hx hb dX3_reads_139 (by decide) ?_
                    refine lv_iadd hx hb dX3_reads_140 ?_
                    refine m_put hx hb hts in_X3 hown hK hM 10 4 (by decide) (hts _ q1581) rfl rfl rfl rfl dX3_reads_141 (fun H locs S_30 eS_30 hM => ?_)
                    refine lv_goto (tgt := 96) hx hb dX3_reads_144 (by decide) ?_
                    have hlk := tk_wT (so := so) (t := S 4) (L := L0) (k := k2) (by rw [tk_f1 nc101_b_21]; exact hr_29)
                    exact ih_96 (k2 + 1) (by omega) hlk.1 (hac2.trans hlk.2) (by omega) _ _ _ (by rw [eS_30, eSc96]; simp only [su_su, su_s, nI_1]) hM ls (lv_sub hl [0] rfl)
                  · subst er_hr_29
                    refine lv_if_ne (tgt := 134) hx hb dX3_reads_112 (by decide) (fun c_ => absurd (by decide) c_) (fun _ => ?_)
                    refine lv_aload_n hx hb dX3_reads_115 rfl (lv_at hl 0 rfl) ?_
                    refine m_get hx hb hts in_X3 hown hK hM 11 (by decide) (hts _ q1582) (v := .int (nI so)) (m_fld rfl (by rw [eSc96, su_s, su_n _ _ (by decide), eS_20, su_s, su_s])) dX3_reads_116 ?_
                    refine lv_iconst (v := 2) hx hb dX3_reads_119 (by decide) ?_
                    refine lv_icmp_ne (tgt := 147) hx hb dX3_reads_120 (by decide) (fun _ => ?_) (fun c_ => (absurd ((c101_b_21).symm.trans c_) (by decide)))
                    refine lv_aload_n hx hb dX3_reads_147 rfl (lv_at hl 0 rfl) ?_
                    refine lv_dup hx hb dX3_reads_148 rfl ?_
                    refine m_get hx hb hts in_X3 hown hK hM 10 (by decide) (hts _ q1581) rfl dX3_reads_149 ?_
                    refine lv_aload_n hx hb dX3_reads_152 rfl (lv_at hl 0 rfl) ?_
                    refine m_get hx hb hts in_X3 hown hK hM 11 (by decide) (hts _ q1582) (v := .int (nI so)) (m_fld rfl (by rw [eSc96, su_s, su_n _ _ (by decide), eS_20, su_s, su_s])) dX3_reads_153 ?_
                    refine lv_iconst (v := 3) hx hb dX3_reads_156 (by decide) ?_
                    refine lv_icmp_ne (tgt := 164) hx hb dX3_reads_157 (by decide) (fun _ => ?_) (fun c_ => (absurd ((c101_b_21).symm.trans c_) (by decide)))
                    refine lv_iconst (v := 0) hx hb dX3_reads_164 (by decide) ?_
                    refine lv_iadd hx hb dX3_reads_165 ?_
                    refine m_put hx hb hts in_X3 hown hK hM 10 4 (by decide) (hts _ q1581) rfl rfl rfl rfl dX3_reads_166 (fun H locs S_31 eS_31 hM => ?_)
                    have hto : tk_to (S 4) L0 p0 = k2 + (if so = 3 then 1 else 0) := by rw [tk_to, hso, hsb, hac2, tk_wX (by rw [tk_f1 nc101_b_21]; exact hr_29)]
                    rw [if_neg (by omega)] at hto
                    exact W.vret hx hb hr (fun t ht hW => ⟨⟨S_31, rfl, (by subst eS_31; subst eSc96; subst eS_20; subst eSc93; subst eS_19; subst eSc0; exact ⟨fun j hj => by simp [su_n, hj], by rw [hsb]; simp [su_s, su_n], by rw [hto]; simp [su_s, su_n, nI_1], by rw [hso]; simp [su_s, su_n], fun j h3 h4 h5 => by simp [su_s, su_n, h3, h4, h5]⟩), by rw [ht]; exact hM.1, hM.2.1⟩, hM.2.2.F ht⟩) hM.2.2.2.2 dX3_reads_169
            exact cut_96 _ k (Nat.le_refl _) hk2 rfl (Nat.lt_succ_self _) _ _ _ (by rw [show nI k = S_20 7 4 from (Eq.trans (by rw [eS_20, su_s, su_n _ _ (by decide), eSc93, eS_19, su_s, su_n _ _ (by decide)]) (by rw [eSc0, su_s, su_s])).symm, su_self, su_self]) hM ls (lv_sub hl [0] rfl)
          refine lv_aload_n hx hb dX3_reads_46 rfl (lv_at hl 0 rfl) ?_
          refine lv_aload_n hx hb dX3_reads_47 rfl (lv_at hl 0 rfl) ?_
          refine m_get hx hb hts in_X3 hown hK hM 10 (by decide) (hts _ q1581) (v := .int (Sc0 7 4)) (m_fld rfl (by rw [eS_19, su_s, su_n _ _ (by decide)])) dX3_reads_48 ?_
          refine lv_aload_n hx hb dX3_reads_51 rfl (lv_at hl 0 rfl) ?_
          refine m_get hx hb hts in_X3 hown hK hM 6 (by decide) (hts _ q1577) (v := .int (S 7 1)) (m_fld rfl (by rw [eS_19, su_s, su_n _ _ (by decide), eSc0, su_s, su_n _ _ (by decide)])) dX3_reads_52 ?_
          refine lv_icmp_ne (tgt := 62) hx hb dX3_reads_55 (by decide) (fun c55_b_32 => ?_) (fun c55_b_32 => ?_)
          · skip
            have nc55_b_32 := neqF (a := k) (b := L0) (by rw [eSc0, su_s, su_s]) e_L0 (by omega) (by omega) c55_b_32
            refine lv_aload_n hx hb dX3_reads_62 rfl (lv_at hl 0 rfl) ?_
            refine lv_bipush (v := 97) hx hb dX3_reads_63 (by decide) ?_
            refine lv_bipush (v := 122) hx hb dX3_reads_65 (by decide) ?_
            refine vp_callSi (W.runV (As := [.int (97 : Int32), .int (122 : Int32)]) (rest := [.ref (ad 7)]) ⟨hx, hb, hml, hown, hts⟩ (met_X3_isIn l D cA ad S_19 (97 : Int32) (122 : Int32) L0 k (by first | assumption | omega | decide) (Eq.trans (show S_19 7 1 = (S 7 1) from (by rw [eS_19, su_s, su_n _ _ (by decide), eSc0, su_s, su_n _ _ (by decide)])) e_L0) (by first | assumption | omega | decide) (Eq.trans (show S_19 7 4 = (Sc0 7 4) from (by rw [eS_19, su_s, su_n _ _ (by decide)])) (by rw [eSc0, su_s, su_s]))) (cwV 2 hts (lw_V q1804 q1806 qs46 q71 q1807) rfl rfl rfl (by decide +kernel) ⟨Nat.le_of_ble_eq_true rfl, Nat.le_of_ble_eq_true rfl⟩) (mPreV hK hM) rfl rfl hl.1 rfl (lv_room (Nat.le_of_ble_eq_true rfl)) dX3_reads_67 ⟨Nat.le_of_ble_eq_true rfl, Nat.le_of_ble_eq_true rfl⟩) (fun r_33 hr_33 => ?_)
            rw [show S_19 4 = S 4 from (by rw [eS_19, su_n _ _ (by decide), eSc0, su_n _ _ (by decide)])] at hr_33
            rcases hr_33 with ⟨er_hr_33, hr_33⟩ | ⟨er_hr_33, hr_33⟩
            · subst er_hr_33
              refine lv_if_eq (tgt := 77) hx hb dX3_reads_70 (by decide) (fun c_ => absurd c_ (by decide)) (fun _ => ?_)
              refine lv_iconst (v := 1) hx hb dX3_reads_73 (by decide) ?_
              refine lv_goto (tgt := 93) hx hb dX3_reads_74 (by decide) ?_
              exact cut_93 1 (by rw [tk_sr, hsb, if_neg nc55_b_32, if_pos (show tk_low (S 4) k = true from tk_bT hr_33)]) (by decide)  _ _ _ (rfl) hM ls (lv_sub hl [0] rfl)
            · subst er_hr_33
              refine lv_if_eq (tgt := 77) hx hb dX3_reads_70 (by decide) (fun _ => ?_) (fun c_ => absurd (by decide) c_)
              refine lv_aload_n hx hb dX3_reads_77 rfl (lv_at hl 0 rfl) ?_
              refine lv_bipush (v := 48) hx hb dX3_reads_78 (by decide) ?_
              refine lv_bipush (v := 57) hx hb dX3_reads_80 (by decide) ?_
              refine vp_callSi (W.runV (As := [.int (48 : Int32), .int (57 : Int32)]) (rest := [.ref (ad 7)]) ⟨hx, hb, hml, hown, hts⟩ (met_X3_isIn l D cA ad S_19 (48 : Int32) (57 : Int32) L0 k (by first | assumption | omega | decide) (Eq.trans (show S_19 7 1 = (S 7 1) from (by rw [eS_19, su_s, su_n _ _ (by decide), eSc0, su_s, su_n _ _ (by decide)])) e_L0) (by first | assumption | omega | decide) (Eq.trans (show S_19 7 4 = (Sc0 7 4) from (by rw [eS_19, su_s, su_n _ _ (by decide)])) (by rw [eSc0, su_s, su_s]))) (cwV 2 hts (lw_V q1804 q1806 qs46 q71 q1807) rfl rfl rfl (by decide +kernel) ⟨Nat.le_of_ble_eq_true rfl, Nat.le_of_ble_eq_true rfl⟩) (mPreV hK hM) rfl rfl hl.1 rfl (lv_room (Nat.le_of_ble_eq_true rfl)) dX3_reads_82 ⟨Nat.le_of_ble_eq_true rfl, Nat.le_of_ble_eq_true rfl⟩) (fun r_34 hr_34 => ?_)
              rw [show S_19 4 = S 4 from (by rw [eS_19, su_n _ _ (by decide), eSc0, su_n _ _ (by decide)])] at hr_34
              rcases hr_34 with ⟨er_hr_34, hr_34⟩ | ⟨er_hr_34, hr_34⟩
              · subst er_hr_34
                refine lv_if_eq (tgt := 92) hx hb dX3_reads_85 (by decide) (fun c_ => absurd c_ (by decide)) (fun _ => ?_)
                refine lv_iconst (v := 2) hx hb dX3_reads_88 (by decide) ?_
                refine lv_goto (tgt := 93) hx hb dX3_reads_89 (by decide) ?_
                exact cut_93 2 (by rw [tk_sr, hsb, if_neg nc55_b_32, if_neg (show ¬ tk_low (S 4) k = true from tk_bF hr_33 (by omega)), if_pos (show tk_dig (S 4) k = true from tk_bT hr_34)]) (by decide)  _ _ _ (rfl) hM ls (lv_sub hl [0] rfl)
              · subst er_hr_34
                refine lv_if_eq (tgt := 92) hx hb dX3_reads_85 (by decide) (fun _ => ?_) (fun c_ => absurd (by decide) c_)
                refine lv_iconst (v := 3) hx hb dX3_reads_92 (by decide) ?_
                exact cut_93 3 (by rw [tk_sr, hsb, if_neg nc55_b_32, if_neg (show ¬ tk_low (S 4) k = true from tk_bF hr_33 (by omega)), if_neg (show ¬ tk_dig (S 4) k = true from tk_bF hr_34 (by omega))]) (by decide)  _ _ _ (rfl) hM ls (lv_sub hl [0] rfl)
          · skip
            have nc55_b_32 := neqT (a := k) (b := L0) (by rw [eSc0, su_s, su_s]) e_L0 (by omega) (by omega) c55_b_32
            refine lv_iconst (v := 0) hx hb dX3_reads_58 (by decide) ?_
            refine lv_goto (tgt := 93) hx hb dX3_reads_59 (by decide) ?_
            exact cut_93 0 (by rw [tk_sr, hsb, if_pos nc55_b_32]) (by decide)  _ _ _ (rfl) hM ls (lv_sub hl [0] rfl)
        · skip
          refine lv_aload_n hx hb dX3_reads_25 rfl (lv_at hl 0 rfl) ?_
          refine lv_dup hx hb dX3_reads_26 rfl ?_
          refine m_get hx hb hts in_X3 hown hK hM 10 (by decide) (hts _ q1581) rfl dX3_reads_27 ?_
          refine lv_iconst (v := 1) hx hb dX3_reads_30 (by decide) ?_
          refine lv_iadd hx hb dX3_reads_31 ?_
          refine m_put hx hb hts in_X3 hown hK hM 10 4 (by decide) (hts _ q1581) rfl rfl rfl rfl dX3_reads_32 (fun H locs S_35 eS_35 hM => ?_)
          refine lv_goto (tgt := 0) hx hb dX3_reads_35 (by decide) ?_
          exact ih_0 (k + 1) (by omega) (by omega) (hac.trans (tk_wY (by omega) (by simp [tk_spc, c22_b_18]))) (by omega) _ _ _ (by rw [eS_35, eSc0]; simp only [su_su, su_s, nI_1]) hM ls (lv_sub hl [0] rfl)
  exact cut_0 _ p0 (Nat.le_refl _) hp rfl (Nat.lt_succ_self _) _ _ _ (by rw [show nI p0 = S 7 4 from (Eq.trans rfl e_p0).symm, su_self, su_self]) hM ls (lv_sub hl [0] rfl)
