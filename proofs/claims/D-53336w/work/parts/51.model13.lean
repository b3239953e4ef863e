set_option maxHeartbeats 4000000 in
set_option maxRecDepth 100000 in
theorem met_X3_word (l : Launch) (D : va_G) (cA : Nat → ClassId) (ad : Nat → Nat) (S : Nat → Nat → Int32) (s0 : Nat) (e0 : Nat) (e_s0 : S 7 3 = nI s0) (e_e0 : S 7 4 = nI e0) (hse : s0 ≤ e0) (he : e0 ≤ 140) : Met l yX3_word (ws_ yX3_word cX3_word 3 (some .int)) (rmL 1 0 0) (mPre D cA ad S []) (vp_Si (fun r => r = tk_word (S 4) s0 e0)) 0 0 (fun _ => False) := by
  refine Met.ofW (cc := cX3_word) (maxL := 3) (ret := (some .int)) (by decide) rfl ?_
  intro p e s m args below meth c s₁ Bd hml hv
  obtain ⟨rfl, hP, hK, hD⟩ := hv
  have hx := Bd.exec
  have hb := Bd.bytes
  have hr := Bd.returns
  have hts := atoms_spec (ws := (ws_ yX3_word cX3_word 3 (some .int))) Bd.pre
  have hts : ∀ w ∈ lw_all, w.before _ s = true := fun w h => hts w (List.mem_cons_of_mem _ h)
  have hown : s.vm.findClass RX3 = some m.cls := findClass_of_methodNamed Bd.named
  have hlocks := Bd.notSynchronized
  have hM : mSt D cA ad (mA ad) s.heap s.heap [] S := ⟨hP, hD, va_S.rf⟩
  have hl := lv_entry ([.ref (ad 7)]) (n := 3) (Nat.le_of_ble_eq_true rfl)
  rw [lg_entry_eq]
  generalize (lg_sl ([.ref (ad 7)]) ++ List.replicate (3 - (lg_sl ([.ref (ad 7)])).length) Slot.unset).toArray = ls at hl ⊢
  have hl : lv_has ls 3 [(0, .ref (ad 7))] := hl
  refine lv_iconst (v := 0) hx hb dX3_word_0 (by decide) ?_
  refine lv_istore_n (lv' := [(1, .int (0 : Int32)), (0, .ref (ad 7))]) hx hb dX3_word_1 rfl hl (by decide) rfl (fun ls hl => ?_)
  refine lv_aload_n hx hb dX3_word_2 rfl (lv_at hl 1 rfl) ?_
  refine m_get hx hb hts in_X3 hown hK hM 9 (by decide) (hts _ q1580) rfl dX3_word_3 ?_
  rw [show (S 7 3) = nI (s0 + 0) from e_s0]
  refine lv_istore_n (lv' := [(2, .int (nI (s0 + 0))), (1, .int (0 : Int32)), (0, .ref (ad 7))]) hx hb dX3_word_6 rfl hl (by decide) rfl (fun ls hl => ?_)
  have cut_7 : ∀ (N : Nat) (m1 : Nat) (hm : m1 ≤ e0 - s0) (h6 : m1 = 0 ∨ e0 - s0 < 6) (hN : e0 - s0 - m1 < N) , ∀ (ls : Array Slot) (hl : lv_has ls 3 [(1, .int (tk_fold 32 96 (S 4) s0 m1)), (2, .int (nI (s0 + m1))), (0, .ref (ad 7))]), W p l e (headSpec (ws_ yX3_word cX3_word 3 (some .int)) (rmL 1 0 0)).room s m ([.ref (ad 7)] : List Value).toArray below meth c s.heap [] 0 0 (MQ below (vp_Si (fun r => r = tk_word (S 4) s0 e0)) ([.ref (ad 7)] : List Value).toArray s 0 0 (fun _ => False)) (F0 m 7 ls []) := by
    intro N
    induction N with
    | zero => intro m1 hm h6 hN; exact absurd hN (Nat.not_lt_zero _)
    | succ N ih_7 =>
      intro m1 hm h6 hN  ls hl
      refine lv_iload_n hx hb dX3_word_7 rfl (lv_at hl 1 rfl) ?_
      refine lv_aload_n hx hb dX3_word_8 rfl (lv_at hl 2 rfl) ?_
      refine m_get hx hb hts in_X3 hown hK hM 10 (by decide) (hts _ q1581) rfl dX3_word_9 ?_
      refine lv_icmp_ge (tgt := 50) hx hb dX3_word_12 (by decide) (fun c12_b_1 => ?_) (fun c12_b_1 => ?_)
      · skip
        have c12_b_1 := Int32.not_lt.mpr c12_b_1
        have nc12_b_1 := nltF (a := (s0 + m1)) (b := e0) rfl e_e0 (by omega) (by omega) c12_b_1
        refine lv_iload_n hx hb dX3_word_50 rfl (lv_at hl 0 rfl) ?_
        exact W.iret hx hb hr (fun t ht hW => ⟨_, rfl, (by rw [tk_word]; first | (rw [if_pos (by omega), show e0 - s0 = m1 by omega]; done) | (rw [if_neg (by omega), show m1 = 0 by omega]; rfl)), ht⟩) (fun _ h => absurd h List.not_mem_nil) dX3_word_51
      · skip
        have c12_b_1 := Int32.not_le.mp c12_b_1
        have nc12_b_1 := nltT (a := (s0 + m1)) (b := e0) rfl e_e0 (by omega) (by omega) c12_b_1
        refine lv_aload_n hx hb dX3_word_15 rfl (lv_at hl 2 rfl) ?_
        refine m_get hx hb hts in_X3 hown hK hM 10 (by decide) (hts _ q1581) rfl dX3_word_16 ?_
        refine lv_aload_n hx hb dX3_word_19 rfl (lv_at hl 2 rfl) ?_
        refine m_get hx hb hts in_X3 hown hK hM 9 (by decide) (hts _ q1580) rfl dX3_word_20 ?_
        refine lv_isub hx hb dX3_word_23 ?_
        refine lv_bipush (v := 6) hx hb dX3_word_24 (by decide) ?_
        refine lv_icmp_ge (tgt := 50) hx hb dX3_word_26 (by decide) (fun c26_b_2 => ?_) (fun c26_b_2 => ?_)
        · skip
          have c26_b_2 := Int32.not_lt.mpr c26_b_2
          have nc26_b_2 := nltF (a := (e0 - s0)) (b := 6) (ixS e_e0 e_s0 (by omega)) rfl (by omega) (by omega) c26_b_2
          refine lv_iload_n hx hb dX3_word_50 rfl (lv_at hl 0 rfl) ?_
          exact W.iret hx hb hr (fun t ht hW => ⟨_, rfl, (by rw [tk_word]; first | (rw [if_pos (by omega), show e0 - s0 = m1 by omega]; done) | (rw [if_neg (by omega), show m1 = 0 by omega]; rfl)), ht⟩) (fun _ h => absurd h List.not_mem_nil) dX3_word_51
        · skip
          have c26_b_2 := Int32.not_le.mp c26_b_2
          have nc26_b_2 := nltT (a := (e0 - s0)) (b := 6) (ixS e_e0 e_s0 (by omega)) rfl (by omega) (by omega) c26_b_2
          refine lv_bipush (v := 32) hx hb dX3_word_29 (by decide) ?_
          refine lv_iload_n hx hb dX3_word_31 rfl (lv_at hl 0 rfl) ?_
          refine lv_imul hx hb dX3_word_32 ?_
          refine lv_aload_n hx hb dX3_word_33 rfl (lv_at hl 2 rfl) ?_
          refine m_get hx hb hts in_X3 hown hK hM 5 (by decide) (hts _ q1576) rfl dX3_word_34 ?_
          refine lv_iload_n hx hb dX3_word_37 rfl (lv_at hl 1 rfl) ?_
          refine m_cald hx hb hK hM (s0 + m1) rfl (by omega) (v := (S 4 (s0 + m1))) rfl dX3_word_38 ?_
          refine lv_iadd hx hb dX3_word_39 ?_
          refine lv_bipush (v := 96) hx hb dX3_word_40 (by decide) ?_
          refine lv_isub hx hb dX3_word_42 ?_
          refine lv_istore_n (lv' := [(1, .int ((((32 : Int32) * (tk_fold 32 96 (S 4) s0 m1)) + (S 4 (s0 + m1))) - (96 : Int32))), (2, .int (nI (s0 + m1))), (0, .ref (ad 7))]) hx hb dX3_word_43 rfl hl (by decide) rfl (fun ls hl => ?_)
          refine lv_iinc (v := (nI ((s0 + m1) + 1))) (lv' := [(2, .int (nI ((s0 + m1) + 1))), (1, .int ((((32 : Int32) * (tk_fold 32 96 (S 4) s0 m1)) + (S 4 (s0 + m1))) - (96 : Int32))), (0, .ref (ad 7))]) hx hb dX3_word_44 hl (k := 1) rfl (ixA rfl rfl) (by decide) rfl (fun ls hl => ?_)
          refine lv_goto (tgt := 7) hx hb dX3_word_47 (by decide) ?_
          exact ih_7 (m1 + 1) (by omega) (by omega) (by omega)  ls (lv_sub hl [1, 0, 2] rfl)
  exact cut_7 _ 0 (by omega) (Or.inl rfl) (Nat.lt_succ_self _)  ls (lv_sub hl [1, 0, 2] rfl)

set_option maxHeartbeats 4000000 in
set_option maxRecDepth 100000 in
theorem met_X3_value (l : Launch) (D : va_G) (cA : Nat → ClassId) (ad : Nat → Nat) (S : Nat → Nat → Int32) (s0 : Nat) (e0 : Nat) (e_s0 : S 7 3 = nI s0) (e_e0 : S 7 4 = nI e0) (hse : s0 ≤ e0) (he : e0 ≤ 140) : Met l yX3_value (ws_ yX3_value cX3_value 3 (some .int)) (rmL 1 0 0) (mPre D cA ad S []) (vp_Si (fun r => r = tk_fold 10 48 (S 4) s0 (e0 - s0))) 0 0 (fun _ => False) := by
  refine Met.ofW (cc := cX3_value) (maxL := 3) (ret := (some .int)) (by decide) rfl ?_
  intro p e s m args below meth c s₁ Bd hml hv
  obtain ⟨rfl, hP, hK, hD⟩ := hv
  have hx := Bd.exec
  have hb := Bd.bytes
  have hr := Bd.returns
  have hts := atoms_spec (ws := (ws_ yX3_value cX3_value 3 (some .int))) Bd.pre
  have hts : ∀ w ∈ lw_all, w.before _ s = true := fun w h => hts w (List.mem_cons_of_mem _ h)
  have hown : s.vm.findClass RX3 = some m.cls := findClass_of_methodNamed Bd.named
  have hlocks := Bd.notSynchronized
  have hM : mSt D cA ad (mA ad) s.heap s.heap [] S := ⟨hP, hD, va_S.rf⟩
  have hl := lv_entry ([.ref (ad 7)]) (n := 3) (Nat.le_of_ble_eq_true rfl)
  rw [lg_entry_eq]
  generalize (lg_sl ([.ref (ad 7)]) ++ List.replicate (3 - (lg_sl ([.ref (ad 7)])).length) Slot.unset).toArray = ls at hl ⊢
  have hl : lv_has ls 3 [(0, .ref (ad 7))] := hl
  refine lv_iconst (v := 0) hx hb dX3_value_0 (by decide) ?_
  refine lv_istore_n (lv' := [(1, .int (0 : Int32)), (0, .ref (ad 7))]) hx hb dX3_value_1 rfl hl (by decide) rfl (fun ls hl => ?_)
  refine lv_aload_n hx hb dX3_value_2 rfl (lv_at hl 1 rfl) ?_
  refine m_get hx hb hts in_X3 hown hK hM 9 (by decide) (hts _ q1580) rfl dX3_value_3 ?_
  rw [show (S 7 3) = nI (s0 + 0) from e_s0]
  refine lv_istore_n (lv' := [(2, .int (nI (s0 + 0))), (1, .int (0 : Int32)), (0, .ref (ad 7))]) hx hb dX3_value_6 rfl hl (by decide) rfl (fun ls hl => ?_)
  have cut_7 : ∀ (N : Nat) (m1 : Nat) (hm : m1 ≤ e0 - s0) (hN : e0 - s0 - m1 < N) , ∀ (ls : Array Slot) (hl : lv_has ls 3 [(1, .int (tk_fold 10 48 (S 4) s0 m1)), (2, .int (nI (s0 + m1))), (0, .ref (ad 7))]), W p l e (headSpec (ws_ yX3_value cX3_value 3 (some .int)) (rmL 1 0 0)).room s m ([.ref (ad 7)] : List Value).toArray below meth c s.heap [] 0 0 (MQ below (vp_Si (fun r => r = tk_fold 10 48 (S 4) s0 (e0 - s0))) ([.ref (ad 7)] : List Value).toArray s 0 0 (fun _ => False)) (F0 m 7 ls []) := by
    intro N
    induction N with
    | zero => intro m1 hm hN; exact absurd hN (Nat.not_lt_zero _)
    | succ N ih_7 =>
      intro m1 hm hN  ls hl
      refine lv_iload_n hx hb dX3_value_7 rfl (lv_at hl 1 rfl) ?_
      refine lv_aload_n hx hb dX3_value_8 rfl (lv_at hl 2 rfl) ?_
      refine m_get hx hb hts in_X3 hown hK hM 10 (by decide) (hts _ q1581) rfl dX3_value_9 ?_
      refine lv_icmp_ge (tgt := 36) hx hb dX3_value_12 (by decide) (fun c12_b_1 => ?_) (fun c12_b_1 => ?_)
      · skip
        have c12_b_1 := Int32.not_lt.mpr c12_b_1
        have nc12_b_1 := nltF (a := (s0 + m1)) (b := e0) rfl e_e0 (by omega) (by omega) c12_b_1
        refine lv_iload_n hx hb dX3_value_36 rfl (lv_at hl 0 rfl) ?_
        exact W.iret hx hb hr (fun t ht hW => ⟨_, rfl, (by rw [show e0 - s0 = m1 by omega]), ht⟩) (fun _ h => absurd h List.not_mem_nil) dX3_value_37
      · skip
        have c12_b_1 := Int32.not_le.mp c12_b_1
        have nc12_b_1 := nltT (a := (s0 + m1)) (b := e0) rfl e_e0 (by omega) (by omega) c12_b_1
        refine lv_bipush (v := 10) hx hb dX3_value_15 (by decide) ?_
        refine lv_iload_n hx hb dX3_value_17 rfl (lv_at hl 0 rfl) ?_
        refine lv_imul hx hb dX3_value_18 ?_
        refine lv_aload_n hx hb dX3_value_19 rfl (lv_at hl 2 rfl) ?_
        refine m_get hx hb hts in_X3 hown hK hM 5 (by decide) (hts _ q1576) rfl dX3_value_20 ?_
        refine lv_iload_n hx hb dX3_value_23 rfl (lv_at hl 1 rfl) ?_
        refine m_cald hx hb hK hM (s0 + m1) rfl (by omega) (v := (S 4 (s0 + m1))) rfl dX3_value_24 ?_
        refine lv_iadd hx hb dX3_value_25 ?_
        refine lv_bipush (v := 48) hx hb dX3_value_26 (by decide) ?_
        refine lv_isub hx hb dX3_value_28 ?_
        refine lv_istore_n (lv' := [(1, .int ((((10 : Int32) * (tk_fold 10 48 (S 4) s0 m1)) + (S 4 (s0 + m1))) - (48 : Int32))), (2, .int (nI (s0 + m1))), (0, .ref (ad 7))]) hx hb dX3_value_29 rfl hl (by decide) rfl (fun ls hl => ?_)
        refine lv_iinc (v := (nI ((s0 + m1) + 1))) (lv' := [(2, .int (nI ((s0 + m1) + 1))), (1, .int ((((10 : Int32) * (tk_fold 10 48 (S 4) s0 m1)) + (S 4 (s0 + m1))) - (48 : Int32))), (0, .ref (ad 7))]) hx hb dX3_value_30 hl (k := 1) rfl (ixA rfl rfl) (by decide) rfl (fun ls hl => ?_)
        refine lv_goto (tgt := 7) hx hb dX3_value_33 (by decide) ?_
        exact ih_7 (m1 + 1) (by omega) (by omega)  ls (lv_sub hl [1, 0, 2] rfl)
  exact cut_7 _ 0 (by omega) (Nat.lt_succ_self _)  ls (lv_sub hl [1, 0, 2] rfl)

set_option maxHeartbeats 4000000 in
set_option maxRecDepth 100000 in
theorem met_X3_numbers (l : Launch) (w0 : Int32) : Met l yX3_numbers (ws_ yX3_numbers cX3_numbers 1 (some .int)) (rmL 1 0 0) (va_Pc [.int w0] (fun _ => True)) (vp_Si (fun r => r = tk_nums w0)) 0 0 (fun _ => False) := by
  refine Met.ofW (cc := cX3_numbers) (maxL := 1) (ret := (some .int)) (by decide) rfl ?_
  intro p e s m args below meth c s₁ Bd hml hv
  obtain ⟨rfl, -⟩ := hv
  have hx := Bd.exec
  have hb := Bd.bytes
  have hr := Bd.returns
  have hts := atoms_spec (ws := (ws_ yX3_numbers cX3_numbers 1 (some .int))) Bd.pre
  have hts : ∀ w ∈ lw_all, w.before _ s = true := fun w h => hts w (List.mem_cons_of_mem _ h)
  have hown : s.vm.findClass RX3 = some m.cls := findClass_of_methodNamed Bd.named
  have hlocks := Bd.notSynchronized
  have hl := lv_entry ([.int w0]) (n := 1) (Nat.le_of_ble_eq_true rfl)
  rw [lg_entry_eq]
  generalize (lg_sl ([.int w0]) ++ List.replicate (1 - (lg_sl ([.int w0])).length) Slot.unset).toArray = ls at hl ⊢
  have hl : lv_has ls 1 [(0, .int w0)] := hl
  refine lv_iload_n hx hb dX3_numbers_0 rfl (lv_at hl 0 rfl) ?_
  by_cases hs_1 : w0 = (2745 : Int32)
  · skip
    subst hs_1
    refine lv_lookup (tgt := 80) (off := 79) hx hb dX3_numbers_1 (by decide) (by decide) (by decide) ?_
    refine lv_iconst (v := 3) hx hb dX3_numbers_80 (by decide) ?_
    exact W.iret hx hb hr (fun t ht hW => ⟨_, rfl, (by simp [tk_nums]), ht⟩) (fun _ h => absurd h List.not_mem_nil) dX3_numbers_81
  by_cases hs_2 : w0 = (114085 : Int32)
  · skip
    subst hs_2
    refine lv_lookup (tgt := 76) (off := 75) hx hb dX3_numbers_1 (by decide) (by decide) (by decide) ?_
    refine lv_iconst (v := 1) hx hb dX3_numbers_76 (by decide) ?_
    exact W.iret hx hb hr (fun t ht hW => ⟨_, rfl, (by simp [tk_nums, hs_1]), ht⟩) (fun _ h => absurd h List.not_mem_nil) dX3_numbers_77
  by_cases hs_3 : w0 = (370116 : Int32)
  · skip
    subst hs_3
    refine lv_lookup (tgt := 80) (off := 79) hx hb dX3_numbers_1 (by decide) (by decide) (by decide) ?_
    refine lv_iconst (v := 3) hx hb dX3_numbers_80 (by decide) ?_
    exact W.iret hx hb hr (fun t ht hW => ⟨_, rfl, (by simp [tk_nums, hs_1, hs_2]), ht⟩) (fun _ h => absurd h List.not_mem_nil) dX3_numbers_81
  by_cases hs_4 : w0 = (611717 : Int32)
  · skip
    subst hs_4
    refine lv_lookup (tgt := 76) (off := 75) hx hb dX3_numbers_1 (by decide) (by decide) (by decide) ?_
    refine lv_iconst (v := 1) hx hb dX3_numbers_76 (by decide) ?_
    exact W.iret hx hb hr (fun t ht hW => ⟨_, rfl, (by simp [tk_nums, hs_1, hs_2, hs_3]), ht⟩) (fun _ h => absurd h List.not_mem_nil) dX3_numbers_77
  by_cases hs_5 : w0 = (3540269 : Int32)
  · skip
    subst hs_5
    refine lv_lookup (tgt := 78) (off := 77) hx hb dX3_numbers_1 (by decide) (by decide) (by decide) ?_
    refine lv_iconst (v := 2) hx hb dX3_numbers_78 (by decide) ?_
    exact W.iret hx hb hr (fun t ht hW => ⟨_, rfl, (by simp [tk_nums, hs_1, hs_2, hs_3, hs_4]), ht⟩) (fun _ h => absurd h List.not_mem_nil) dX3_numbers_79
  by_cases hs_6 : w0 = (17377093 : Int32)
  · skip
    subst hs_6
    refine lv_lookup (tgt := 82) (off := 81) hx hb dX3_numbers_1 (by decide) (by decide) (by decide) ?_
    refine lv_iconst (v := 5) hx hb dX3_numbers_82 (by decide) ?_
    exact W.iret hx hb hr (fun t ht hW => ⟨_, rfl, (by simp [tk_nums, hs_1, hs_2, hs_3, hs_4, hs_5]), ht⟩) (fun _ h => absurd h List.not_mem_nil) dX3_numbers_83
  by_cases hs_7 : w0 = (20022661 : Int32)
  · skip
    subst hs_7
    refine lv_lookup (tgt := 78) (off := 77) hx hb dX3_numbers_1 (by decide) (by decide) (by decide) ?_
    refine lv_iconst (v := 2) hx hb dX3_numbers_78 (by decide) ?_
    exact W.iret hx hb hr (fun t ht hW => ⟨_, rfl, (by simp [tk_nums, hs_1, hs_2, hs_3, hs_4, hs_5, hs_6]), ht⟩) (fun _ h => absurd h List.not_mem_nil) dX3_numbers_79
  by_cases hs_8 : w0 = (24290536 : Int32)
  · skip
    subst hs_8
    refine lv_lookup (tgt := 80) (off := 79) hx hb dX3_numbers_1 (by decide) (by decide) (by decide) ?_
    refine lv_iconst (v := 3) hx hb dX3_numbers_80 (by decide) ?_
    exact W.iret hx hb hr (fun t ht hW => ⟨_, rfl, (by simp [tk_nums, hs_1, hs_2, hs_3, hs_4, hs_5, hs_6, hs_7]), ht⟩) (fun _ h => absurd h List.not_mem_nil) dX3_numbers_81
  refine lv_lookup (tgt := 84) (off := 83) hx hb dX3_numbers_1 (by decide) (show Op.lookupswitch.offset [(2745, 79), (114085, 75), (370116, 79), (611717, 75), (3540269, 77), (17377093, 81), (20022661, 77), (24290536, 79)] 83 w0.toInt = 83 from by rw [lv_osw hs_1 (by decide), lv_osw hs_2 (by decide), lv_osw hs_3 (by decide), lv_osw hs_4 (by decide), lv_osw hs_5 (by decide), lv_osw hs_6 (by decide), lv_osw hs_7 (by decide), lv_osw hs_8 (by decide)]; rfl) (by decide) ?_
  refine lv_iconst (v := -1) hx hb dX3_numbers_84 (by decide) ?_
  exact W.iret hx hb hr (fun t ht hW => ⟨_, rfl, (by simp [tk_nums, hs_1, hs_2, hs_3, hs_4, hs_5, hs_6, hs_7, hs_8]), ht⟩) (fun _ h => absurd h List.not_mem_nil) dX3_numbers_85

set_option maxHeartbeats 4000000 in
set_option maxRecDepth 100000 in
theorem met_X3_isNumber (l : Launch) (D : va_G) (cA : Nat → ClassId) (ad : Nat → Nat) (S : Nat → Nat → Int32) (s0 : Nat) (e0 : Nat) (so0 : Nat) (e_s0 : S 7 3 = nI s0) (e_e0 : S 7 4 = nI e0) (hse : s0 ≤ e0) (he : e0 ≤ 140) (e_so0 : S 7 5 = nI so0) (hso0 : so0 ≤ 3) (hs1 : so0 ≠ 0 → s0 < e0) : Met l yX3_isNumber (ws_ yX3_isNumber cX3_isNumber 1 (some .boolean)) (rmL 1 0 0) (mPre D cA ad S []) (vp_Si (fun r => pB r (tk_isn (S 4) s0 e0 so0))) 0 0 (fun _ => False) := by
  refine Met.ofW (cc := cX3_isNumber) (maxL := 1) (ret := (some .boolean)) (by decide) rfl ?_
  intro p e s m args below meth c s₁ Bd hml hv
  obtain ⟨rfl, hP, hK, hD⟩ := hv
  have hx := Bd.exec
  have hb := Bd.bytes
  have hr := Bd.returns
  have hts := atoms_spec (ws := (ws_ yX3_isNumber cX3_isNumber 1 (some .boolean))) Bd.pre
  have hts : ∀ w ∈ lw_all, w.before _ s = true := fun w h => hts w (List.mem_cons_of_mem _ h)
  have hown : s.vm.findClass RX3 = some m.cls := findClass_of_methodNamed Bd.named
  have hlocks := Bd.notSynchronized
  have hM : mSt D cA ad (mA ad) s.heap s.heap [] S := ⟨hP, hD, va_S.rf⟩
  have hl := lv_entry ([.ref (ad 7)]) (n := 1) (Nat.le_of_ble_eq_true rfl)
  rw [lg_entry_eq]
  generalize (lg_sl ([.ref (ad 7)]) ++ List.replicate (1 - (lg_sl ([.ref (ad 7)])).length) Slot.unset).toArray = ls at hl ⊢
  have hl : lv_has ls 1 [(0, .ref (ad 7))] := hl
  refine lv_aload_n hx hb dX3_isNumber_0 rfl (lv_at hl 0 rfl) ?_
  refine m_get hx hb hts in_X3 hown hK hM 11 (by decide) (hts _ q1582) rfl dX3_isNumber_1 ?_
  refine lv_iconst (v := 2) hx hb dX3_isNumber_4 (by decide) ?_
  refine lv_icmp_ne (tgt := 53) hx hb dX3_isNumber_5 (by decide) (fun c5_b_1 => ?_) (fun c5_b_1 => ?_)
  · skip
    have nc5_b_1 := neqF (a := so0) (b := 2) e_so0 rfl (by omega) (by omega) c5_b_1
    refine lv_iconst (v := 0) hx hb dX3_isNumber_53 (by decide) ?_
    exact W.zret hx hb hr rfl (fun t ht hW => ⟨_, rfl, Or.inr ⟨rfl, by rw [tk_isn, decide_eq_false nc5_b_1]; rfl⟩, ht⟩) (fun _ h => absurd h List.not_mem_nil) dX3_isNumber_54
  · skip
    have nc5_b_1 := neqT (a := so0) (b := 2) e_so0 rfl (by omega) (by omega) c5_b_1
    refine lv_aload_n hx hb dX3_isNumber_8 rfl (lv_at hl 0 rfl) ?_
    refine m_get hx hb hts in_X3 hown hK hM 10 (by decide) (hts _ q1581) rfl dX3_isNumber_9 ?_
    refine lv_aload_n hx hb dX3_isNumber_12 rfl (lv_at hl 0 rfl) ?_
    refine m_get hx hb hts in_X3 hown hK hM 9 (by decide) (hts _ q1580) rfl dX3_isNumber_13 ?_
    refine lv_isub hx hb dX3_isNumber_16 ?_
    refine lv_bipush (v := 6) hx hb dX3_isNumber_17 (by decide) ?_
    refine lv_icmp_gt (tgt := 53) hx hb dX3_isNumber_19 (by decide) (fun c19_b_2 => ?_) (fun c19_b_2 => ?_)
    · skip
      have nc19_b_2 := ngtT (a := (e0 - s0)) (b := 6) (ixS e_e0 e_s0 (by omega)) rfl (by omega) (by omega) c19_b_2
      refine lv_iconst (v := 0) hx hb dX3_isNumber_53 (by decide) ?_
      exact W.zret hx hb hr rfl (fun t ht hW => ⟨_, rfl, Or.inr ⟨rfl, by rw [tk_isn, decide_eq_true nc5_b_1, decide_eq_false (show ¬ e0 - s0 ≤ 6 by omega)]; rfl⟩, ht⟩) (fun _ h => absurd h List.not_mem_nil) dX3_isNumber_54
    · skip
      have nc19_b_2 := ngtF (a := (e0 - s0)) (b := 6) (ixS e_e0 e_s0 (by omega)) rfl (by omega) (by omega) c19_b_2
      refine lv_aload_n hx hb dX3_isNumber_22 rfl (lv_at hl 0 rfl) ?_
      refine m_get hx hb hts in_X3 hown hK hM 10 (by decide) (hts _ q1581) rfl dX3_isNumber_23 ?_
      refine lv_aload_n hx hb dX3_isNumber_26 rfl (lv_at hl 0 rfl) ?_
      refine m_get hx hb hts in_X3 hown hK hM 9 (by decide) (hts _ q1580) rfl dX3_isNumber_27 ?_
      refine lv_isub hx hb dX3_isNumber_30 ?_
      refine lv_iconst (v := 1) hx hb dX3_isNumber_31 (by decide) ?_
      refine lv_icmp_eq (tgt := 49) hx hb dX3_isNumber_32 (by decide) (fun c32_b_3 => ?_) (fun c32_b_3 => ?_)
      · skip
        have nc32_b_3 := neqT (a := (e0 - s0)) (b := 1) (ixS e_e0 e_s0 (by omega)) rfl (by omega) (by omega) c32_b_3
        refine lv_iconst (v := 1) hx hb dX3_isNumber_49 (by decide) ?_
        refine lv_goto (tgt := 54) hx hb dX3_isNumber_50 (by decide) ?_
        exact W.zret hx hb hr rfl (fun t ht hW => ⟨_, rfl, Or.inl ⟨rfl, by rw [tk_isn, decide_eq_true nc5_b_1, decide_eq_true (show e0 - s0 ≤ 6 by omega), decide_eq_true nc32_b_3]; rfl⟩, ht⟩) (fun _ h => absurd h List.not_mem_nil) dX3_isNumber_54
      · skip
        have nc32_b_3 := neqF (a := (e0 - s0)) (b := 1) (ixS e_e0 e_s0 (by omega)) rfl (by omega) (by omega) c32_b_3
        refine lv_aload_n hx hb dX3_isNumber_35 rfl (lv_at hl 0 rfl) ?_
        refine m_get hx hb hts in_X3 hown hK hM 5 (by decide) (hts _ q1576) rfl dX3_isNumber_36 ?_
        refine lv_aload_n hx hb dX3_isNumber_39 rfl (lv_at hl 0 rfl) ?_
        refine m_get hx hb hts in_X3 hown hK hM 9 (by decide) (hts _ q1580) rfl dX3_isNumber_40 ?_
        refine m_cald hx hb hK hM s0 e_s0 (by omega) (v := (S 4 s0)) rfl dX3_isNumber_43 ?_
        refine lv_bipush (v := 48) hx hb dX3_isNumber_44 (by decide) ?_
        refine lv_icmp_eq (tgt := 53) hx hb dX3_isNumber_46 (by decide) (fun c46_b_4 => ?_) (fun c46_b_4 => ?_)
        · skip
          refine lv_iconst (v := 0) hx hb dX3_isNumber_53 (by decide) ?_
          exact W.zret hx hb hr rfl (fun t ht hW => ⟨_, rfl, Or.inr ⟨rfl, by rw [tk_isn, decide_eq_true nc5_b_1, decide_eq_true (show e0 - s0 ≤ 6 by omega), decide_eq_false (show ¬ e0 - s0 = 1 from nc32_b_3), decide_eq_true c46_b_4]; rfl⟩, ht⟩) (fun _ h => absurd h List.not_mem_nil) dX3_isNumber_54
        · skip
          refine lv_iconst (v := 1) hx hb dX3_isNumber_49 (by decide) ?_
          refine lv_goto (tgt := 54) hx hb dX3_isNumber_50 (by decide) ?_
          exact W.zret hx hb hr rfl (fun t ht hW => ⟨_, rfl, Or.inl ⟨rfl, by rw [tk_isn, decide_eq_true nc5_b_1, decide_eq_true (show e0 - s0 ≤ 6 by omega), decide_eq_false (show ¬ e0 - s0 = 1 from nc32_b_3), decide_eq_false c46_b_4]; rfl⟩, ht⟩) (fun _ h => absurd h List.not_mem_nil) dX3_isNumber_54

set_option maxHeartbeats 4000000 in
set_option maxRecDepth 100000 in
theorem met_X3_fails (l : Launch) (D : va_G) (cA : Nat → ClassId) (ad : Nat → Nat) (S : Nat → Nat → Int32) (k0 : Int32) (l0 : Nat) (c0 : Int32) (d0 : Int32) : Met l yX3_fails (ws_ yX3_fails cX3_fails 6 (some .int)) (rmL 1 0 0) (mPre D cA ad S [.int k0, .int (nI l0), .int c0, .int d0]) (va_Qi (fun (r : Int32) (S' : Nat → Nat → Int32) => r = -1000 - nI l0 ∧ tk_fa S S' k0 (nI l0) c0 d0) (mEnd D cA ad) (mA ad)) 0 0 (mA ad) := by
  refine Met.ofW (cc := cX3_fails) (maxL := 6) (ret := (some .int)) (by decide) rfl ?_
  intro p e s m args below meth c s₁ Bd hml hv
  obtain ⟨rfl, hP, hK, hD⟩ := hv
  have hx := Bd.exec
  have hb := Bd.bytes
  have hr := Bd.returns
  have hts := atoms_spec (ws := (ws_ yX3_fails cX3_fails 6 (some .int))) Bd.pre
  have hts : ∀ w ∈ lw_all, w.before _ s = true := fun w h => hts w (List.mem_cons_of_mem _ h)
  have hown : s.vm.findClass RX3 = some m.cls := findClass_of_methodNamed Bd.named
  have hlocks := Bd.notSynchronized
  have hM : mSt D cA ad (mA ad) s.heap s.heap [] S := ⟨hP, hD, va_S.rf⟩
  have hl := lv_entry ([.ref (ad 7), .int k0, .int (nI l0), .int c0, .int d0]) (n := 6) (Nat.le_of_ble_eq_true rfl)
  rw [lg_entry_eq]
  generalize (lg_sl ([.ref (ad 7), .int k0, .int (nI l0), .int c0, .int d0]) ++ List.replicate (6 - (lg_sl ([.ref (ad 7), .int k0, .int (nI l0), .int c0, .int d0])).length) Slot.unset).toArray = ls at hl ⊢
  have hl : lv_has ls 6 [(0, .ref (ad 7)), (1, .int k0), (2, .int (nI l0)), (3, .int c0), (4, .int d0)] := hl
  refine lv_iconst (v := 0) hx hb dX3_fails_0 (by decide) ?_
  refine lv_istore (lv' := [(5, .int (0 : Int32)), (0, .ref (ad 7)), (1, .int k0), (2, .int (nI l0)), (3, .int c0), (4, .int d0)]) hx hb dX3_fails_1 hl (by decide) rfl (fun ls hl => ?_)
  have cut_3 : ∀ (N : Nat) (k : Nat) (hk : k ≤ 284) (hN : 284 - k < N) (H : Heap) (locs : List Loc) (Sc3 : Nat → Nat → Int32) (eSc3 : Sc3 = su S 0 (tk_cp (S 2) (S 0) k)) (hM : mSt D cA ad (mA ad) s.heap H locs Sc3), ∀ (ls : Array Slot) (hl : lv_has ls 6 [(5, .int (nI k)), (0, .ref (ad 7)), (1, .int k0), (2, .int (nI l0)), (3, .int c0), (4, .int d0)]), W p l e (headSpec (ws_ yX3_fails cX3_fails 6 (some .int)) (rmL 1 0 0)).room s m ([.ref (ad 7), .int k0, .int (nI l0), .int c0, .int d0] : List Value).toArray below meth c H locs 0 0 (MQ below (va_Qi (fun (r : Int32) (S' : Nat → Nat → Int32) => r = -1000 - nI l0 ∧ tk_fa S S' k0 (nI l0) c0 d0) (mEnd D cA ad) (mA ad)) ([.ref (ad 7), .int k0, .int (nI l0), .int c0, .int d0] : List Value).toArray s 0 0 (mA ad)) (F0 m 3 ls []) := by
    intro N
    induction N with
    | zero => intro k hk hN; exact absurd hN (Nat.not_lt_zero _)
    | succ N ih_3 =>
      intro k hk hN H locs Sc3 eSc3 hM ls hl
      refine lv_iload hx hb dX3_fails_3 (lv_at hl 0 rfl) ?_
      refine lv_sipush (v := 284) hx hb dX3_fails_5 (by decide) ?_
      refine lv_icmp_ge (tgt := 31) hx hb dX3_fails_8 (by decide) (fun c8_b_1 => ?_) (fun c8_b_1 => ?_)
      · skip
        have c8_b_1 := Int32.not_lt.mpr c8_b_1
        have nc8_b_1 := nltF (a := k) (b := 284) rfl rfl (by omega) (by omega) c8_b_1
        obtain rfl : k = 284 := by omega
        refine lv_aload_n hx hb dX3_fails_31 rfl (lv_at hl 1 rfl) ?_
        refine lv_iconst (v := 1) hx hb dX3_fails_32 (by decide) ?_
        refine m_put hx hb hts in_X3 hown hK hM 8 2 (by decide) (hts _ q1579) rfl rfl rfl rfl dX3_fails_33 (fun H locs S_2 eS_2 hM => ?_)
        refine lv_aload_n hx hb dX3_fails_36 rfl (lv_at hl 1 rfl) ?_
        refine m_get hx hb hts in_X3 hown hK hM 7 (by decide) (hts _ q1578) rfl dX3_fails_37 ?_
        refine lv_iconst (v := 0) hx hb dX3_fails_40 (by decide) ?_
        refine lv_iload_n hx hb dX3_fails_41 rfl (lv_at hl 2 rfl) ?_
        refine m_iast hx hb hK hM 5 6 rfl (fun _ => rfl) 0 rfl (by omega) dX3_fails_42 (by decide) (fun H locs S_3 eS_3 hM => ?_)
        refine lv_aload_n hx hb dX3_fails_43 rfl (lv_at hl 1 rfl) ?_
        refine m_get hx hb hts in_X3 hown hK hM 7 (by decide) (hts _ q1578) rfl dX3_fails_44 ?_
        refine lv_iconst (v := 1) hx hb dX3_fails_47 (by decide) ?_
        refine lv_iload_n hx hb dX3_fails_48 rfl (lv_at hl 3 rfl) ?_
        refine m_iast hx hb hK hM 5 6 rfl (fun _ => rfl) 1 rfl (by omega) dX3_fails_49 (by decide) (fun H locs S_4 eS_4 hM => ?_)
        refine lv_aload_n hx hb dX3_fails_50 rfl (lv_at hl 1 rfl) ?_
        refine m_get hx hb hts in_X3 hown hK hM 7 (by decide) (hts _ q1578) rfl dX3_fails_51 ?_
        refine lv_iconst (v := 2) hx hb dX3_fails_54 (by decide) ?_
        refine lv_iload_n hx hb dX3_fails_55 rfl (lv_at hl 2 rfl) ?_
        refine lv_iconst (v := 1) hx hb dX3_fails_56 (by decide) ?_
        refine lv_icmp_ne (tgt := 64) hx hb dX3_fails_57 (by decide) (fun c57_b_5 => ?_) (fun c57_b_5 => ?_)
        · skip
          refine lv_iconst (v := 2) hx hb dX3_fails_64 (by decide) ?_
          refine m_iast hx hb hK hM 5 6 rfl (fun _ => rfl) 2 rfl (by omega) dX3_fails_65 (by decide) (fun H locs S_6 eS_6 hM => ?_)
          refine lv_aload_n hx hb dX3_fails_66 rfl (lv_at hl 1 rfl) ?_
          refine m_get hx hb hts in_X3 hown hK hM 7 (by decide) (hts _ q1578) rfl dX3_fails_67 ?_
          refine lv_iconst (v := 3) hx hb dX3_fails_70 (by decide) ?_
          refine lv_iload_n hx hb dX3_fails_71 rfl (lv_at hl 4 rfl) ?_
          refine m_iast hx hb hK hM 5 6 rfl (fun _ => rfl) 3 rfl (by omega) dX3_fails_72 (by decide) (fun H locs S_7 eS_7 hM => ?_)
          refine lv_aload_n hx hb dX3_fails_73 rfl (lv_at hl 1 rfl) ?_
          refine m_get hx hb hts in_X3 hown hK hM 7 (by decide) (hts _ q1578) rfl dX3_fails_74 ?_
          refine lv_iconst (v := 4) hx hb dX3_fails_77 (by decide) ?_
          refine lv_iload hx hb dX3_fails_78 (lv_at hl 5 rfl) ?_
          refine m_iast hx hb hK hM 5 6 rfl (fun _ => rfl) 4 rfl (by omega) dX3_fails_80 (by decide) (fun H locs S_8 eS_8 hM => ?_)
          refine lv_sipush (v := -1000) hx hb dX3_fails_81 (by decide) ?_
          refine lv_iload_n hx hb dX3_fails_84 rfl (lv_at hl 3 rfl) ?_
          refine lv_isub hx hb dX3_fails_85 ?_
          exact W.iret hx hb hr (fun t ht hW => ⟨⟨_, S_8, rfl, (by subst eS_8; subst eS_7; subst eS_6; subst eS_4; subst eS_3; subst eS_2; subst eSc3; exact ⟨rfl, by simp [su_s, su_n], by simp [su_n], by simp [su_n], by simp [tk_failA, su_s, su_n, c8_b_1, c57_b_5], by simp [su_s, su_n], by simp [su_s, su_n], by simp [su_s, su_n]⟩), by rw [ht]; exact hM.1, hM.2.1⟩, hM.2.2.F ht⟩) hM.2.2.2.2 dX3_fails_86
        · skip
          refine lv_iconst (v := 1) hx hb dX3_fails_60 (by decide) ?_
          refine lv_goto (tgt := 65) hx hb dX3_fails_61 (by decide) ?_
          refine m_iast hx hb hK hM 5 6 rfl (fun _ => rfl) 2 rfl (by omega) dX3_fails_65 (by decide) (fun H locs S_9 eS_9 hM => ?_)
          refine lv_aload_n hx hb dX3_fails_66 rfl (lv_at hl 1 rfl) ?_
          refine m_get hx hb hts in_X3 hown hK hM 7 (by decide) (hts _ q1578) rfl dX3_fails_67 ?_
          refine lv_iconst (v := 3) hx hb dX3_fails_70 (by decide) ?_
          refine lv_iload_n hx hb dX3_fails_71 rfl (lv_at hl 4 rfl) ?_
          refine m_iast hx hb hK hM 5 6 rfl (fun _ => rfl) 3 rfl (by omega) dX3_fails_72 (by decide) (fun H locs S_10 eS_10 hM => ?_)
          refine lv_aload_n hx hb dX3_fails_73 rfl (lv_at hl 1 rfl) ?_
          refine m_get hx hb hts in_X3 hown hK hM 7 (by decide) (hts _ q1578) rfl dX3_fails_74 ?_
          refine lv_iconst (v := 4) hx hb dX3_fails_77 (by decide) ?_
          refine lv_iload hx hb dX3_fails_78 (lv_at hl 5 rfl) ?_
          refine m_iast hx hb hK hM 5 6 rfl (fun _ => rfl) 4 rfl (by omega) dX3_fails_80 (by decide) (fun H locs S_11 eS_11 hM => ?_)
          refine lv_sipush (v := -1000) hx hb dX3_fails_81 (by decide) ?_
          refine lv_iload_n hx hb dX3_fails_84 rfl (lv_at hl 3 rfl) ?_
          refine lv_isub hx hb dX3_fails_85 ?_
          exact W.iret hx hb hr (fun t ht hW => ⟨⟨_, S_11, rfl, (by subst eS_11; subst eS_10; subst eS_9; subst eS_4; subst eS_3; subst eS_2; subst eSc3; exact ⟨rfl, by simp [su_s, su_n], by simp [su_n], by simp [su_n], by simp [tk_failA, su_s, su_n, c8_b_1, c57_b_5], by simp [su_s, su_n], by simp [su_s, su_n], by simp [su_s, su_n]⟩), by rw [ht]; exact hM.1, hM.2.1⟩, hM.2.2.F ht⟩) hM.2.2.2.2 dX3_fails_86
      · skip
        have c8_b_1 := Int32.not_le.mp c8_b_1
        have nc8_b_1 := nltT (a := k) (b := 284) rfl rfl (by omega) (by omega) c8_b_1
        refine lv_aload_n hx hb dX3_fails_11 rfl (lv_at hl 1 rfl) ?_
        refine m_get hx hb hts in_X3 hown hK hM 0 (by decide) (hts _ q1571) rfl dX3_fails_12 ?_
        refine lv_iload hx hb dX3_fails_15 (lv_at hl 0 rfl) ?_
        refine lv_aload_n hx hb dX3_fails_17 rfl (lv_at hl 1 rfl) ?_
        refine m_get hx hb hts in_X3 hown hK hM 2 (by decide) (hts _ q1573) rfl dX3_fails_18 ?_
        refine lv_iload hx hb dX3_fails_21 (lv_at hl 0 rfl) ?_
        refine m_iald hx hb hK hM 2 3 rfl k rfl (by omega) (v := (S 2 k)) (by rw [eSc3, su_n _ _ (by decide)]) dX3_fails_23 (by decide) ?_
        refine m_iast hx hb hK hM 0 1 rfl (fun _ => rfl) k rfl (by omega) dX3_fails_24 (by decide) (fun H locs S_12 eS_12 hM => ?_)
        refine lv_iinc (v := (nI (k + 1))) (lv' := [(5, .int (nI (k + 1))), (0, .ref (ad 7)), (1, .int k0), (2, .int (nI l0)), (3, .int c0), (4, .int d0)]) hx hb dX3_fails_25 hl (k := 0) rfl (ixA rfl rfl) (by decide) rfl (fun ls hl => ?_)
        refine lv_goto (tgt := 3) hx hb dX3_fails_28 (by decide) ?_
        exact ih_3 (k + 1) (by omega) (by omega) _ _ _ (by rw [eS_12, eSc3, su_su, su_s, ← tk_cp_s]) hM ls (lv_sub hl [0, 1, 2, 3, 4, 5] rfl)
  exact cut_3 _ 0 (by omega) (Nat.lt_succ_self _) _ _ _ (by rw [tk_cp_0, su_self]) hM ls (lv_sub hl [0, 1, 2, 3, 4, 5] rfl)

set_option maxHeartbeats 4000000 in
set_option maxRecDepth 100000 in
theorem met_X3_does (l : Launch) {B : Nat} (D : va_G) (cA : Nat → ClassId) (ad : Nat → Nat) (S : Nat → Nat → Int32) (w0 : Int32) (hI : tk_ok B (S 0)) : Met l yX3_does (ws_ yX3_does cX3_does 2 (some .int)) (rmL 6 0 0) (mPre D cA ad S [.int w0]) (va_Qi (fun (r : Int32) (S' : Nat → Nat → Int32) => r = (tk_does (S 0) (S 6) w0).1 ∧ tk_sm S S' (tk_does (S 0) (S 6) w0).2) (mEnd D cA ad) (mA ad)) 0 0 (mA ad) := by
  refine Met.ofW (cc := cX3_does) (maxL := 2) (ret := (some .int)) (by decide) rfl ?_
  intro p e s m args below meth c s₁ Bd hml hv
  obtain ⟨rfl, hP, hK, hD⟩ := hv
  have hx := Bd.exec
  have hb := Bd.bytes
  have hr := Bd.returns
  have hts := atoms_spec (ws := (ws_ yX3_does cX3_does 2 (some .int))) Bd.pre
  have hts : ∀ w ∈ lw_all, w.before _ s = true := fun w h => hts w (List.mem_cons_of_mem _ h)
  have hown : s.vm.findClass RX3 = some m.cls := findClass_of_methodNamed Bd.named
  have hlocks := Bd.notSynchronized
  have hM : mSt D cA ad (mA ad) s.heap s.heap [] S := ⟨hP, hD, va_S.rf⟩
  have hl := lv_entry ([.ref (ad 7), .int w0]) (n := 2) (Nat.le_of_ble_eq_true rfl)
  rw [lg_entry_eq]
  generalize (lg_sl ([.ref (ad 7), .int w0]) ++ List.replicate (2 - (lg_sl ([.ref (ad 7), .int w0])).length) Slot.unset).toArray = ls at hl ⊢
  have hl : lv_has ls 2 [(0, .ref (ad 7)), (1, .int w0)] := hl
  refine lv_iload_n hx hb dX3_does_0 rfl (lv_at hl 1 rfl) ?_
  by_cases hs_1 : w0 = (114085 : Int32)
  · skip
    subst hs_1
    refine lv_lookup (tgt := 123) (off := 122) hx hb dX3_does_1 (by decide) (by decide) (by decide) ?_
    refine lv_aload_n hx hb dX3_does_123 rfl (lv_at hl 0 rfl) ?_
    refine lv_aload_n hx hb dX3_does_124 rfl (lv_at hl 0 rfl) ?_
    refine m_get hx hb hts in_X3 hown hK hM 12 (by decide) (hts _ q1583) rfl dX3_does_125 ?_
    refine lv_iconst (v := 0) hx hb dX3_does_128 (by decide) ?_
    refine m_iald hx hb hK hM 6 7 rfl 0 rfl (by omega) (v := (S 6 0)) rfl dX3_does_129 (by decide) ?_
    refine va_calli (va_runV (As := [.int (S 6 0)]) (rest := []) ⟨hx, hb, hml, hown, hts⟩ (met_X3_comes l D cA ad S (S 6 0) hI) (cwV 1 hts (lw_V q1673 q1675 qs30 q71 q1676) rfl rfl rfl (by decide +kernel) ⟨Nat.le_of_ble_eq_true rfl, Nat.le_of_ble_eq_true rfl⟩) (mPreV hK hM) rfl rfl hl.1 rfl (lv_room (Nat.le_of_ble_eq_true rfl)) dX3_does_130 ⟨Nat.le_of_ble_eq_true rfl, Nat.le_of_ble_eq_true rfl⟩) hM.2.2 (fun _ _ h => h) (fun _ h => h) (fun r_2 S_3 t H1 locs ht hvm hr_2 hB hz hk hS => ?_)
    have hM : mSt D cA ad (mA ad) s.heap H1 locs S_3 := ⟨by rw [← ht]; exact hB.1, hB.2, hS⟩
    clear hB ht; generalize H1 = H at hM ⊢; clear hz hk hS
    refine W.widen (k := 0) (n := 0) (Nat.le_refl 0) (Nat.le_refl 0) ?_
    obtain ⟨hr_2a, hr_2b⟩ := hr_2
    exact W.iret hx hb hr (fun t ht hW => ⟨⟨_, S_3, rfl, (by exact ⟨by rw [hr_2a]; simp [tk_does], by simpa [tk_does] using hr_2b⟩), by rw [ht]; exact hM.1, hM.2.1⟩, hM.2.2.F ht⟩) hM.2.2.2.2 dX3_does_133
  by_cases hs_4 : w0 = (370116 : Int32)
  · skip
    subst hs_4
    refine lv_lookup (tgt := 68) (off := 67) hx hb dX3_does_1 (by decide) (by decide) (by decide) ?_
    refine lv_aload_n hx hb dX3_does_68 rfl (lv_at hl 0 rfl) ?_
    refine lv_aload_n hx hb dX3_does_69 rfl (lv_at hl 0 rfl) ?_
    refine m_get hx hb hts in_X3 hown hK hM 12 (by decide) (hts _ q1583) rfl dX3_does_70 ?_
    refine lv_iconst (v := 0) hx hb dX3_does_73 (by decide) ?_
    refine m_iald hx hb hK hM 6 7 rfl 0 rfl (by omega) (v := (S 6 0)) rfl dX3_does_74 (by decide) ?_
    refine lv_aload_n hx hb dX3_does_75 rfl (lv_at hl 0 rfl) ?_
    refine m_get hx hb hts in_X3 hown hK hM 12 (by decide) (hts _ q1583) rfl dX3_does_76 ?_
    refine lv_iconst (v := 1) hx hb dX3_does_79 (by decide) ?_
    refine m_iald hx hb hK hM 6 7 rfl 1 rfl (by omega) (v := (S 6 1)) rfl dX3_does_80 (by decide) ?_
    refine lv_aload_n hx hb dX3_does_81 rfl (lv_at hl 0 rfl) ?_
    refine m_get hx hb hts in_X3 hown hK hM 12 (by decide) (hts _ q1583) rfl dX3_does_82 ?_
    refine lv_iconst (v := 2) hx hb dX3_does_85 (by decide) ?_
    refine m_iald hx hb hK hM 6 7 rfl 2 rfl (by omega) (v := (S 6 2)) rfl dX3_does_86 (by decide) ?_
    refine va_calli (va_runV (As := [.int (S 6 0), .int (S 6 1), .int (S 6 2)]) (rest := []) ⟨hx, hb, hml, hown, hts⟩ (met_X3_kinds l D cA ad S (S 6 0) (S 6 1) (S 6 2) hI) (cwV 3 hts (lw_V q1626 q1628 qs25 q71 q1629) rfl rfl rfl (by decide +kernel) ⟨Nat.le_of_ble_eq_true rfl, Nat.le_of_ble_eq_true rfl⟩) (mPreV hK hM) rfl rfl hl.1 rfl (lv_room (Nat.le_of_ble_eq_true rfl)) dX3_does_87 ⟨Nat.le_of_ble_eq_true rfl, Nat.le_of_ble_eq_true rfl⟩) hM.2.2 (fun _ _ h => h) (fun _ h => h) (fun r_5 S_6 t H1 locs ht hvm hr_5 hB hz hk hS => ?_)
    have hM : mSt D cA ad (mA ad) s.heap H1 locs S_6 := ⟨by rw [← ht]; exact hB.1, hB.2, hS⟩
    clear hB ht; generalize H1 = H at hM ⊢; clear hz hk hS
    refine W.widen (k := 0) (n := 0) (Nat.le_refl 0) (Nat.le_refl 0) ?_
    obtain ⟨hr_5a, hr_5b⟩ := hr_5
    exact W.iret hx hb hr (fun t ht hW => ⟨⟨_, S_6, rfl, (by exact ⟨by rw [hr_5a]; simp [tk_does, hs_1], by simpa [tk_does, hs_1] using hr_5b⟩), by rw [ht]; exact hM.1, hM.2.1⟩, hM.2.2.F ht⟩) hM.2.2.2.2 dX3_does_90
  by_cases hs_7 : w0 = (611717 : Int32)
  · skip
    subst hs_7
    refine lv_lookup (tgt := 108) (off := 107) hx hb dX3_does_1 (by decide) (by decide) (by decide) ?_
    refine lv_aload_n hx hb dX3_does_108 rfl (lv_at hl 0 rfl) ?_
    refine lv_bipush (v := 11) hx hb dX3_does_109 (by decide) ?_
    refine lv_aload_n hx hb dX3_does_111 rfl (lv_at hl 0 rfl) ?_
    refine m_get hx hb hts in_X3 hown hK hM 12 (by decide) (hts _ q1583) rfl dX3_does_112 ?_
    refine lv_iconst (v := 0) hx hb dX3_does_115 (by decide) ?_
    refine m_iald hx hb hK hM 6 7 rfl 0 rfl (by omega) (v := (S 6 0)) rfl dX3_does_116 (by decide) ?_
    refine lv_iconst (v := 0) hx hb dX3_does_117 (by decide) ?_
    refine lv_iconst (v := 3) hx hb dX3_does_118 (by decide) ?_
    refine va_calli (va_runV (As := [.int (nI 11), .int (S 6 0), .int (0 : Int32), .int (3 : Int32)]) (rest := []) ⟨hx, hb, hml, hown, hts⟩ (met_X3_sets l D cA ad S 11 (S 6 0) (0 : Int32) (3 : Int32) hI (by first | assumption | omega | decide)) (cwV 4 hts (lw_V q1657 q1659 qs29 q71 q1660) rfl rfl rfl (by decide +kernel) ⟨Nat.le_of_ble_eq_true rfl, Nat.le_of_ble_eq_true rfl⟩) (mPreV hK hM) rfl rfl hl.1 rfl (lv_room (Nat.le_of_ble_eq_true rfl)) dX3_does_119 ⟨Nat.le_of_ble_eq_true rfl, Nat.le_of_ble_eq_true rfl⟩) hM.2.2 (fun _ _ h => h) (fun _ h => h) (fun r_8 S_9 t H1 locs ht hvm hr_8 hB hz hk hS => ?_)
    have hM : mSt D cA ad (mA ad) s.heap H1 locs S_9 := ⟨by rw [← ht]; exact hB.1, hB.2, hS⟩
    clear hB ht; generalize H1 = H at hM ⊢; clear hz hk hS
    refine W.widen (k := 0) (n := 0) (Nat.le_refl 0) (Nat.le_refl 0) ?_
    obtain ⟨hr_8a, hr_8b⟩ := hr_8
    exact W.iret hx hb hr (fun t ht hW => ⟨⟨_, S_9, rfl, (by exact ⟨by rw [hr_8a]; simp [tk_does, hs_1, hs_4], by simpa [tk_does, hs_1, hs_4] using hr_8b⟩), by rw [ht]; exact hM.1, hM.2.1⟩, hM.2.2.F ht⟩) hM.2.2.2.2 dX3_does_122
  by_cases hs_10 : w0 = (3540269 : Int32)
  · skip
    subst hs_10
    refine lv_lookup (tgt := 193) (off := 192) hx hb dX3_does_1 (by decide) (by decide) (by decide) ?_
    refine lv_aload_n hx hb dX3_does_193 rfl (lv_at hl 0 rfl) ?_
    refine lv_aload_n hx hb dX3_does_194 rfl (lv_at hl 0 rfl) ?_
    refine m_get hx hb hts in_X3 hown hK hM 12 (by decide) (hts _ q1583) rfl dX3_does_195 ?_
    refine lv_iconst (v := 0) hx hb dX3_does_198 (by decide) ?_
    refine m_iald hx hb hK hM 6 7 rfl 0 rfl (by omega) (v := (S 6 0)) rfl dX3_does_199 (by decide) ?_
    refine lv_aload_n hx hb dX3_does_200 rfl (lv_at hl 0 rfl) ?_
    refine m_get hx hb hts in_X3 hown hK hM 12 (by decide) (hts _ q1583) rfl dX3_does_201 ?_
    refine lv_iconst (v := 1) hx hb dX3_does_204 (by decide) ?_
    refine m_iald hx hb hK hM 6 7 rfl 1 rfl (by omega) (v := (S 6 1)) rfl dX3_does_205 (by decide) ?_
    refine va_calli (va_runV (As := [.int (S 6 0), .int (S 6 1)]) (rest := []) ⟨hx, hb, hml, hown, hts⟩ (met_X3_claims l D cA ad S (S 6 0) (S 6 1) hI) (cwV 2 hts (lw_V q1727 q1729 qs39 q71 q1730) rfl rfl rfl (by decide +kernel) ⟨Nat.le_of_ble_eq_true rfl, Nat.le_of_ble_eq_true rfl⟩) (mPreV hK hM) rfl rfl hl.1 rfl (lv_room (Nat.le_of_ble_eq_true rfl)) dX3_does_206 ⟨Nat.le_of_ble_eq_true rfl, Nat.le_of_ble_eq_true rfl⟩) hM.2.2 (fun _ _ h => h) (fun _ h => h) (fun r_11 S_12 t H1 locs ht hvm hr_11 hB hz hk hS => ?_)
    have hM : mSt D cA ad (mA ad) s.heap H1 locs S_12 := ⟨by rw [← ht]; exact hB.1, hB.2, hS⟩
    clear hB ht; generalize H1 = H at hM ⊢; clear hz hk hS
    refine W.widen (k := 0) (n := 0) (Nat.le_refl 0) (Nat.le_refl 0) ?_
    obtain ⟨hr_11a, hr_11b⟩ := hr_11
    exact W.iret hx hb hr (fun t ht hW => ⟨⟨_, S_12, rfl, (by exact ⟨by rw [hr_11a]; simp [tk_does, hs_1, hs_4, hs_7], by simpa [tk_does, hs_1, hs_4, hs_7] using hr_11b⟩), by rw [ht]; exact hM.1, hM.2.1⟩, hM.2.2.F ht⟩) hM.2.2.2.2 dX3_does_209
  by_cases hs_13 : w0 = (17377093 : Int32)
  · skip
    subst hs_13
    refine lv_lookup (tgt := 134) (off := 133) hx hb dX3_does_1 (by decide) (by decide) (by decide) ?_
    refine lv_aload_n hx hb dX3_does_134 rfl (lv_at hl 0 rfl) ?_
    refine lv_aload_n hx hb dX3_does_135 rfl (lv_at hl 0 rfl) ?_
    refine m_get hx hb hts in_X3 hown hK hM 12 (by decide) (hts _ q1583) rfl dX3_does_136 ?_
    refine lv_iconst (v := 0) hx hb dX3_does_139 (by decide) ?_
    refine m_iald hx hb hK hM 6 7 rfl 0 rfl (by omega) (v := (S 6 0)) rfl dX3_does_140 (by decide) ?_
    refine lv_aload_n hx hb dX3_does_141 rfl (lv_at hl 0 rfl) ?_
    refine m_get hx hb hts in_X3 hown hK hM 12 (by decide) (hts _ q1583) rfl dX3_does_142 ?_
    refine lv_iconst (v := 1) hx hb dX3_does_145 (by decide) ?_
    refine m_iald hx hb hK hM 6 7 rfl 1 rfl (by omega) (v := (S 6 1)) rfl dX3_does_146 (by decide) ?_
    refine lv_aload_n hx hb dX3_does_147 rfl (lv_at hl 0 rfl) ?_
    refine m_get hx hb hts in_X3 hown hK hM 12 (by decide) (hts _ q1583) rfl dX3_does_148 ?_
    refine lv_iconst (v := 2) hx hb dX3_does_151 (by decide) ?_
    refine m_iald hx hb hK hM 6 7 rfl 2 rfl (by omega) (v := (S 6 2)) rfl dX3_does_152 (by decide) ?_
    refine lv_aload_n hx hb dX3_does_153 rfl (lv_at hl 0 rfl) ?_
    refine m_get hx hb hts in_X3 hown hK hM 12 (by decide) (hts _ q1583) rfl dX3_does_154 ?_
    refine lv_iconst (v := 3) hx hb dX3_does_157 (by decide) ?_
    refine m_iald hx hb hK hM 6 7 rfl 3 rfl (by omega) (v := (S 6 3)) rfl dX3_does_158 (by decide) ?_
    refine lv_aload_n hx hb dX3_does_159 rfl (lv_at hl 0 rfl) ?_
    refine m_get hx hb hts in_X3 hown hK hM 12 (by decide) (hts _ q1583) rfl dX3_does_160 ?_
    refine lv_iconst (v := 4) hx hb dX3_does_163 (by decide) ?_
    refine m_iald hx hb hK hM 6 7 rfl 4 rfl (by omega) (v := (S 6 4)) rfl dX3_does_164 (by decide) ?_
    refine va_calli (va_runV (As := [.int (S 6 0), .int (S 6 1), .int (S 6 2), .int (S 6 3), .int (S 6 4)]) (rest := []) ⟨hx, hb, hml, hown, hts⟩ (met_X3_adds l D cA ad S (S 6 0) (S 6 1) (S 6 2) (S 6 3) (S 6 4) hI) (cwV 5 hts (lw_V q1739 q1741 qs40 q71 q1742) rfl rfl rfl (by decide +kernel) ⟨Nat.le_of_ble_eq_true rfl, Nat.le_of_ble_eq_true rfl⟩) (mPreV hK hM) rfl rfl hl.1 rfl (lv_room (Nat.le_of_ble_eq_true rfl)) dX3_does_165 ⟨Nat.le_of_ble_eq_true rfl, Nat.le_of_ble_eq_true rfl⟩) hM.2.2 (fun _ _ h => h) (fun _ h => h) (fun r_14 S_15 t H1 locs ht hvm hr_14 hB hz hk hS => ?_)
    have hM : mSt D cA ad (mA ad) s.heap H1 locs S_15 := ⟨by rw [← ht]; exact hB.1, hB.2, hS⟩
    clear hB ht; generalize H1 = H at hM ⊢; clear hz hk hS
    refine W.widen (k := 0) (n := 0) (Nat.le_refl 0) (Nat.le_refl 0) ?_
    obtain ⟨hr_14a, hr_14b⟩ := hr_14
    exact W.iret hx hb hr (fun t ht hW => ⟨⟨_, S_15, rfl, (by exact ⟨by rw [hr_14a]; simp [tk_does, hs_1, hs_4, hs_7, hs_10], by simpa [tk_does, hs_1, hs_4, hs_7, hs_10] using hr_14b⟩), by rw [ht]; exact hM.1, hM.2.1⟩, hM.2.2.F ht⟩) hM.2.2.2.2 dX3_does_168
  by_cases hs_16 : w0 = (20022661 : Int32)
  · skip
    subst hs_16
    refine lv_lookup (tgt := 91) (off := 90) hx hb dX3_does_1 (by decide) (by decide) (by decide) ?_
    refine lv_aload_n hx hb dX3_does_91 rfl (lv_at hl 0 rfl) ?_
    refine lv_aload_n hx hb dX3_does_92 rfl (lv_at hl 0 rfl) ?_
    refine m_get hx hb hts in_X3 hown hK hM 12 (by decide) (hts _ q1583) rfl dX3_does_93 ?_
    refine lv_iconst (v := 0) hx hb dX3_does_96 (by decide) ?_
    refine m_iald hx hb hK hM 6 7 rfl 0 rfl (by omega) (v := (S 6 0)) rfl dX3_does_97 (by decide) ?_
    refine lv_aload_n hx hb dX3_does_98 rfl (lv_at hl 0 rfl) ?_
    refine m_get hx hb hts in_X3 hown hK hM 12 (by decide) (hts _ q1583) rfl dX3_does_99 ?_
    refine lv_iconst (v := 1) hx hb dX3_does_102 (by decide) ?_
    refine m_iald hx hb hK hM 6 7 rfl 1 rfl (by omega) (v := (S 6 1)) rfl dX3_does_103 (by decide) ?_
    refine va_calli (va_runV (As := [.int (S 6 0), .int (S 6 1)]) (rest := []) ⟨hx, hb, hml, hown, hts⟩ (met_X3_scales l D cA ad S (S 6 0) (S 6 1) hI) (cwV 2 hts (lw_V q1649 q1651 qs28 q71 q1652) rfl rfl rfl (by decide +kernel) ⟨Nat.le_of_ble_eq_true rfl, Nat.le_of_ble_eq_true rfl⟩) (mPreV hK hM) rfl rfl hl.1 rfl (lv_room (Nat.le_of_ble_eq_true rfl)) dX3_does_104 ⟨Nat.le_of_ble_eq_true rfl, Nat.le_of_ble_eq_true rfl⟩) hM.2.2 (fun _ _ h => h) (fun _ h => h) (fun r_17 S_18 t H1 locs ht hvm hr_17 hB hz hk hS => ?_)
    have hM : mSt D cA ad (mA ad) s.heap H1 locs S_18 := ⟨by rw [← ht]; exact hB.1, hB.2, hS⟩
    clear hB ht; generalize H1 = H at hM ⊢; clear hz hk hS
    refine W.widen (k := 0) (n := 0) (Nat.le_refl 0) (Nat.le_refl 0) ?_
    obtain ⟨hr_17a, hr_17b⟩ := hr_17
    exact W.iret hx hb hr (fun t ht hW => ⟨⟨_, S_18, rfl, (by exact ⟨by rw [hr_17a]; simp [tk_does, hs_1, hs_4, hs_7, hs_10, hs_13], by simpa [tk_does, hs_1, hs_4, hs_7, hs_10, hs_13] using hr_17b⟩), by rw [ht]; exact hM.1, hM.2.1⟩, hM.2.2.F ht⟩) hM.2.2.2.2 dX3_does_107
  by_cases hs_19 : w0 = (24290536 : Int32)
  · skip
    subst hs_19
    refine lv_lookup (tgt := 169) (off := 168) hx hb dX3_does_1 (by decide) (by decide) (by decide) ?_
    refine lv_aload_n hx hb dX3_does_169 rfl (lv_at hl 0 rfl) ?_
    refine lv_aload_n hx hb dX3_does_170 rfl (lv_at hl 0 rfl) ?_
    refine m_get hx hb hts in_X3 hown hK hM 12 (by decide) (hts _ q1583) rfl dX3_does_171 ?_
    refine lv_iconst (v := 0) hx hb dX3_does_174 (by decide) ?_
    refine m_iald hx hb hK hM 6 7 rfl 0 rfl (by omega) (v := (S 6 0)) rfl dX3_does_175 (by decide) ?_
    refine lv_aload_n hx hb dX3_does_176 rfl (lv_at hl 0 rfl) ?_
    refine m_get hx hb hts in_X3 hown hK hM 12 (by decide) (hts _ q1583) rfl dX3_does_177 ?_
    refine lv_iconst (v := 1) hx hb dX3_does_180 (by decide) ?_
    refine m_iald hx hb hK hM 6 7 rfl 1 rfl (by omega) (v := (S 6 1)) rfl dX3_does_181 (by decide) ?_
    refine lv_aload_n hx hb dX3_does_182 rfl (lv_at hl 0 rfl) ?_
    refine m_get hx hb hts in_X3 hown hK hM 12 (by decide) (hts _ q1583) rfl dX3_does_183 ?_
    refine lv_iconst (v := 2) hx hb dX3_does_186 (by decide) ?_
    refine m_iald hx hb hK hM 6 7 rfl 2 rfl (by omega) (v := (S 6 2)) rfl dX3_does_187 (by decide) ?_
    refine lv_iconst (v := 0) hx hb dX3_does_188 (by decide) ?_
    refine va_calli (va_runV (As := [.int (S 6 0), .int (S 6 1), .int (S 6 2), .int (0 : Int32)]) (rest := []) ⟨hx, hb, hml, hown, hts⟩ (met_X3_weighs l D cA ad S (S 6 0) (S 6 1) (S 6 2) (0 : Int32) hI) (cwV 4 hts (lw_V q1694 q1696 qs33 q71 q1697) rfl rfl rfl (by decide +kernel) ⟨Nat.le_of_ble_eq_true rfl, Nat.le_of_ble_eq_true rfl⟩) (mPreV hK hM) rfl rfl hl.1 rfl (lv_room (Nat.le_of_ble_eq_true rfl)) dX3_does_189 ⟨Nat.le_of_ble_eq_true rfl, Nat.le_of_ble_eq_true rfl⟩) hM.2.2 (fun _ _ h => h) (fun _ h => h) (fun r_20 S_21 t H1 locs ht hvm hr_20 hB hz hk hS => ?_)
    have hM : mSt D cA ad (mA ad) s.heap H1 locs S_21 := ⟨by rw [← ht]; exact hB.1, hB.2, hS⟩
    clear hB ht; generalize H1 = H at hM ⊢; clear hz hk hS
    refine W.widen (k := 0) (n := 0) (Nat.le_refl 0) (Nat.le_refl 0) ?_
    obtain ⟨hr_20a, hr_20b⟩ := hr_20
    exact W.iret hx hb hr (fun t ht hW => ⟨⟨_, S_21, rfl, (by exact ⟨by rw [hr_20a]; simp [tk_does, hs_1, hs_4, hs_7, hs_10, hs_13, hs_16], by simpa [tk_does, hs_1, hs_4, hs_7, hs_10, hs_13, hs_16] using hr_20b⟩), by rw [ht]; exact hM.1, hM.2.1⟩, hM.2.2.F ht⟩) hM.2.2.2.2 dX3_does_192
  refine lv_lookup (tgt := 210) (off := 209) hx hb dX3_does_1 (by decide) (show Op.lookupswitch.offset [(114085, 122), (370116, 67), (611717, 107), (3540269, 192), (17377093, 133), (20022661, 90), (24290536, 168)] 209 w0.toInt = 209 from by rw [lv_osw hs_1 (by decide), lv_osw hs_4 (by decide), lv_osw hs_7 (by decide), lv_osw hs_10 (by decide), lv_osw hs_13 (by decide), lv_osw hs_16 (by decide), lv_osw hs_19 (by decide)]; rfl) (by decide) ?_
  refine lv_aload_n hx hb dX3_does_210 rfl (lv_at hl 0 rfl) ?_
  refine lv_aload_n hx hb dX3_does_211 rfl (lv_at hl 0 rfl) ?_
  refine m_get hx hb hts in_X3 hown hK hM 12 (by decide) (hts _ q1583) rfl dX3_does_212 ?_
  refine lv_iconst (v := 0) hx hb dX3_does_215 (by decide) ?_
  refine m_iald hx hb hK hM 6 7 rfl 0 rfl (by omega) (v := (S 6 0)) rfl dX3_does_216 (by decide) ?_
  refine lv_aload_n hx hb dX3_does_217 rfl (lv_at hl 0 rfl) ?_
  refine m_get hx hb hts in_X3 hown hK hM 12 (by decide) (hts _ q1583) rfl dX3_does_218 ?_
  refine lv_iconst (v := 1) hx hb dX3_does_221 (by decide) ?_
  refine m_iald hx hb hK hM 6 7 rfl 1 rfl (by omega) (v := (S 6 1)) rfl dX3_does_222 (by decide) ?_
  refine lv_aload_n hx hb dX3_does_223 rfl (lv_at hl 0 rfl) ?_
  refine m_get hx hb hts in_X3 hown hK hM 12 (by decide) (hts _ q1583) rfl dX3_does_224 ?_
  refine lv_iconst (v := 2) hx hb dX3_does_227 (by decide) ?_
  refine m_iald hx hb hK hM 6 7 rfl 2 rfl (by omega) (v := (S 6 2)) rfl dX3_does_228 (by decide) ?_
  refine va_calli (va_runV (As := [.int (S 6 0), .int (S 6 1), .int (S 6 2)]) (rest := []) ⟨hx, hb, hml, hown, hts⟩ (met_X3_buys l D cA ad S (S 6 0) (S 6 1) (S 6 2) hI) (cwV 3 hts (lw_V q1764 q1766 qs43 q71 q1767) rfl rfl rfl (by decide +kernel) ⟨Nat.le_of_ble_eq_true rfl, Nat.le_of_ble_eq_true rfl⟩) (mPreV hK hM) rfl rfl hl.1 rfl (lv_room (Nat.le_of_ble_eq_true rfl)) dX3_does_229 ⟨Nat.le_of_ble_eq_true rfl, Nat.le_of_ble_eq_true rfl⟩) hM.2.2 (fun _ _ h => h) (fun _ h => h) (fun r_22 S_23 t H1 locs ht hvm hr_22 hB hz hk hS => ?_)
  have hM : mSt D cA ad (mA ad) s.heap H1 locs S_23 := ⟨by rw [← ht]; exact hB.1, hB.2, hS⟩
  clear hB ht; generalize H1 = H at hM ⊢; clear hz hk hS
  refine W.widen (k := 0) (n := 0) (Nat.le_refl 0) (Nat.le_refl 0) ?_
  obtain ⟨hr_22a, hr_22b⟩ := hr_22
  exact W.iret hx hb hr (fun t ht hW => ⟨⟨_, S_23, rfl, (by exact ⟨by rw [hr_22a]; simp [tk_does, hs_1, hs_4, hs_7, hs_10, hs_13, hs_16, hs_19], by simpa [tk_does, hs_1, hs_4, hs_7, hs_10, hs_13, hs_16, hs_19] using hr_22b⟩), by rw [ht]; exact hM.1, hM.2.1⟩, hM.2.2.F ht⟩) hM.2.2.2.2 dX3_does_232
