theorem pB_nar {r : Int32} {b : Bool} (h : pB r b) : narrow .boolean (.int r) = .int r := by rcases h with ⟨rfl, -⟩ | ⟨rfl, -⟩ <;> rfl
theorem pB_fit {r : Int32} {b : Bool} (h : pB r b) : fits .boolean (.int r) = true := by rcases h with ⟨rfl, -⟩ | ⟨rfl, -⟩ <;> rfl
set_option maxHeartbeats 4000000 in
set_option maxRecDepth 100000 in
theorem met_X3_in (l : Launch) (v : Int32) (lo : Int32) (hi : Int32) : Met l yX3_in (ws_ yX3_in cX3_in 3 (some .boolean)) (rmL 1 0 0) (va_Pc [.int v, .int lo, .int hi] (fun _ => True)) (vp_Si (fun r => pB r (tk_in v lo hi))) 0 0 (fun _ => False) := by
  refine Met.ofW (cc := cX3_in) (maxL := 3) (ret := (some .boolean)) (by decide) rfl ?_
  intro p e s m args below meth c s₁ Bd hml hv
  obtain ⟨rfl, -⟩ := hv
  have hx := Bd.exec
  have hb := Bd.bytes
  have hr := Bd.returns
  have hts := atoms_spec (ws := (ws_ yX3_in cX3_in 3 (some .boolean))) Bd.pre
  have hts : ∀ w ∈ lw_all, w.before _ s = true := fun w h => hts w (List.mem_cons_of_mem _ h)
  have hown : s.vm.findClass RX3 = some m.cls := findClass_of_methodNamed Bd.named
  have hlocks := Bd.notSynchronized
  have hl := lv_entry ([.int v, .int lo, .int hi]) (n := 3) (Nat.le_of_ble_eq_true rfl)
  rw [lg_entry_eq]
  generalize (lg_sl ([.int v, .int lo, .int hi]) ++ List.replicate (3 - (lg_sl ([.int v, .int lo, .int hi])).length) Slot.unset).toArray = ls at hl ⊢
  have hl : lv_has ls 3 [(0, .int v), (1, .int lo), (2, .int hi)] := hl
  refine lv_iload_n hx hb dX3_in_0 rfl (lv_at hl 0 rfl) ?_
  refine lv_iload_n hx hb dX3_in_1 rfl (lv_at hl 1 rfl) ?_
  refine lv_icmp_lt (tgt := 14) hx hb dX3_in_2 (by decide) (fun c2_b_1 => ?_) (fun c2_b_1 => ?_)
  · skip
    refine lv_iconst (v := 0) hx hb dX3_in_14 (by decide) ?_
    exact W.zret hx hb hr rfl (fun t ht hW => ⟨_, rfl, Or.inr ⟨rfl, by simp [tk_in, ← Int32.not_lt, c2_b_1]⟩, ht⟩) (fun _ h => absurd h List.not_mem_nil) dX3_in_15
  · skip
    refine lv_iload_n hx hb dX3_in_5 rfl (lv_at hl 0 rfl) ?_
    refine lv_iload_n hx hb dX3_in_6 rfl (lv_at hl 2 rfl) ?_
    refine lv_icmp_gt (tgt := 14) hx hb dX3_in_7 (by decide) (fun c7_b_2 => ?_) (fun c7_b_2 => ?_)
    · skip
      refine lv_iconst (v := 0) hx hb dX3_in_14 (by decide) ?_
      exact W.zret hx hb hr rfl (fun t ht hW => ⟨_, rfl, Or.inr ⟨rfl, by simp [tk_in, ← Int32.not_lt, c2_b_1, c7_b_2]⟩, ht⟩) (fun _ h => absurd h List.not_mem_nil) dX3_in_15
    · skip
      refine lv_iconst (v := 1) hx hb dX3_in_10 (by decide) ?_
      refine lv_goto (tgt := 15) hx hb dX3_in_11 (by decide) ?_
      exact W.zret hx hb hr rfl (fun t ht hW => ⟨_, rfl, Or.inl ⟨rfl, by simp [tk_in, ← Int32.not_lt, c2_b_1, c7_b_2]⟩, ht⟩) (fun _ h => absurd h List.not_mem_nil) dX3_in_15

set_option maxHeartbeats 4000000 in
set_option maxRecDepth 100000 in
theorem met_X3_isCustomer (l : Launch) (D : va_G) (cA : Nat → ClassId) (ad : Nat → Nat) (S : Nat → Nat → Int32) (c0 : Int32) : Met l yX3_isCustomer (ws_ yX3_isCustomer cX3_isCustomer 2 (some .boolean)) (rmL 2 0 0) (mPre D cA ad S [.int c0]) (vp_Si (fun r => pB r (tk_cus (S 0) c0))) 0 0 (fun _ => False) := by
  refine Met.ofW (cc := cX3_isCustomer) (maxL := 2) (ret := (some .boolean)) (by decide) rfl ?_
  intro p e s m args below meth c s₁ Bd hml hv
  obtain ⟨rfl, hP, hK, hD⟩ := hv
  have hx := Bd.exec
  have hb := Bd.bytes
  have hr := Bd.returns
  have hts := atoms_spec (ws := (ws_ yX3_isCustomer cX3_isCustomer 2 (some .boolean))) Bd.pre
  have hts : ∀ w ∈ lw_all, w.before _ s = true := fun w h => hts w (List.mem_cons_of_mem _ h)
  have hown : s.vm.findClass RX3 = some m.cls := findClass_of_methodNamed Bd.named
  have hlocks := Bd.notSynchronized
  have hM : mSt D cA ad (mA ad) s.heap s.heap [] S := ⟨hP, hD, va_S.rf⟩
  have hl := lv_entry ([.ref (ad 7), .int c0]) (n := 2) (Nat.le_of_ble_eq_true rfl)
  rw [lg_entry_eq]
  generalize (lg_sl ([.ref (ad 7), .int c0]) ++ List.replicate (2 - (lg_sl ([.ref (ad 7), .int c0])).length) Slot.unset).toArray = ls at hl ⊢
  have hl : lv_has ls 2 [(0, .ref (ad 7)), (1, .int c0)] := hl
  refine lv_iload_n hx hb dX3_isCustomer_0 rfl (lv_at hl 1 rfl) ?_
  refine lv_iconst (v := 0) hx hb dX3_isCustomer_1 (by decide) ?_
  refine lv_aload_n hx hb dX3_isCustomer_2 rfl (lv_at hl 0 rfl) ?_
  refine m_get hx hb hts in_X3 hown hK hM 0 (by decide) (hts _ q1571) rfl dX3_isCustomer_3 ?_
  refine lv_bipush (v := 14) hx hb dX3_isCustomer_6 (by decide) ?_
  refine m_iald hx hb hK hM 0 1 rfl 14 rfl (by omega) (v := (S 0 14)) rfl dX3_isCustomer_8 (by decide) ?_
  refine lv_iconst (v := 1) hx hb dX3_isCustomer_9 (by decide) ?_
  refine lv_isub hx hb dX3_isCustomer_10 ?_
  refine vp_callSi (W.runS (As := [.int c0, .int (0 : Int32), .int ((S 0 14) - (1 : Int32))]) (rest := []) ⟨hx, hb, hml, hown, hts⟩ (met_X3_in l c0 (0 : Int32) ((S 0 14) - (1 : Int32))) (va_cwS 3 hts (lw_S q1633 q1634 q71 q1635) rfl rfl rfl (by decide +kernel) ⟨Nat.le_of_ble_eq_true rfl, Nat.le_of_ble_eq_true rfl⟩) ⟨fun a U g mk q => q, fun U hU hW => ⟨rfl, trivial⟩⟩ rfl rfl hl.1 rfl (lv_room (Nat.le_of_ble_eq_true rfl)) dX3_isCustomer_11 ⟨Nat.le_of_ble_eq_true rfl, Nat.le_of_ble_eq_true rfl⟩) (fun r_1 hr_1 => ?_)
  exact W.zret hx hb hr (pB_nar hr_1) (fun t ht hW => ⟨_, rfl, hr_1, ht⟩) (fun _ h => absurd h List.not_mem_nil) dX3_isCustomer_14

set_option maxHeartbeats 4000000 in
set_option maxRecDepth 100000 in
theorem met_X3_isPrize (l : Launch) (D : va_G) (cA : Nat → ClassId) (ad : Nat → Nat) (S : Nat → Nat → Int32) (c0 : Int32) : Met l yX3_isPrize (ws_ yX3_isPrize cX3_isPrize 2 (some .boolean)) (rmL 2 0 0) (mPre D cA ad S [.int c0]) (vp_Si (fun r => pB r (tk_pri (S 0) c0))) 0 0 (fun _ => False) := by
  refine Met.ofW (cc := cX3_isPrize) (maxL := 2) (ret := (some .boolean)) (by decide) rfl ?_
  intro p e s m args below meth c s₁ Bd hml hv
  obtain ⟨rfl, hP, hK, hD⟩ := hv
  have hx := Bd.exec
  have hb := Bd.bytes
  have hr := Bd.returns
  have hts := atoms_spec (ws := (ws_ yX3_isPrize cX3_isPrize 2 (some .boolean))) Bd.pre
  have hts : ∀ w ∈ lw_all, w.before _ s = true := fun w h => hts w (List.mem_cons_of_mem _ h)
  have hown : s.vm.findClass RX3 = some m.cls := findClass_of_methodNamed Bd.named
  have hlocks := Bd.notSynchronized
  have hM : mSt D cA ad (mA ad) s.heap s.heap [] S := ⟨hP, hD, va_S.rf⟩
  have hl := lv_entry ([.ref (ad 7), .int c0]) (n := 2) (Nat.le_of_ble_eq_true rfl)
  rw [lg_entry_eq]
  generalize (lg_sl ([.ref (ad 7), .int c0]) ++ List.replicate (2 - (lg_sl ([.ref (ad 7), .int c0])).length) Slot.unset).toArray = ls at hl ⊢
  have hl : lv_has ls 2 [(0, .ref (ad 7)), (1, .int c0)] := hl
  refine lv_iload_n hx hb dX3_isPrize_0 rfl (lv_at hl 1 rfl) ?_
  refine lv_iconst (v := 0) hx hb dX3_isPrize_1 (by decide) ?_
  refine lv_aload_n hx hb dX3_isPrize_2 rfl (lv_at hl 0 rfl) ?_
  refine m_get hx hb hts in_X3 hown hK hM 0 (by decide) (hts _ q1571) rfl dX3_isPrize_3 ?_
  refine lv_bipush (v := 15) hx hb dX3_isPrize_6 (by decide) ?_
  refine m_iald hx hb hK hM 0 1 rfl 15 rfl (by omega) (v := (S 0 15)) rfl dX3_isPrize_8 (by decide) ?_
  refine lv_iconst (v := 1) hx hb dX3_isPrize_9 (by decide) ?_
  refine lv_isub hx hb dX3_isPrize_10 ?_
  refine vp_callSi (W.runS (As := [.int c0, .int (0 : Int32), .int ((S 0 15) - (1 : Int32))]) (rest := []) ⟨hx, hb, hml, hown, hts⟩ (met_X3_in l c0 (0 : Int32) ((S 0 15) - (1 : Int32))) (va_cwS 3 hts (lw_S q1633 q1634 q71 q1635) rfl rfl rfl (by decide +kernel) ⟨Nat.le_of_ble_eq_true rfl, Nat.le_of_ble_eq_true rfl⟩) ⟨fun a U g mk q => q, fun U hU hW => ⟨rfl, trivial⟩⟩ rfl rfl hl.1 rfl (lv_room (Nat.le_of_ble_eq_true rfl)) dX3_isPrize_11 ⟨Nat.le_of_ble_eq_true rfl, Nat.le_of_ble_eq_true rfl⟩) (fun r_1 hr_1 => ?_)
  exact W.zret hx hb hr (pB_nar hr_1) (fun t ht hW => ⟨_, rfl, hr_1, ht⟩) (fun _ h => absurd h List.not_mem_nil) dX3_isPrize_14

set_option maxHeartbeats 4000000 in
set_option maxRecDepth 100000 in
theorem met_X3_isKind (l : Launch) (k0 : Int32) : Met l yX3_isKind (ws_ yX3_isKind cX3_isKind 1 (some .boolean)) (rmL 2 0 0) (va_Pc [.int k0] (fun _ => True)) (vp_Si (fun r => pB r (tk_in k0 0 3))) 0 0 (fun _ => False) := by
  refine Met.ofW (cc := cX3_isKind) (maxL := 1) (ret := (some .boolean)) (by decide) rfl ?_
  intro p e s m args below meth c s₁ Bd hml hv
  obtain ⟨rfl, -⟩ := hv
  have hx := Bd.exec
  have hb := Bd.bytes
  have hr := Bd.returns
  have hts := atoms_spec (ws := (ws_ yX3_isKind cX3_isKind 1 (some .boolean))) Bd.pre
  have hts : ∀ w ∈ lw_all, w.before _ s = true := fun w h => hts w (List.mem_cons_of_mem _ h)
  have hown : s.vm.findClass RX3 = some m.cls := findClass_of_methodNamed Bd.named
  have hlocks := Bd.notSynchronized
  have hl := lv_entry ([.int k0]) (n := 1) (Nat.le_of_ble_eq_true rfl)
  rw [lg_entry_eq]
  generalize (lg_sl ([.int k0]) ++ List.replicate (1 - (lg_sl ([.int k0])).length) Slot.unset).toArray = ls at hl ⊢
  have hl : lv_has ls 1 [(0, .int k0)] := hl
  refine lv_iload_n hx hb dX3_isKind_0 rfl (lv_at hl 0 rfl) ?_
  refine lv_iconst (v := 0) hx hb dX3_isKind_1 (by decide) ?_
  refine lv_iconst (v := 3) hx hb dX3_isKind_2 (by decide) ?_
  refine vp_callSi (W.runS (As := [.int k0, .int (0 : Int32), .int (3 : Int32)]) (rest := []) ⟨hx, hb, hml, hown, hts⟩ (met_X3_in l k0 (0 : Int32) (3 : Int32)) (va_cwS 3 hts (lw_S q1633 q1634 q71 q1635) rfl rfl rfl (by decide +kernel) ⟨Nat.le_of_ble_eq_true rfl, Nat.le_of_ble_eq_true rfl⟩) ⟨fun a U g mk q => q, fun U hU hW => ⟨rfl, trivial⟩⟩ rfl rfl hl.1 rfl (lv_room (Nat.le_of_ble_eq_true rfl)) dX3_isKind_3 ⟨Nat.le_of_ble_eq_true rfl, Nat.le_of_ble_eq_true rfl⟩) (fun r_1 hr_1 => ?_)
  exact W.zret hx hb hr (pB_nar hr_1) (fun t ht hW => ⟨_, rfl, hr_1, ht⟩) (fun _ h => absurd h List.not_mem_nil) dX3_isKind_6

set_option maxHeartbeats 4000000 in
set_option maxRecDepth 100000 in
theorem met_X3_of (l : Launch) (D : va_G) (cA : Nat → ClassId) (ad : Nat → Nat) (S : Nat → Nat → Int32) (c0 : Nat) (w0 : Nat) (h0 : 16 + 6 * c0 + w0 < 284) : Met l yX3_of (ws_ yX3_of cX3_of 3 (some .int)) (rmL 1 0 0) (mPre D cA ad S [.int (nI c0), .int (nI w0)]) (vp_Si (fun r => r = S 0 (16 + 6 * c0 + w0))) 0 0 (fun _ => False) := by
  refine Met.ofW (cc := cX3_of) (maxL := 3) (ret := (some .int)) (by decide) rfl ?_
  intro p e s m args below meth c s₁ Bd hml hv
  obtain ⟨rfl, hP, hK, hD⟩ := hv
  have hx := Bd.exec
  have hb := Bd.bytes
  have hr := Bd.returns
  have hts := atoms_spec (ws := (ws_ yX3_of cX3_of 3 (some .int))) Bd.pre
  have hts : ∀ w ∈ lw_all, w.before _ s = true := fun w h => hts w (List.mem_cons_of_mem _ h)
  have hown : s.vm.findClass RX3 = some m.cls := findClass_of_methodNamed Bd.named
  have hlocks := Bd.notSynchronized
  have hM : mSt D cA ad (mA ad) s.heap s.heap [] S := ⟨hP, hD, va_S.rf⟩
  have hl := lv_entry ([.ref (ad 7), .int (nI c0), .int (nI w0)]) (n := 3) (Nat.le_of_ble_eq_true rfl)
  rw [lg_entry_eq]
  generalize (lg_sl ([.ref (ad 7), .int (nI c0), .int (nI w0)]) ++ List.replicate (3 - (lg_sl ([.ref (ad 7), .int (nI c0), .int (nI w0)])).length) Slot.unset).toArray = ls at hl ⊢
  have hl : lv_has ls 3 [(0, .ref (ad 7)), (1, .int (nI c0)), (2, .int (nI w0))] := hl
  refine lv_aload_n hx hb dX3_of_0 rfl (lv_at hl 0 rfl) ?_
  refine m_get hx hb hts in_X3 hown hK hM 0 (by decide) (hts _ q1571) rfl dX3_of_1 ?_
  refine lv_bipush (v := 16) hx hb dX3_of_4 (by decide) ?_
  refine lv_bipush (v := 6) hx hb dX3_of_6 (by decide) ?_
  refine lv_iload_n hx hb dX3_of_8 rfl (lv_at hl 1 rfl) ?_
  refine lv_imul hx hb dX3_of_9 ?_
  refine lv_iadd hx hb dX3_of_10 ?_
  refine lv_iload_n hx hb dX3_of_11 rfl (lv_at hl 2 rfl) ?_
  refine lv_iadd hx hb dX3_of_12 ?_
  refine m_iald hx hb hK hM 0 1 rfl ((16 + (6 * c0)) + w0) (ixA (ixA rfl (ixM rfl rfl)) rfl) (by omega) (v := (S 0 ((16 + (6 * c0)) + w0))) rfl dX3_of_13 (by decide) ?_
  exact W.iret hx hb hr (fun t ht hW => ⟨_, rfl, rfl, ht⟩) (fun _ h => absurd h List.not_mem_nil) dX3_of_14

set_option maxHeartbeats 4000000 in
set_option maxRecDepth 100000 in
theorem met_X3_priced (l : Launch) (D : va_G) (cA : Nat → ClassId) (ad : Nat → Nat) (S : Nat → Nat → Int32) (c0 : Nat) (w0 : Nat) (h0 : 52 + 7 * c0 + w0 < 284) : Met l yX3_priced (ws_ yX3_priced cX3_priced 3 (some .int)) (rmL 1 0 0) (mPre D cA ad S [.int (nI c0), .int (nI w0)]) (vp_Si (fun r => r = S 0 (52 + 7 * c0 + w0))) 0 0 (fun _ => False) := by
  refine Met.ofW (cc := cX3_priced) (maxL := 3) (ret := (some .int)) (by decide) rfl ?_
  intro p e s m args below meth c s₁ Bd hml hv
  obtain ⟨rfl, hP, hK, hD⟩ := hv
  have hx := Bd.exec
  have hb := Bd.bytes
  have hr := Bd.returns
  have hts := atoms_spec (ws := (ws_ yX3_priced cX3_priced 3 (some .int))) Bd.pre
  have hts : ∀ w ∈ lw_all, w.before _ s = true := fun w h => hts w (List.mem_cons_of_mem _ h)
  have hown : s.vm.findClass RX3 = some m.cls := findClass_of_methodNamed Bd.named
  have hlocks := Bd.notSynchronized
  have hM : mSt D cA ad (mA ad) s.heap s.heap [] S := ⟨hP, hD, va_S.rf⟩
  have hl := lv_entry ([.ref (ad 7), .int (nI c0), .int (nI w0)]) (n := 3) (Nat.le_of_ble_eq_true rfl)
  rw [lg_entry_eq]
  generalize (lg_sl ([.ref (ad 7), .int (nI c0), .int (nI w0)]) ++ List.replicate (3 - (lg_sl ([.ref (ad 7), .int (nI c0), .int (nI w0)])).length) Slot.unset).toArray = ls at hl ⊢
  have hl : lv_has ls 3 [(0, .ref (ad 7)), (1, .int (nI c0)), (2, .int (nI w0))] := hl
  refine lv_aload_n hx hb dX3_priced_0 rfl (lv_at hl 0 rfl) ?_
  refine m_get hx hb hts in_X3 hown hK hM 0 (by decide) (hts _ q1571) rfl dX3_priced_1 ?_
  refine lv_bipush (v := 52) hx hb dX3_priced_4 (by decide) ?_
  refine lv_bipush (v := 7) hx hb dX3_priced_6 (by decide) ?_
  refine lv_iload_n hx hb dX3_priced_8 rfl (lv_at hl 1 rfl) ?_
  refine lv_imul hx hb dX3_priced_9 ?_
  refine lv_iadd hx hb dX3_priced_10 ?_
  refine lv_iload_n hx hb dX3_priced_11 rfl (lv_at hl 2 rfl) ?_
  refine lv_iadd hx hb dX3_priced_12 ?_
  refine m_iald hx hb hK hM 0 1 rfl ((52 + (7 * c0)) + w0) (ixA (ixA rfl (ixM rfl rfl)) rfl) (by omega) (v := (S 0 ((52 + (7 * c0)) + w0))) rfl dX3_priced_13 (by decide) ?_
  exact W.iret hx hb hr (fun t ht hW => ⟨_, rfl, rfl, ht⟩) (fun _ h => absurd h List.not_mem_nil) dX3_priced_14

set_option maxHeartbeats 4000000 in
set_option maxRecDepth 100000 in
theorem met_X3_floors (l : Launch) (a0 : Int32) (b0 : Int32) (h0 : ¬ b0 = 0) : Met l yX3_floors (ws_ yX3_floors cX3_floors 3 (some .int)) (rmL 1 0 0) (va_Pc [.int a0, .int b0] (fun _ => True)) (vp_Si (fun r => r = tk_fl a0 b0)) 0 0 (fun _ => False) := by
  refine Met.ofW (cc := cX3_floors) (maxL := 3) (ret := (some .int)) (by decide) rfl ?_
  intro p e s m args below meth c s₁ Bd hml hv
  obtain ⟨rfl, -⟩ := hv
  have hx := Bd.exec
  have hb := Bd.bytes
  have hr := Bd.returns
  have hts := atoms_spec (ws := (ws_ yX3_floors cX3_floors 3 (some .int))) Bd.pre
  have hts : ∀ w ∈ lw_all, w.before _ s = true := fun w h => hts w (List.mem_cons_of_mem _ h)
  have hown : s.vm.findClass RX3 = some m.cls := findClass_of_methodNamed Bd.named
  have hlocks := Bd.notSynchronized
  have hl := lv_entry ([.int a0, .int b0]) (n := 3) (Nat.le_of_ble_eq_true rfl)
  rw [lg_entry_eq]
  generalize (lg_sl ([.int a0, .int b0]) ++ List.replicate (3 - (lg_sl ([.int a0, .int b0])).length) Slot.unset).toArray = ls at hl ⊢
  have hl : lv_has ls 3 [(0, .int a0), (1, .int b0)] := hl
  refine lv_iload_n hx hb dX3_floors_0 rfl (lv_at hl 0 rfl) ?_
  refine lv_iload_n hx hb dX3_floors_1 rfl (lv_at hl 1 rfl) ?_
  refine lv_idiv hx hb dX3_floors_2 (by assumption) ?_
  refine lv_istore_n (lv' := [(2, .int (a0 / b0)), (0, .int a0), (1, .int b0)]) hx hb dX3_floors_3 rfl hl (by decide) rfl (fun ls hl => ?_)
  refine lv_iload_n hx hb dX3_floors_4 rfl (lv_at hl 1 rfl) ?_
  refine lv_iload_n hx hb dX3_floors_5 rfl (lv_at hl 2 rfl) ?_
  refine lv_irem hx hb dX3_floors_6 (by assumption) ?_
  refine lv_if_ge (tgt := 16) hx hb dX3_floors_7 (by decide) (fun c7_b_1 => ?_) (fun c7_b_1 => ?_)
  · skip
    have c7_b_1 := Int32.not_lt.mpr c7_b_1
    refine lv_iload_n hx hb dX3_floors_16 rfl (lv_at hl 0 rfl) ?_
    exact W.iret hx hb hr (fun t ht hW => ⟨_, rfl, (by simp [tk_fl, ← Int32.not_lt, c7_b_1]), ht⟩) (fun _ h => absurd h List.not_mem_nil) dX3_floors_17
  · skip
    have c7_b_1 := Int32.not_le.mp c7_b_1
    refine lv_iload_n hx hb dX3_floors_10 rfl (lv_at hl 0 rfl) ?_
    refine lv_iconst (v := 1) hx hb dX3_floors_11 (by decide) ?_
    refine lv_isub hx hb dX3_floors_12 ?_
    refine lv_goto (tgt := 17) hx hb dX3_floors_13 (by decide) ?_
    exact W.iret hx hb hr (fun t ht hW => ⟨_, rfl, (by simp [tk_fl, ← Int32.not_lt, c7_b_1]), ht⟩) (fun _ h => absurd h List.not_mem_nil) dX3_floors_17

set_option maxHeartbeats 4000000 in
set_option maxRecDepth 100000 in
theorem met_X3_far (l : Launch) (a0 : Int32) (b0 : Int32) : Met l yX3_far (ws_ yX3_far cX3_far 2 (some .int)) (rmL 1 0 0) (va_Pc [.int a0, .int b0] (fun _ => True)) (vp_Si (fun r => r = tk_far a0 b0)) 0 0 (fun _ => False) := by
  refine Met.ofW (cc := cX3_far) (maxL := 2) (ret := (some .int)) (by decide) rfl ?_
  intro p e s m args below meth c s₁ Bd hml hv
  obtain ⟨rfl, -⟩ := hv
  have hx := Bd.exec
  have hb := Bd.bytes
  have hr := Bd.returns
  have hts := atoms_spec (ws := (ws_ yX3_far cX3_far 2 (some .int))) Bd.pre
  have hts : ∀ w ∈ lw_all, w.before _ s = true := fun w h => hts w (List.mem_cons_of_mem _ h)
  have hown : s.vm.findClass RX3 = some m.cls := findClass_of_methodNamed Bd.named
  have hlocks := Bd.notSynchronized
  have hl := lv_entry ([.int a0, .int b0]) (n := 2) (Nat.le_of_ble_eq_true rfl)
  rw [lg_entry_eq]
  generalize (lg_sl ([.int a0, .int b0]) ++ List.replicate (2 - (lg_sl ([.int a0, .int b0])).length) Slot.unset).toArray = ls at hl ⊢
  have hl : lv_has ls 2 [(0, .int a0), (1, .int b0)] := hl
  refine lv_iload_n hx hb dX3_far_0 rfl (lv_at hl 0 rfl) ?_
  refine lv_iload_n hx hb dX3_far_1 rfl (lv_at hl 1 rfl) ?_
  refine lv_icmp_ge (tgt := 11) hx hb dX3_far_2 (by decide) (fun c2_b_1 => ?_) (fun c2_b_1 => ?_)
  · skip
    have c2_b_1 := Int32.not_lt.mpr c2_b_1
    refine lv_iload_n hx hb dX3_far_11 rfl (lv_at hl 0 rfl) ?_
    refine lv_iload_n hx hb dX3_far_12 rfl (lv_at hl 1 rfl) ?_
    refine lv_isub hx hb dX3_far_13 ?_
    exact W.iret hx hb hr (fun t ht hW => ⟨_, rfl, (by simp [tk_far, ← Int32.not_lt, c2_b_1]), ht⟩) (fun _ h => absurd h List.not_mem_nil) dX3_far_14
  · skip
    have c2_b_1 := Int32.not_le.mp c2_b_1
    refine lv_iload_n hx hb dX3_far_5 rfl (lv_at hl 1 rfl) ?_
    refine lv_iload_n hx hb dX3_far_6 rfl (lv_at hl 0 rfl) ?_
    refine lv_isub hx hb dX3_far_7 ?_
    refine lv_goto (tgt := 14) hx hb dX3_far_8 (by decide) ?_
    exact W.iret hx hb hr (fun t ht hW => ⟨_, rfl, (by simp [tk_far, ← Int32.not_lt, c2_b_1]), ht⟩) (fun _ h => absurd h List.not_mem_nil) dX3_far_14

set_option maxHeartbeats 4000000 in
set_option maxRecDepth 100000 in
theorem met_X3_readsBy (l : Launch) (D : va_G) (cA : Nat → ClassId) (ad : Nat → Nat) (S : Nat → Nat → Int32) (x0 : Int32) (t0 : Int32) (h0 : ¬ 2 * t0 = 0) : Met l yX3_readsBy (ws_ yX3_readsBy cX3_readsBy 4 (some .int)) (rmL 2 0 0) (mPre D cA ad S [.int x0, .int t0]) (vp_Si (fun r => r = tk_rd x0 t0)) 0 0 (fun _ => False) := by
  refine Met.ofW (cc := cX3_readsBy) (maxL := 4) (ret := (some .int)) (by decide) rfl ?_
  intro p e s m args below meth c s₁ Bd hml hv
  obtain ⟨rfl, hP, hK, hD⟩ := hv
  have hx := Bd.exec
  have hb := Bd.bytes
  have hr := Bd.returns
  have hts := atoms_spec (ws := (ws_ yX3_readsBy cX3_readsBy 4 (some .int))) Bd.pre
  have hts : ∀ w ∈ lw_all, w.before _ s = true := fun w h => hts w (List.mem_cons_of_mem _ h)
  have hown : s.vm.findClass RX3 = some m.cls := findClass_of_methodNamed Bd.named
  have hlocks := Bd.notSynchronized
  have hM : mSt D cA ad (mA ad) s.heap s.heap [] S := ⟨hP, hD, va_S.rf⟩
  have hl := lv_entry ([.ref (ad 7), .int x0, .int t0]) (n := 4) (Nat.le_of_ble_eq_true rfl)
  rw [lg_entry_eq]
  generalize (lg_sl ([.ref (ad 7), .int x0, .int t0]) ++ List.replicate (4 - (lg_sl ([.ref (ad 7), .int x0, .int t0])).length) Slot.unset).toArray = ls at hl ⊢
  have hl : lv_has ls 4 [(0, .ref (ad 7)), (1, .int x0), (2, .int t0)] := hl
  refine lv_iconst (v := 2) hx hb dX3_readsBy_0 (by decide) ?_
  refine lv_iload_n hx hb dX3_readsBy_1 rfl (lv_at hl 1 rfl) ?_
  refine lv_imul hx hb dX3_readsBy_2 ?_
  refine lv_iload_n hx hb dX3_readsBy_3 rfl (lv_at hl 2 rfl) ?_
  refine lv_iadd hx hb dX3_readsBy_4 ?_
  refine lv_iconst (v := 2) hx hb dX3_readsBy_5 (by decide) ?_
  refine lv_iload_n hx hb dX3_readsBy_6 rfl (lv_at hl 2 rfl) ?_
  refine lv_imul hx hb dX3_readsBy_7 ?_
  refine vp_callSi (W.runS (As := [.int (((2 : Int32) * x0) + t0), .int ((2 : Int32) * t0)]) (rest := []) ⟨hx, hb, hml, hown, hts⟩ (met_X3_floors l (((2 : Int32) * x0) + t0) ((2 : Int32) * t0) (by first | assumption | omega | decide)) (va_cwS 2 hts (lw_S q1702 q1703 q71 q1704) rfl rfl rfl (by decide +kernel) ⟨Nat.le_of_ble_eq_true rfl, Nat.le_of_ble_eq_true rfl⟩) ⟨fun a U g mk q => q, fun U hU hW => ⟨rfl, trivial⟩⟩ rfl rfl hl.1 rfl (lv_room (Nat.le_of_ble_eq_true rfl)) dX3_readsBy_8 ⟨Nat.le_of_ble_eq_true rfl, Nat.le_of_ble_eq_true rfl⟩) (fun r_1 hr_1 => ?_)
  subst hr_1
  refine lv_istore_n (lv' := [(3, .int (tk_fl (((2 : Int32) * x0) + t0) ((2 : Int32) * t0))), (0, .ref (ad 7)), (1, .int x0), (2, .int t0)]) hx hb dX3_readsBy_11 rfl hl (by decide) rfl (fun ls hl => ?_)
  refine lv_iload_n hx hb dX3_readsBy_12 rfl (lv_at hl 0 rfl) ?_
  refine lv_if_ge (tgt := 20) hx hb dX3_readsBy_13 (by decide) (fun c13_b_2 => ?_) (fun c13_b_2 => ?_)
  · skip
    have c13_b_2 := Int32.not_lt.mpr c13_b_2
    refine lv_iload_n hx hb dX3_readsBy_20 rfl (lv_at hl 0 rfl) ?_
    refine lv_iload_n hx hb dX3_readsBy_21 rfl (lv_at hl 3 rfl) ?_
    refine lv_imul hx hb dX3_readsBy_22 ?_
    exact W.iret hx hb hr (fun t ht hW => ⟨_, rfl, (by simp [tk_rd, ← Int32.not_lt, c13_b_2]), ht⟩) (fun _ h => absurd h List.not_mem_nil) dX3_readsBy_23
  · skip
    have c13_b_2 := Int32.not_le.mp c13_b_2
    refine lv_iconst (v := 0) hx hb dX3_readsBy_16 (by decide) ?_
    refine lv_goto (tgt := 23) hx hb dX3_readsBy_17 (by decide) ?_
    exact W.iret hx hb hr (fun t ht hW => ⟨_, rfl, (by simp [tk_rd, ← Int32.not_lt, c13_b_2]), ht⟩) (fun _ h => absurd h List.not_mem_nil) dX3_readsBy_23

set_option maxHeartbeats 4000000 in
set_option maxRecDepth 100000 in
theorem met_X3_highest (l : Launch) (D : va_G) (cA : Nat → ClassId) (ad : Nat → Nat) (S : Nat → Nat → Int32) (x0 : Int32) : Met l yX3_highest (ws_ yX3_highest cX3_highest 2 (some .int)) (rmL 2 0 0) (mPre D cA ad S [.int x0]) (vp_Si (fun r => r = tk_hi (S 0) x0)) 0 0 (fun _ => False) := by
  refine Met.ofW (cc := cX3_highest) (maxL := 2) (ret := (some .int)) (by decide) rfl ?_
  intro p e s m args below meth c s₁ Bd hml hv
  obtain ⟨rfl, hP, hK, hD⟩ := hv
  have hx := Bd.exec
  have hb := Bd.bytes
  have hr := Bd.returns
  have hts := atoms_spec (ws := (ws_ yX3_highest cX3_highest 2 (some .int))) Bd.pre
  have hts : ∀ w ∈ lw_all, w.before _ s = true := fun w h => hts w (List.mem_cons_of_mem _ h)
  have hown : s.vm.findClass RX3 = some m.cls := findClass_of_methodNamed Bd.named
  have hlocks := Bd.notSynchronized
  have hM : mSt D cA ad (mA ad) s.heap s.heap [] S := ⟨hP, hD, va_S.rf⟩
  have hl := lv_entry ([.ref (ad 7), .int x0]) (n := 2) (Nat.le_of_ble_eq_true rfl)
  rw [lg_entry_eq]
  generalize (lg_sl ([.ref (ad 7), .int x0]) ++ List.replicate (2 - (lg_sl ([.ref (ad 7), .int x0])).length) Slot.unset).toArray = ls at hl ⊢
  have hl : lv_has ls 2 [(0, .ref (ad 7)), (1, .int x0)] := hl
  refine lv_iconst (v := 2) hx hb dX3_highest_0 (by decide) ?_
  refine lv_iload_n hx hb dX3_highest_1 rfl (lv_at hl 1 rfl) ?_
  refine lv_imul hx hb dX3_highest_2 ?_
  refine lv_aload_n hx hb dX3_highest_3 rfl (lv_at hl 0 rfl) ?_
  refine m_get hx hb hts in_X3 hown hK hM 0 (by decide) (hts _ q1571) rfl dX3_highest_4 ?_
  refine lv_bipush (v := 8) hx hb dX3_highest_7 (by decide) ?_
  refine m_iald hx hb hK hM 0 1 rfl 8 rfl (by omega) (v := (S 0 8)) rfl dX3_highest_9 (by decide) ?_
  refine lv_iadd hx hb dX3_highest_10 ?_
  refine lv_iconst (v := 1) hx hb dX3_highest_11 (by decide) ?_
  refine lv_isub hx hb dX3_highest_12 ?_
  refine lv_iconst (v := 2) hx hb dX3_highest_13 (by decide) ?_
  refine vp_callSi (W.runS (As := [.int ((((2 : Int32) * x0) + (S 0 8)) - (1 : Int32)), .int (2 : Int32)]) (rest := []) ⟨hx, hb, hml, hown, hts⟩ (met_X3_floors l ((((2 : Int32) * x0) + (S 0 8)) - (1 : Int32)) (2 : Int32) (by first | assumption | omega | decide)) (va_cwS 2 hts (lw_S q1702 q1703 q71 q1704) rfl rfl rfl (by decide +kernel) ⟨Nat.le_of_ble_eq_true rfl, Nat.le_of_ble_eq_true rfl⟩) ⟨fun a U g mk q => q, fun U hU hW => ⟨rfl, trivial⟩⟩ rfl rfl hl.1 rfl (lv_room (Nat.le_of_ble_eq_true rfl)) dX3_highest_14 ⟨Nat.le_of_ble_eq_true rfl, Nat.le_of_ble_eq_true rfl⟩) (fun r_1 hr_1 => ?_)
  subst hr_1
  exact W.iret hx hb hr (fun t ht hW => ⟨_, rfl, rfl, ht⟩) (fun _ h => absurd h List.not_mem_nil) dX3_highest_17

set_option maxHeartbeats 4000000 in
set_option maxRecDepth 100000 in
theorem met_X3_lowest (l : Launch) (D : va_G) (cA : Nat → ClassId) (ad : Nat → Nat) (S : Nat → Nat → Int32) (x0 : Int32) : Met l yX3_lowest (ws_ yX3_lowest cX3_lowest 2 (some .int)) (rmL 2 0 0) (mPre D cA ad S [.int x0]) (vp_Si (fun r => r = tk_lo (S 0) x0)) 0 0 (fun _ => False) := by
  refine Met.ofW (cc := cX3_lowest) (maxL := 2) (ret := (some .int)) (by decide) rfl ?_
  intro p e s m args below meth c s₁ Bd hml hv
  obtain ⟨rfl, hP, hK, hD⟩ := hv
  have hx := Bd.exec
  have hb := Bd.bytes
  have hr := Bd.returns
  have hts := atoms_spec (ws := (ws_ yX3_lowest cX3_lowest 2 (some .int))) Bd.pre
  have hts : ∀ w ∈ lw_all, w.before _ s = true := fun w h => hts w (List.mem_cons_of_mem _ h)
  have hown : s.vm.findClass RX3 = some m.cls := findClass_of_methodNamed Bd.named
  have hlocks := Bd.notSynchronized
  have hM : mSt D cA ad (mA ad) s.heap s.heap [] S := ⟨hP, hD, va_S.rf⟩
  have hl := lv_entry ([.ref (ad 7), .int x0]) (n := 2) (Nat.le_of_ble_eq_true rfl)
  rw [lg_entry_eq]
  generalize (lg_sl ([.ref (ad 7), .int x0]) ++ List.replicate (2 - (lg_sl ([.ref (ad 7), .int x0])).length) Slot.unset).toArray = ls at hl ⊢
  have hl : lv_has ls 2 [(0, .ref (ad 7)), (1, .int x0)] := hl
  refine lv_iload_n hx hb dX3_lowest_0 rfl (lv_at hl 1 rfl) ?_
  refine lv_if_ne (tgt := 9) hx hb dX3_lowest_1 (by decide) (fun c1_b_1 => ?_) (fun c1_b_1 => ?_)
  · skip
    refine lv_iconst (v := 2) hx hb dX3_lowest_9 (by decide) ?_
    refine lv_iload_n hx hb dX3_lowest_10 rfl (lv_at hl 1 rfl) ?_
    refine lv_imul hx hb dX3_lowest_11 ?_
    refine lv_aload_n hx hb dX3_lowest_12 rfl (lv_at hl 0 rfl) ?_
    refine m_get hx hb hts in_X3 hown hK hM 0 (by decide) (hts _ q1571) rfl dX3_lowest_13 ?_
    refine lv_bipush (v := 8) hx hb dX3_lowest_16 (by decide) ?_
    refine m_iald hx hb hK hM 0 1 rfl 8 rfl (by omega) (v := (S 0 8)) rfl dX3_lowest_18 (by decide) ?_
    refine lv_isub hx hb dX3_lowest_19 ?_
    refine lv_iconst (v := 1) hx hb dX3_lowest_20 (by decide) ?_
    refine lv_iadd hx hb dX3_lowest_21 ?_
    refine lv_iconst (v := 2) hx hb dX3_lowest_22 (by decide) ?_
    refine vp_callSi (W.runS (As := [.int ((((2 : Int32) * x0) - (S 0 8)) + (1 : Int32)), .int (2 : Int32)]) (rest := []) ⟨hx, hb, hml, hown, hts⟩ (met_X3_floors l ((((2 : Int32) * x0) - (S 0 8)) + (1 : Int32)) (2 : Int32) (by decide)) (va_cwS 2 hts (lw_S q1702 q1703 q71 q1704) rfl rfl rfl (by decide +kernel) ⟨Nat.le_of_ble_eq_true rfl, Nat.le_of_ble_eq_true rfl⟩) ⟨fun a U g mk q => q, fun U hU hW => ⟨rfl, trivial⟩⟩ rfl rfl hl.1 rfl (lv_room (Nat.le_of_ble_eq_true rfl)) dX3_lowest_23 ⟨Nat.le_of_ble_eq_true rfl, Nat.le_of_ble_eq_true rfl⟩) (fun r_2 hr_2 => ?_)
    subst hr_2
    exact W.iret hx hb hr (fun t ht hW => ⟨_, rfl, (by simp [tk_lo, ← Int32.not_lt, c1_b_1]), ht⟩) (fun _ h => absurd h List.not_mem_nil) dX3_lowest_26
  · skip
    refine lv_ldc (v := -9000000) hx hb hown (hts _ q1717) dX3_lowest_4 ?_
    refine lv_goto (tgt := 26) hx hb dX3_lowest_6 (by decide) ?_
    exact W.iret hx hb hr (fun t ht hW => ⟨_, rfl, (by simp [tk_lo, ← Int32.not_lt, c1_b_1]), ht⟩) (fun _ h => absurd h List.not_mem_nil) dX3_lowest_26

set_option maxHeartbeats 4000000 in
set_option maxRecDepth 100000 in
theorem met_X3_stocked (l : Launch) (a0 : Int32) (b0 : Int32) (c0 : Int32) : Met l yX3_stocked (ws_ yX3_stocked cX3_stocked 5 (some .int)) (rmL 1 0 0) (va_Pc [.int a0, .int b0, .int c0] (fun _ => True)) (vp_Si (fun r => r = tk_stk a0 b0 c0)) 0 0 (fun _ => False) := by
  refine Met.ofW (cc := cX3_stocked) (maxL := 5) (ret := (some .int)) (by decide) rfl ?_
  intro p e s m args below meth c s₁ Bd hml hv
  obtain ⟨rfl, -⟩ := hv
  have hx := Bd.exec
  have hb := Bd.bytes
  have hr := Bd.returns
  have hts := atoms_spec (ws := (ws_ yX3_stocked cX3_stocked 5 (some .int))) Bd.pre
  have hts : ∀ w ∈ lw_all, w.before _ s = true := fun w h => hts w (List.mem_cons_of_mem _ h)
  have hown : s.vm.findClass RX3 = some m.cls := findClass_of_methodNamed Bd.named
  have hlocks := Bd.notSynchronized
  have hl := lv_entry ([.int a0, .int b0, .int c0]) (n := 5) (Nat.le_of_ble_eq_true rfl)
  rw [lg_entry_eq]
  generalize (lg_sl ([.int a0, .int b0, .int c0]) ++ List.replicate (5 - (lg_sl ([.int a0, .int b0, .int c0])).length) Slot.unset).toArray = ls at hl ⊢
  have hl : lv_has ls 5 [(0, .int a0), (1, .int b0), (2, .int c0)] := hl
  refine lv_iload_n hx hb dX3_stocked_0 rfl (lv_at hl 0 rfl) ?_
  refine lv_i2l hx hb dX3_stocked_1 rfl ?_
  refine lv_iload_n hx hb dX3_stocked_2 rfl (lv_at hl 1 rfl) ?_
  refine lv_i2l hx hb dX3_stocked_3 rfl ?_
  refine lv_iload_n hx hb dX3_stocked_4 rfl (lv_at hl 2 rfl) ?_
  refine lv_i2l hx hb dX3_stocked_5 rfl ?_
  refine lv_lmul hx hb dX3_stocked_6 ?_
  refine lv_ladd hx hb dX3_stocked_7 ?_
  refine lv_lstore_n (lv' := [(3, .long ((a0).toInt64 + ((b0).toInt64 * (c0).toInt64))), (0, .int a0), (1, .int b0), (2, .int c0)]) hx hb dX3_stocked_8 rfl hl (by decide) rfl (fun ls hl => ?_)
  refine lv_lload_n hx hb dX3_stocked_9 rfl (lv_at hl 0 rfl) ?_
  refine lv_ldc2 (v := 99) hx hb hown (hts _ q1771) dX3_stocked_10 ?_
  refine W.lcmp hx hb dX3_stocked_13 ?_
  refine lv_if_le (tgt := 22) hx hb dX3_stocked_14 (by decide) (fun c14_b_1 => ?_) (fun c14_b_1 => ?_)
  · skip
    have c14_b_1 := Int32.not_lt.mpr c14_b_1
    refine lv_lload_n hx hb dX3_stocked_22 rfl (lv_at hl 0 rfl) ?_
    refine lv_l2i hx hb dX3_stocked_23 rfl ?_
    exact W.iret hx hb hr (fun t ht hW => ⟨_, rfl, (by rw [tk_stk]; first | (rw [if_neg (fun q => c14_b_1 ((lg_cmp_gt _ _).mpr q))]) | (rw [if_pos ((lg_cmp_gt _ _).mp c14_b_1)])), ht⟩) (fun _ h => absurd h List.not_mem_nil) dX3_stocked_24
  · skip
    have c14_b_1 := Int32.not_le.mp c14_b_1
    refine lv_bipush (v := 99) hx hb dX3_stocked_17 (by decide) ?_
    refine lv_goto (tgt := 24) hx hb dX3_stocked_19 (by decide) ?_
    exact W.iret hx hb hr (fun t ht hW => ⟨_, rfl, (by rw [tk_stk]; first | (rw [if_neg (fun q => c14_b_1 ((lg_cmp_gt _ _).mpr q))]) | (rw [if_pos ((lg_cmp_gt _ _).mp c14_b_1)])), ht⟩) (fun _ h => absurd h List.not_mem_nil) dX3_stocked_24

set_option maxHeartbeats 4000000 in
set_option maxRecDepth 100000 in
theorem met_X3_allows (l : Launch) {B : Nat} (D : va_G) (cA : Nat → ClassId) (ad : Nat → Nat) (S : Nat → Nat → Int32) (x0 : Int32) (k0 : Nat) (hI : tk_ok B (S 0)) (hk0 : k0 < 4) : Met l yX3_allows (ws_ yX3_allows cX3_allows 6 (some .boolean)) (rmL 3 0 0) (mPre D cA ad S [.int x0, .int (nI k0)]) (va_Qi (fun (r : Int32) (S' : Nat → Nat → Int32) => pB r (tk_al (S 0) x0 k0) ∧ S' = tk_alS S x0 k0) (mEnd D cA ad) (mA ad)) 0 0 (mA ad) := by
  refine Met.ofW (cc := cX3_allows) (maxL := 6) (ret := (some .boolean)) (by decide) rfl ?_
  intro p e s m args below meth c s₁ Bd hml hv
  obtain ⟨rfl, hP, hK, hD⟩ := hv
  have hx := Bd.exec
  have hb := Bd.bytes
  have hr := Bd.returns
  have hts := atoms_spec (ws := (ws_ yX3_allows cX3_allows 6 (some .boolean))) Bd.pre
  have hts : ∀ w ∈ lw_all, w.before _ s = true := fun w h => hts w (List.mem_cons_of_mem _ h)
  have hown : s.vm.findClass RX3 = some m.cls := findClass_of_methodNamed Bd.named
  have hlocks := Bd.notSynchronized
  have hM : mSt D cA ad (mA ad) s.heap s.heap [] S := ⟨hP, hD, va_S.rf⟩
  have hl := lv_entry ([.ref (ad 7), .int x0, .int (nI k0)]) (n := 6) (Nat.le_of_ble_eq_true rfl)
  rw [lg_entry_eq]
  generalize (lg_sl ([.ref (ad 7), .int x0, .int (nI k0)]) ++ List.replicate (6 - (lg_sl ([.ref (ad 7), .int x0, .int (nI k0)])).length) Slot.unset).toArray = ls at hl ⊢
  have hl : lv_has ls 6 [(0, .ref (ad 7)), (1, .int x0), (2, .int (nI k0))] := hl
  have hs8 := ok_step hI
  have hhv := ok_heavy hI hk0
  have hlt := ok_light hI hk0
  refine lv_iload_n hx hb dX3_allows_0 rfl (lv_at hl 1 rfl) ?_
  refine lv_aload_n hx hb dX3_allows_1 rfl (lv_at hl 0 rfl) ?_
  refine m_get hx hb hts in_X3 hown hK hM 0 (by decide) (hts _ q1571) rfl dX3_allows_2 ?_
  refine lv_bipush (v := 8) hx hb dX3_allows_5 (by decide) ?_
  refine m_iald hx hb hK hM 0 1 rfl 8 rfl (by omega) (v := (S 0 8)) rfl dX3_allows_7 (by decide) ?_
  refine lv_irem hx hb dX3_allows_8 (by assumption) ?_
  refine lv_if_eq (tgt := 14) hx hb dX3_allows_9 (by decide) (fun c9_b_1 => ?_) (fun c9_b_1 => ?_)
  · skip
    refine lv_aload_n hx hb dX3_allows_14 rfl (lv_at hl 0 rfl) ?_
    refine m_get hx hb hts in_X3 hown hK hM 0 (by decide) (hts _ q1571) rfl dX3_allows_15 ?_
    refine lv_iload_n hx hb dX3_allows_18 rfl (lv_at hl 2 rfl) ?_
    refine m_iald hx hb hK hM 0 1 rfl k0 rfl (by omega) (v := (S 0 k0)) rfl dX3_allows_19 (by decide) ?_
    refine lv_aload_n hx hb dX3_allows_20 rfl (lv_at hl 0 rfl) ?_
    refine m_get hx hb hts in_X3 hown hK hM 0 (by decide) (hts _ q1571) rfl dX3_allows_21 ?_
    refine lv_iconst (v := 4) hx hb dX3_allows_24 (by decide) ?_
    refine lv_iload_n hx hb dX3_allows_25 rfl (lv_at hl 2 rfl) ?_
    refine lv_iadd hx hb dX3_allows_26 ?_
    refine m_iald hx hb hK hM 0 1 rfl (4 + k0) (ixA rfl rfl) (by omega) (v := (S 0 (4 + k0))) rfl dX3_allows_27 (by decide) ?_
    refine lv_isub hx hb dX3_allows_28 ?_
    refine lv_istore_n (lv' := [(3, .int ((S 0 k0) - (S 0 (4 + k0)))), (0, .ref (ad 7)), (1, .int x0), (2, .int (nI k0))]) hx hb dX3_allows_29 rfl hl (by decide) rfl (fun ls hl => ?_)
    refine lv_aload_n hx hb dX3_allows_30 rfl (lv_at hl 1 rfl) ?_
    refine m_get hx hb hts in_X3 hown hK hM 0 (by decide) (hts _ q1571) rfl dX3_allows_31 ?_
    refine lv_iload_n hx hb dX3_allows_34 rfl (lv_at hl 3 rfl) ?_
    refine m_iald hx hb hK hM 0 1 rfl k0 rfl (by omega) (v := (S 0 k0)) rfl dX3_allows_35 (by decide) ?_
    refine lv_aload_n hx hb dX3_allows_36 rfl (lv_at hl 1 rfl) ?_
    refine m_get hx hb hts in_X3 hown hK hM 0 (by decide) (hts _ q1571) rfl dX3_allows_37 ?_
    refine lv_iconst (v := 4) hx hb dX3_allows_40 (by decide) ?_
    refine lv_iload_n hx hb dX3_allows_41 rfl (lv_at hl 3 rfl) ?_
    refine lv_iadd hx hb dX3_allows_42 ?_
    refine m_iald hx hb hK hM 0 1 rfl (4 + k0) (ixA rfl rfl) (by omega) (v := (S 0 (4 + k0))) rfl dX3_allows_43 (by decide) ?_
    refine lv_iadd hx hb dX3_allows_44 ?_
    refine lv_istore (lv' := [(4, .int ((S 0 k0) + (S 0 (4 + k0)))), (3, .int ((S 0 k0) - (S 0 (4 + k0)))), (0, .ref (ad 7)), (1, .int x0), (2, .int (nI k0))]) hx hb dX3_allows_45 hl (by decide) rfl (fun ls hl => ?_)
    refine lv_aload_n hx hb dX3_allows_47 rfl (lv_at hl 2 rfl) ?_
    refine lv_iload_n hx hb dX3_allows_48 rfl (lv_at hl 3 rfl) ?_
    refine vp_callSi (W.runV (As := [.int x0]) (rest := []) ⟨hx, hb, hml, hown, hts⟩ (met_X3_lowest l D cA ad S x0) (cwV 1 hts (lw_V q1713 q1715 qs37 q71 q1716) rfl rfl rfl (by decide +kernel) ⟨Nat.le_of_ble_eq_true rfl, Nat.le_of_ble_eq_true rfl⟩) (mPreV hK hM) rfl rfl hl.1 rfl (lv_room (Nat.le_of_ble_eq_true rfl)) dX3_allows_49 ⟨Nat.le_of_ble_eq_true rfl, Nat.le_of_ble_eq_true rfl⟩) (fun r_2 hr_2 => ?_)
    subst hr_2
    refine lv_aload_n hx hb dX3_allows_52 rfl (lv_at hl 2 rfl) ?_
    refine m_get hx hb hts in_X3 hown hK hM 0 (by decide) (hts _ q1571) rfl dX3_allows_53 ?_
    refine lv_bipush (v := 9) hx hb dX3_allows_56 (by decide) ?_
    refine m_iald hx hb hK hM 0 1 rfl 9 rfl (by omega) (v := (S 0 9)) rfl dX3_allows_58 (by decide) ?_
    refine lv_isub hx hb dX3_allows_59 ?_
    refine lv_istore (lv' := [(5, .int ((tk_lo (S 0) x0) - (S 0 9))), (4, .int ((S 0 k0) + (S 0 (4 + k0)))), (3, .int ((S 0 k0) - (S 0 (4 + k0)))), (0, .ref (ad 7)), (1, .int x0), (2, .int (nI k0))]) hx hb dX3_allows_60 hl (by decide) rfl (fun ls hl => ?_)
    refine lv_aload_n hx hb dX3_allows_62 rfl (lv_at hl 3 rfl) ?_
    refine lv_iload hx hb dX3_allows_63 (lv_at hl 0 rfl) ?_
    refine lv_if_gt (tgt := 72) hx hb dX3_allows_65 (by decide) (fun c65_b_3 => ?_) (fun c65_b_3 => ?_)
    · skip
      refine lv_iload hx hb dX3_allows_72 (lv_at hl 0 rfl) ?_
      refine lv_iload hx hb dX3_allows_74 (lv_at hl 1 rfl) ?_
      refine lv_iadd hx hb dX3_allows_76 ?_
      refine lv_iconst (v := 1) hx hb dX3_allows_77 (by decide) ?_
      refine lv_isub hx hb dX3_allows_78 ?_
      refine lv_iload hx hb dX3_allows_79 (lv_at hl 1 rfl) ?_
      refine lv_idiv hx hb dX3_allows_81 (by assumption) ?_
      refine m_put hx hb hts in_X3 hown hK hM 13 6 (by decide) (hts _ q1584) rfl rfl rfl rfl dX3_allows_82 (fun H locs S_4 eS_4 hM => ?_)
      refine lv_aload_n hx hb dX3_allows_85 rfl (lv_at hl 3 rfl) ?_
      refine lv_aload_n hx hb dX3_allows_86 rfl (lv_at hl 3 rfl) ?_
      refine lv_iload_n hx hb dX3_allows_87 rfl (lv_at hl 4 rfl) ?_
      refine vp_callSi (W.runV (As := [.int x0]) (rest := [.ref (ad 7)]) ⟨hx, hb, hml, hown, hts⟩ (met_X3_highest l D cA ad S_4 x0) (cwV 1 hts (lw_V q1718 q1720 qs38 q71 q1721) rfl rfl rfl (by decide +kernel) ⟨Nat.le_of_ble_eq_true rfl, Nat.le_of_ble_eq_true rfl⟩) (mPreV hK hM) rfl rfl hl.1 rfl (lv_room (Nat.le_of_ble_eq_true rfl)) dX3_allows_88 ⟨Nat.le_of_ble_eq_true rfl, Nat.le_of_ble_eq_true rfl⟩) (fun r_5 hr_5 => ?_)
      rw [show S_4 0 = S 0 from (by rw [eS_4, su_n _ _ (by decide)])] at hr_5
      subst hr_5
      refine lv_aload_n hx hb dX3_allows_91 rfl (lv_at hl 3 rfl) ?_
      refine m_get hx hb hts in_X3 hown hK hM 0 (by decide) (hts _ q1571) rfl dX3_allows_92 ?_
      refine lv_bipush (v := 9) hx hb dX3_allows_95 (by decide) ?_
      refine m_iald hx hb hK hM 0 1 rfl 9 rfl (by omega) (v := (S 0 9)) (by rw [eS_4, su_n _ _ (by decide)]) dX3_allows_97 (by decide) ?_
      refine lv_iadd hx hb dX3_allows_98 ?_
      refine lv_iload_n hx hb dX3_allows_99 rfl (lv_at hl 2 rfl) ?_
      refine lv_idiv hx hb dX3_allows_100 (by assumption) ?_
      refine m_put hx hb hts in_X3 hown hK hM 14 7 (by decide) (hts _ q1585) rfl rfl rfl rfl dX3_allows_101 (fun H locs S_6 eS_6 hM => ?_)
      refine lv_aload_n hx hb dX3_allows_104 rfl (lv_at hl 3 rfl) ?_
      refine m_get hx hb hts in_X3 hown hK hM 13 (by decide) (hts _ q1584) (v := .int (((((tk_lo (S 0) x0) - (S 0 9)) + ((S 0 k0) + (S 0 (4 + k0)))) - (1 : Int32)) / ((S 0 k0) + (S 0 (4 + k0))))) (m_fld rfl (by rw [eS_6, su_s, su_n _ _ (by decide), eS_4, su_s, su_s])) dX3_allows_105 ?_
      refine lv_aload_n hx hb dX3_allows_108 rfl (lv_at hl 3 rfl) ?_
      refine m_get hx hb hts in_X3 hown hK hM 14 (by decide) (hts _ q1585) (v := .int (((tk_hi (S 0) x0) + (S 0 9)) / ((S 0 k0) - (S 0 (4 + k0))))) (m_fld rfl (by rw [eS_6, su_s, su_s])) dX3_allows_109 ?_
      refine lv_icmp_gt (tgt := 119) hx hb dX3_allows_112 (by decide) (fun c112_b_7 => ?_) (fun c112_b_7 => ?_)
      · skip
        refine lv_iconst (v := 0) hx hb dX3_allows_119 (by decide) ?_
        exact W.zret hx hb hr rfl (fun t ht hW => ⟨⟨_, S_6, rfl, ⟨Or.inr ⟨rfl, by simp [tk_al, tk_mu, tk_le, tk_gr, ← Int32.not_lt, c9_b_1, c65_b_3, c112_b_7]⟩, by subst eS_6; subst eS_4; simp [tk_alS, tk_mu, tk_le, tk_gr, su_su, su_s, su_n, ← Int32.not_lt, c9_b_1, c65_b_3, c112_b_7]⟩, by rw [ht]; exact hM.1, hM.2.1⟩, hM.2.2.F ht⟩) hM.2.2.2.2 dX3_allows_120
      · skip
        refine lv_iconst (v := 1) hx hb dX3_allows_115 (by decide) ?_
        refine lv_goto (tgt := 120) hx hb dX3_allows_116 (by decide) ?_
        exact W.zret hx hb hr rfl (fun t ht hW => ⟨⟨_, S_6, rfl, ⟨Or.inl ⟨rfl, by simp [tk_al, tk_mu, tk_le, tk_gr, ← Int32.not_lt, c9_b_1, c65_b_3, c112_b_7]⟩, by subst eS_6; subst eS_4; simp [tk_alS, tk_mu, tk_le, tk_gr, su_su, su_s, su_n, ← Int32.not_lt, c9_b_1, c65_b_3, c112_b_7]⟩, by rw [ht]; exact hM.1, hM.2.1⟩, hM.2.2.F ht⟩) hM.2.2.2.2 dX3_allows_120
    · skip
      refine lv_iconst (v := 0) hx hb dX3_allows_68 (by decide) ?_
      refine lv_goto (tgt := 82) hx hb dX3_allows_69 (by decide) ?_
      refine m_put hx hb hts in_X3 hown hK hM 13 6 (by decide) (hts _ q1584) rfl rfl rfl rfl dX3_allows_82 (fun H locs S_8 eS_8 hM => ?_)
      refine lv_aload_n hx hb dX3_allows_85 rfl (lv_at hl 3 rfl) ?_
      refine lv_aload_n hx hb dX3_allows_86 rfl (lv_at hl 3 rfl) ?_
      refine lv_iload_n hx hb dX3_allows_87 rfl (lv_at hl 4 rfl) ?_
      refine vp_callSi (W.runV (As := [.int x0]) (rest := [.ref (ad 7)]) ⟨hx, hb, hml, hown, hts⟩ (met_X3_highest l D cA ad S_8 x0) (cwV 1 hts (lw_V q1718 q1720 qs38 q71 q1721) rfl rfl rfl (by decide +kernel) ⟨Nat.le_of_ble_eq_true rfl, Nat.le_of_ble_eq_true rfl⟩) (mPreV hK hM) rfl rfl hl.1 rfl (lv_room (Nat.le_of_ble_eq_true rfl)) dX3_allows_88 ⟨Nat.le_of_ble_eq_true rfl, Nat.le_of_ble_eq_true rfl⟩) (fun r_9 hr_9 => ?_)
      rw [show S_8 0 = S 0 from (by rw [eS_8, su_n _ _ (by decide)])] at hr_9
      subst hr_9
      refine lv_aload_n hx hb dX3_allows_91 rfl (lv_at hl 3 rfl) ?_
      refine m_get hx hb hts in_X3 hown hK hM 0 (by decide) (hts _ q1571) rfl dX3_allows_92 ?_
      refine lv_bipush (v := 9) hx hb dX3_allows_95 (by decide) ?_
      refine m_iald hx hb hK hM 0 1 rfl 9 rfl (by omega) (v := (S 0 9)) (by rw [eS_8, su_n _ _ (by decide)]) dX3_allows_97 (by decide) ?_
      refine lv_iadd hx hb dX3_allows_98 ?_
      refine lv_iload_n hx hb dX3_allows_99 rfl (lv_at hl 2 rfl) ?_
      refine lv_idiv hx hb dX3_allows_100 (by assumption) ?_
      refine m_put hx hb hts in_X3 hown hK hM 14 7 (by decide) (hts _ q1585) rfl rfl rfl rfl dX3_allows_101 (fun H locs S_10 eS_10 hM => ?_)
      refine lv_aload_n hx hb dX3_allows_104 rfl (lv_at hl 3 rfl) ?_
      refine m_get hx hb hts in_X3 hown hK hM 13 (by decide) (hts _ q1584) (v := .int (0 : Int32)) (m_fld rfl (by rw [eS_10, su_s, su_n _ _ (by decide), eS_8, su_s, su_s])) dX3_allows_105 ?_
      refine lv_aload_n hx hb dX3_allows_108 rfl (lv_at hl 3 rfl) ?_
      refine m_get hx hb hts in_X3 hown hK hM 14 (by decide) (hts _ q1585) (v := .int (((tk_hi (S 0) x0) + (S 0 9)) / ((S 0 k0) - (S 0 (4 + k0))))) (m_fld rfl (by rw [eS_10, su_s, su_s])) dX3_allows_109 ?_
      refine lv_icmp_gt (tgt := 119) hx hb dX3_allows_112 (by decide) (fun c112_b_11 => ?_) (fun c112_b_11 => ?_)
      · skip
        refine lv_iconst (v := 0) hx hb dX3_allows_119 (by decide) ?_
        exact W.zret hx hb hr rfl (fun t ht hW => ⟨⟨_, S_10, rfl, ⟨Or.inr ⟨rfl, by simp [tk_al, tk_mu, tk_le, tk_gr, ← Int32.not_lt, c9_b_1, c65_b_3, c112_b_11]⟩, by subst eS_10; subst eS_8; simp [tk_alS, tk_mu, tk_le, tk_gr, su_su, su_s, su_n, ← Int32.not_lt, c9_b_1, c65_b_3, c112_b_11]⟩, by rw [ht]; exact hM.1, hM.2.1⟩, hM.2.2.F ht⟩) hM.2.2.2.2 dX3_allows_120
      · skip
        refine lv_iconst (v := 1) hx hb dX3_allows_115 (by decide) ?_
        refine lv_goto (tgt := 120) hx hb dX3_allows_116 (by decide) ?_
        exact W.zret hx hb hr rfl (fun t ht hW => ⟨⟨_, S_10, rfl, ⟨Or.inl ⟨rfl, by simp [tk_al, tk_mu, tk_le, tk_gr, ← Int32.not_lt, c9_b_1, c65_b_3, c112_b_11]⟩, by subst eS_10; subst eS_8; simp [tk_alS, tk_mu, tk_le, tk_gr, su_su, su_s, su_n, ← Int32.not_lt, c9_b_1, c65_b_3, c112_b_11]⟩, by rw [ht]; exact hM.1, hM.2.1⟩, hM.2.2.F ht⟩) hM.2.2.2.2 dX3_allows_120
  · skip
    refine lv_iconst (v := 0) hx hb dX3_allows_12 (by decide) ?_
    exact W.zret hx hb hr rfl (fun t ht hW => ⟨⟨_, S, rfl, ⟨Or.inr ⟨rfl, by simp [tk_al, tk_mu, c9_b_1]⟩, by  simp [tk_alS, tk_mu, tk_le, tk_gr, su_su, su_s, su_n, ← Int32.not_lt, c9_b_1]⟩, by rw [ht]; exact hM.1, hM.2.1⟩, hM.2.2.F ht⟩) hM.2.2.2.2 dX3_allows_13

set_option maxHeartbeats 4000000 in
set_option maxRecDepth 100000 in
theorem met_X3_guesses (l : Launch) {B : Nat} (D : va_G) (cA : Nat → ClassId) (ad : Nat → Nat) (S : Nat → Nat → Int32) (x0 : Int32) (k0 : Nat) (u0 : Int32) (hI : tk_ok B (S 0)) (hk0 : k0 < 4) : Met l yX3_guesses (ws_ yX3_guesses cX3_guesses 6 (some .int)) (rmL 4 0 0) (mPre D cA ad S [.int x0, .int (nI k0), .int u0]) (va_Qi (fun (r : Int32) (S' : Nat → Nat → Int32) => r = tk_gu (S 0) x0 k0 u0 ∧ S' = tk_alS S x0 k0) (mEnd D cA ad) (mA ad)) 0 0 (mA ad) := by
  refine Met.ofW (cc := cX3_guesses) (maxL := 6) (ret := (some .int)) (by decide) rfl ?_
  intro p e s m args below meth c s₁ Bd hml hv
  obtain ⟨rfl, hP, hK, hD⟩ := hv
  have hx := Bd.exec
  have hb := Bd.bytes
  have hr := Bd.returns
  have hts := atoms_spec (ws := (ws_ yX3_guesses cX3_guesses 6 (some .int))) Bd.pre
  have hts : ∀ w ∈ lw_all, w.before _ s = true := fun w h => hts w (List.mem_cons_of_mem _ h)
  have hown : s.vm.findClass RX3 = some m.cls := findClass_of_methodNamed Bd.named
  have hlocks := Bd.notSynchronized
  have hM : mSt D cA ad (mA ad) s.heap s.heap [] S := ⟨hP, hD, va_S.rf⟩
  have hl := lv_entry ([.ref (ad 7), .int x0, .int (nI k0), .int u0]) (n := 6) (Nat.le_of_ble_eq_true rfl)
  rw [lg_entry_eq]
  generalize (lg_sl ([.ref (ad 7), .int x0, .int (nI k0), .int u0]) ++ List.replicate (6 - (lg_sl ([.ref (ad 7), .int x0, .int (nI k0), .int u0])).length) Slot.unset).toArray = ls at hl ⊢
  have hl : lv_has ls 6 [(0, .ref (ad 7)), (1, .int x0), (2, .int (nI k0)), (3, .int u0)] := hl
  have hw0 := ok_w hI hk0
  refine lv_aload_n hx hb dX3_guesses_0 rfl (lv_at hl 0 rfl) ?_
  refine lv_iload_n hx hb dX3_guesses_1 rfl (lv_at hl 1 rfl) ?_
  refine lv_iload_n hx hb dX3_guesses_2 rfl (lv_at hl 2 rfl) ?_
  refine va_calli (va_runV (As := [.int x0, .int (nI k0)]) (rest := []) ⟨hx, hb, hml, hown, hts⟩ (met_X3_allows l D cA ad S x0 k0 hI (by first | assumption | omega | decide)) (cwV 2 hts (lw_V q1709 q1711 qs36 q71 q1712) rfl rfl rfl (by decide +kernel) ⟨Nat.le_of_ble_eq_true rfl, Nat.le_of_ble_eq_true rfl⟩) (mPreV hK hM) rfl rfl hl.1 rfl (lv_room (Nat.le_of_ble_eq_true rfl)) dX3_guesses_3 ⟨Nat.le_of_ble_eq_true rfl, Nat.le_of_ble_eq_true rfl⟩) hM.2.2 (fun _ _ h => h) (fun _ h => h) (fun r_1 S_2 t H1 locs ht hvm hr_1 hB hz hk hS => ?_)
  have hM : mSt D cA ad (mA ad) s.heap H1 locs S_2 := ⟨by rw [← ht]; exact hB.1, hB.2, hS⟩
  clear hB ht; generalize H1 = H at hM ⊢; clear hz hk hS
  refine W.widen (k := 0) (n := 0) (Nat.le_refl 0) (Nat.le_refl 0) ?_
  obtain ⟨hr_1, hr_1S⟩ := hr_1
  rcases hr_1 with ⟨er_hr_1, hr_1⟩ | ⟨er_hr_1, hr_1⟩
  · subst er_hr_1
    have g6 : S_2 7 6 = tk_le (S 0) x0 k0 := by rw [hr_1S]; exact tk_alS_6 hr_1
    have g7 : S_2 7 7 = tk_gr (S 0) x0 k0 := by rw [hr_1S]; exact tk_alS_g hr_1
    refine lv_if_ne (tgt := 12) hx hb dX3_guesses_6 (by decide) (fun _ => ?_) (fun c_ => absurd c_ (by decide))
    refine lv_iload_n hx hb dX3_guesses_12 rfl (lv_at hl 3 rfl) ?_
    refine lv_iconst (v := 1) hx hb dX3_guesses_13 (by decide) ?_
    refine lv_icmp_eq (tgt := 22) hx hb dX3_guesses_14 (by decide) (fun c14_b_3 => ?_) (fun c14_b_3 => ?_)
    · skip
      refine lv_iload_n hx hb dX3_guesses_22 rfl (lv_at hl 3 rfl) ?_
      refine lv_iconst (v := 1) hx hb dX3_guesses_23 (by decide) ?_
      refine lv_icmp_ne (tgt := 34) hx hb dX3_guesses_24 (by decide) (fun c_ => (absurd c14_b_3 c_)) (fun _ => ?_)
      refine lv_aload_n hx hb dX3_guesses_27 rfl (lv_at hl 0 rfl) ?_
      refine m_get hx hb hts in_X3 hown hK hM 13 (by decide) (hts _ q1584) (v := .int (tk_le (S 0) x0 k0)) (m_fld rfl (by rw [g6])) dX3_guesses_28 ?_
      refine lv_goto (tgt := 38) hx hb dX3_guesses_31 (by decide) ?_
      exact W.iret hx hb hr (fun t ht hW => ⟨⟨_, S_2, rfl, (by exact ⟨by (simp [tk_gu, tk_ne, ← Int32.not_lt, hr_1, c14_b_3]), by subst hr_1S; rfl⟩), by rw [ht]; exact hM.1, hM.2.1⟩, hM.2.2.F ht⟩) hM.2.2.2.2 dX3_guesses_38
    · skip
      refine lv_iload_n hx hb dX3_guesses_17 rfl (lv_at hl 3 rfl) ?_
      refine lv_iconst (v := 2) hx hb dX3_guesses_18 (by decide) ?_
      refine lv_icmp_ne (tgt := 39) hx hb dX3_guesses_19 (by decide) (fun c19_b_4 => ?_) (fun c19_b_4 => ?_)
      · skip
        refine lv_iload_n hx hb dX3_guesses_39 rfl (lv_at hl 3 rfl) ?_
        refine lv_iconst (v := 3) hx hb dX3_guesses_40 (by decide) ?_
        refine lv_icmp_ne (tgt := 56) hx hb dX3_guesses_41 (by decide) (fun c41_b_5 => ?_) (fun c41_b_5 => ?_)
        · skip
          refine lv_aload_n hx hb dX3_guesses_56 rfl (lv_at hl 0 rfl) ?_
          refine m_get hx hb hts in_X3 hown hK hM 0 (by decide) (hts _ q1571) rfl dX3_guesses_57 ?_
          refine lv_iload_n hx hb dX3_guesses_60 rfl (lv_at hl 2 rfl) ?_
          refine m_iald hx hb hK hM 0 1 rfl k0 rfl (by omega) (v := (S 0 k0)) (by rw [hr_1S, tk_alS_0 _ _ _ (by decide)]) dX3_guesses_61 (by decide) ?_
          refine lv_istore (lv' := [(4, .int (S 0 k0)), (0, .ref (ad 7)), (1, .int x0), (2, .int (nI k0)), (3, .int u0)]) hx hb dX3_guesses_62 hl (by decide) rfl (fun ls hl => ?_)
          refine lv_iload_n hx hb dX3_guesses_64 rfl (lv_at hl 2 rfl) ?_
          refine lv_iload hx hb dX3_guesses_65 (lv_at hl 0 rfl) ?_
          refine lv_idiv hx hb dX3_guesses_67 hw0 ?_
          refine lv_istore (lv' := [(5, .int (x0 / (S 0 k0))), (4, .int (S 0 k0)), (0, .ref (ad 7)), (1, .int x0), (2, .int (nI k0)), (3, .int u0)]) hx hb dX3_guesses_68 hl (by decide) rfl (fun ls hl => ?_)
          refine lv_iconst (v := 2) hx hb dX3_guesses_70 (by decide) ?_
          refine lv_iload_n hx hb dX3_guesses_71 rfl (lv_at hl 3 rfl) ?_
          refine lv_iload hx hb dX3_guesses_72 (lv_at hl 0 rfl) ?_
          refine lv_iload hx hb dX3_guesses_74 (lv_at hl 1 rfl) ?_
          refine lv_imul hx hb dX3_guesses_76 ?_
          refine lv_isub hx hb dX3_guesses_77 ?_
          refine lv_imul hx hb dX3_guesses_78 ?_
          refine lv_iload hx hb dX3_guesses_79 (lv_at hl 1 rfl) ?_
          refine lv_icmp_le (tgt := 91) hx hb dX3_guesses_81 (by decide) (fun c81_b_6 => ?_) (fun c81_b_6 => ?_)
          · skip
            have c81_b_6 := Int32.not_lt.mpr c81_b_6
            refine lv_iload hx hb dX3_guesses_91 (lv_at hl 0 rfl) ?_
            refine lv_istore (lv' := [(5, .int (x0 / (S 0 k0))), (4, .int (S 0 k0)), (0, .ref (ad 7)), (1, .int x0), (2, .int (nI k0)), (3, .int u0)]) hx hb dX3_guesses_93 hl (by decide) rfl (fun ls hl => ?_)
            refine lv_iload hx hb dX3_guesses_95 (lv_at hl 0 rfl) ?_
            refine lv_aload_n hx hb dX3_guesses_97 rfl (lv_at hl 2 rfl) ?_
            refine m_get hx hb hts in_X3 hown hK hM 13 (by decide) (hts _ q1584) (v := .int (tk_le (S 0) x0 k0)) (m_fld rfl (by rw [g6])) dX3_guesses_98 ?_
            refine lv_icmp_ge (tgt := 111) hx hb dX3_guesses_101 (by decide) (fun c101_b_7 => ?_) (fun c101_b_7 => ?_)
            · skip
              have c101_b_7 := Int32.not_lt.mpr c101_b_7
              refine lv_iload hx hb dX3_guesses_111 (lv_at hl 0 rfl) ?_
              refine lv_aload_n hx hb dX3_guesses_113 rfl (lv_at hl 2 rfl) ?_
              refine m_get hx hb hts in_X3 hown hK hM 14 (by decide) (hts _ q1585) (v := .int (tk_gr (S 0) x0 k0)) (m_fld rfl (by rw [g7])) dX3_guesses_114 ?_
              refine lv_icmp_le (tgt := 127) hx hb dX3_guesses_117 (by decide) (fun c117_b_8 => ?_) (fun c117_b_8 => ?_)
              · skip
                have c117_b_8 := Int32.not_lt.mpr c117_b_8
                refine lv_iload hx hb dX3_guesses_127 (lv_at hl 0 rfl) ?_
                exact W.iret hx hb hr (fun t ht hW => ⟨⟨_, S_2, rfl, (by exact ⟨by (simp [tk_gu, tk_ne, ← Int32.not_lt, hr_1, c14_b_3, c19_b_4, c41_b_5, c81_b_6, c101_b_7, c117_b_8]), by subst hr_1S; rfl⟩), by rw [ht]; exact hM.1, hM.2.1⟩, hM.2.2.F ht⟩) hM.2.2.2.2 dX3_guesses_129
              · skip
                have c117_b_8 := Int32.not_le.mp c117_b_8
                refine lv_aload_n hx hb dX3_guesses_120 rfl (lv_at hl 2 rfl) ?_
                refine m_get hx hb hts in_X3 hown hK hM 14 (by decide) (hts _ q1585) (v := .int (tk_gr (S 0) x0 k0)) (m_fld rfl (by rw [g7])) dX3_guesses_121 ?_
                refine lv_goto (tgt := 129) hx hb dX3_guesses_124 (by decide) ?_
                exact W.iret hx hb hr (fun t ht hW => ⟨⟨_, S_2, rfl, (by exact ⟨by (simp [tk_gu, tk_ne, ← Int32.not_lt, hr_1, c14_b_3, c19_b_4, c41_b_5, c81_b_6, c101_b_7, c117_b_8]), by subst hr_1S; rfl⟩), by rw [ht]; exact hM.1, hM.2.1⟩, hM.2.2.F ht⟩) hM.2.2.2.2 dX3_guesses_129
            · skip
              have c101_b_7 := Int32.not_le.mp c101_b_7
              refine lv_aload_n hx hb dX3_guesses_104 rfl (lv_at hl 2 rfl) ?_
              refine m_get hx hb hts in_X3 hown hK hM 13 (by decide) (hts _ q1584) (v := .int (tk_le (S 0) x0 k0)) (m_fld rfl (by rw [g6])) dX3_guesses_105 ?_
              refine lv_goto (tgt := 129) hx hb dX3_guesses_108 (by decide) ?_
              exact W.iret hx hb hr (fun t ht hW => ⟨⟨_, S_2, rfl, (by exact ⟨by (simp [tk_gu, tk_ne, ← Int32.not_lt, hr_1, c14_b_3, c19_b_4, c41_b_5, c81_b_6, c101_b_7]), by subst hr_1S; rfl⟩), by rw [ht]; exact hM.1, hM.2.1⟩, hM.2.2.F ht⟩) hM.2.2.2.2 dX3_guesses_129
          · skip
            have c81_b_6 := Int32.not_le.mp c81_b_6
            refine lv_iload hx hb dX3_guesses_84 (lv_at hl 0 rfl) ?_
            refine lv_iconst (v := 1) hx hb dX3_guesses_86 (by decide) ?_
            refine lv_iadd hx hb dX3_guesses_87 ?_
            refine lv_goto (tgt := 93) hx hb dX3_guesses_88 (by decide) ?_
            refine lv_istore (lv' := [(5, .int ((x0 / (S 0 k0)) + (1 : Int32))), (4, .int (S 0 k0)), (0, .ref (ad 7)), (1, .int x0), (2, .int (nI k0)), (3, .int u0)]) hx hb dX3_guesses_93 hl (by decide) rfl (fun ls hl => ?_)
            refine lv_iload hx hb dX3_guesses_95 (lv_at hl 0 rfl) ?_
            refine lv_aload_n hx hb dX3_guesses_97 rfl (lv_at hl 2 rfl) ?_
            refine m_get hx hb hts in_X3 hown hK hM 13 (by decide) (hts _ q1584) (v := .int (tk_le (S 0) x0 k0)) (m_fld rfl (by rw [g6])) dX3_guesses_98 ?_
            refine lv_icmp_ge (tgt := 111) hx hb dX3_guesses_101 (by decide) (fun c101_b_9 => ?_) (fun c101_b_9 => ?_)
            · skip
              have c101_b_9 := Int32.not_lt.mpr c101_b_9
              refine lv_iload hx hb dX3_guesses_111 (lv_at hl 0 rfl) ?_
              refine lv_aload_n hx hb dX3_guesses_113 rfl (lv_at hl 2 rfl) ?_
              refine m_get hx hb hts in_X3 hown hK hM 14 (by decide) (hts _ q1585) (v := .int (tk_gr (S 0) x0 k0)) (m_fld rfl (by rw [g7])) dX3_guesses_114 ?_
              refine lv_icmp_le (tgt := 127) hx hb dX3_guesses_117 (by decide) (fun c117_b_10 => ?_) (fun c117_b_10 => ?_)
              · skip
                have c117_b_10 := Int32.not_lt.mpr c117_b_10
                refine lv_iload hx hb dX3_guesses_127 (lv_at hl 0 rfl) ?_
                exact W.iret hx hb hr (fun t ht hW => ⟨⟨_, S_2, rfl, (by exact ⟨by (simp [tk_gu, tk_ne, ← Int32.not_lt, hr_1, c14_b_3, c19_b_4, c41_b_5, c81_b_6, c101_b_9, c117_b_10]), by subst hr_1S; rfl⟩), by rw [ht]; exact hM.1, hM.2.1⟩, hM.2.2.F ht⟩) hM.2.2.2.2 dX3_guesses_129
              · skip
                have c117_b_10 := Int32.not_le.mp c117_b_10
                refine lv_aload_n hx hb dX3_guesses_120 rfl (lv_at hl 2 rfl) ?_
                refine m_get hx hb hts in_X3 hown hK hM 14 (by decide) (hts _ q1585) (v := .int (tk_gr (S 0) x0 k0)) (m_fld rfl (by rw [g7])) dX3_guesses_121 ?_
                refine lv_goto (tgt := 129) hx hb dX3_guesses_124 (by decide) ?_
                exact W.iret hx hb hr (fun t ht hW => ⟨⟨_, S_2, rfl, (by exact ⟨by (simp [tk_gu, tk_ne, ← Int32.not_lt, hr_1, c14_b_3, c19_b_4, c41_b_5, c81_b_6, c101_b_9, c117_b_10]), by subst hr_1S; rfl⟩), by rw [ht]; exact hM.1, hM.2.1⟩, hM.2.2.F ht⟩) hM.2.2.2.2 dX3_guesses_129
            · skip
              have c101_b_9 := Int32.not_le.mp c101_b_9
              refine lv_aload_n hx hb dX3_guesses_104 rfl (lv_at hl 2 rfl) ?_
              refine m_get hx hb hts in_X3 hown hK hM 13 (by decide) (hts _ q1584) (v := .int (tk_le (S 0) x0 k0)) (m_fld rfl (by rw [g6])) dX3_guesses_105 ?_
              refine lv_goto (tgt := 129) hx hb dX3_guesses_108 (by decide) ?_
              exact W.iret hx hb hr (fun t ht hW => ⟨⟨_, S_2, rfl, (by exact ⟨by (simp [tk_gu, tk_ne, ← Int32.not_lt, hr_1, c14_b_3, c19_b_4, c41_b_5, c81_b_6, c101_b_9]), by subst hr_1S; rfl⟩), by rw [ht]; exact hM.1, hM.2.1⟩, hM.2.2.F ht⟩) hM.2.2.2.2 dX3_guesses_129
        · skip
          refine lv_aload_n hx hb dX3_guesses_44 rfl (lv_at hl 0 rfl) ?_
          refine m_get hx hb hts in_X3 hown hK hM 13 (by decide) (hts _ q1584) (v := .int (tk_le (S 0) x0 k0)) (m_fld rfl (by rw [g6])) dX3_guesses_45 ?_
          refine lv_aload_n hx hb dX3_guesses_48 rfl (lv_at hl 0 rfl) ?_
          refine m_get hx hb hts in_X3 hown hK hM 14 (by decide) (hts _ q1585) (v := .int (tk_gr (S 0) x0 k0)) (m_fld rfl (by rw [g7])) dX3_guesses_49 ?_
          refine lv_iadd hx hb dX3_guesses_52 ?_
          refine lv_iconst (v := 2) hx hb dX3_guesses_53 (by decide) ?_
          refine lv_idiv hx hb dX3_guesses_54 (by decide) ?_
          exact W.iret hx hb hr (fun t ht hW => ⟨⟨_, S_2, rfl, (by exact ⟨by (simp [tk_gu, tk_ne, ← Int32.not_lt, hr_1, c14_b_3, c19_b_4, c41_b_5]), by subst hr_1S; rfl⟩), by rw [ht]; exact hM.1, hM.2.1⟩, hM.2.2.F ht⟩) hM.2.2.2.2 dX3_guesses_55
      · skip
        refine lv_iload_n hx hb dX3_guesses_22 rfl (lv_at hl 3 rfl) ?_
        refine lv_iconst (v := 1) hx hb dX3_guesses_23 (by decide) ?_
        refine lv_icmp_ne (tgt := 34) hx hb dX3_guesses_24 (by decide) (fun _ => ?_) (fun c_ => (absurd c_ c14_b_3))
        refine lv_aload_n hx hb dX3_guesses_34 rfl (lv_at hl 0 rfl) ?_
        refine m_get hx hb hts in_X3 hown hK hM 14 (by decide) (hts _ q1585) (v := .int (tk_gr (S 0) x0 k0)) (m_fld rfl (by rw [g7])) dX3_guesses_35 ?_
        exact W.iret hx hb hr (fun t ht hW => ⟨⟨_, S_2, rfl, (by exact ⟨by (simp [tk_gu, tk_ne, ← Int32.not_lt, hr_1, c14_b_3, c19_b_4]), by subst hr_1S; rfl⟩), by rw [ht]; exact hM.1, hM.2.1⟩, hM.2.2.F ht⟩) hM.2.2.2.2 dX3_guesses_38
  · subst er_hr_1
    refine lv_if_ne (tgt := 12) hx hb dX3_guesses_6 (by decide) (fun c_ => absurd (by decide) c_) (fun _ => ?_)
    refine lv_ldc (v := -100009) hx hb hown (hts _ q1722) dX3_guesses_9 ?_
    exact W.iret hx hb hr (fun t ht hW => ⟨⟨_, S_2, rfl, (by exact ⟨by (simp [tk_gu, tk_ne, ← Int32.not_lt, hr_1]), by subst hr_1S; rfl⟩), by rw [ht]; exact hM.1, hM.2.1⟩, hM.2.2.F ht⟩) hM.2.2.2.2 dX3_guesses_11
