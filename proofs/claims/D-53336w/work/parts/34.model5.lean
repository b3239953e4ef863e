set_option maxHeartbeats 4000000 in
set_option maxRecDepth 100000 in
theorem met_X3_pointsOfAll (l : Launch) (D : va_G) (cA : Nat → ClassId) (ad : Nat → Nat) (S : Nat → Nat → Int32) (nc : Nat) (hnc : nc ≤ 6) (enc : S 0 14 = nI nc) : Met l yX3_pointsOfAll (ws_ yX3_pointsOfAll cX3_pointsOfAll 3 (some .int)) (rmL 2 0 0) (mPre D cA ad S []) (vp_Si (fun r => r = tk_pts (S 0))) 0 0 (fun _ => False) := by
  refine Met.ofW (cc := cX3_pointsOfAll) (maxL := 3) (ret := (some .int)) (by decide) rfl ?_
  intro p e s m args below meth c s₁ Bd hml hv
  obtain ⟨rfl, hP, hK, hD⟩ := hv
  have hx := Bd.exec
  have hb := Bd.bytes
  have hr := Bd.returns
  have hts := atoms_spec (ws := (ws_ yX3_pointsOfAll cX3_pointsOfAll 3 (some .int))) Bd.pre
  have hts : ∀ w ∈ lw_all, w.before _ s = true := fun w h => hts w (List.mem_cons_of_mem _ h)
  have hown : s.vm.findClass RX3 = some m.cls := findClass_of_methodNamed Bd.named
  have hlocks := Bd.notSynchronized
  have hM : mSt D cA ad (mA ad) s.heap s.heap [] S := ⟨hP, hD, va_S.rf⟩
  have hl := lv_entry ([.ref (ad 7)]) (n := 3) (Nat.le_of_ble_eq_true rfl)
  rw [lg_entry_eq]
  generalize (lg_sl ([.ref (ad 7)]) ++ List.replicate (3 - (lg_sl ([.ref (ad 7)])).length) Slot.unset).toArray = ls at hl ⊢
  have hl : lv_has ls 3 [(0, .ref (ad 7))] := hl
  refine lv_iconst (v := 0) hx hb dX3_pointsOfAll_0 (by decide) ?_
  refine lv_istore_n (lv' := [(1, .int (0 : Int32)), (0, .ref (ad 7))]) hx hb dX3_pointsOfAll_1 rfl hl (by decide) rfl (fun ls hl => ?_)
  refine lv_iconst (v := 0) hx hb dX3_pointsOfAll_2 (by decide) ?_
  refine lv_istore_n (lv' := [(2, .int (0 : Int32)), (1, .int (0 : Int32)), (0, .ref (ad 7))]) hx hb dX3_pointsOfAll_3 rfl hl (by decide) rfl (fun ls hl => ?_)
  have cut_4 : ∀ (N : Nat) (k : Nat) (hk : k ≤ nc) (hN : nc - k < N) , ∀ (ls : Array Slot) (hl : lv_has ls 3 [(1, .int (tk_sum (fun c => S 0 (16 + 6 * c)) k)), (2, .int (nI k)), (0, .ref (ad 7))]), W p l e (headSpec (ws_ yX3_pointsOfAll cX3_pointsOfAll 3 (some .int)) (rmL 2 0 0)).room s m ([.ref (ad 7)] : List Value).toArray below meth c s.heap [] 0 0 (MQ below (vp_Si (fun r => r = tk_pts (S 0))) ([.ref (ad 7)] : List Value).toArray s 0 0 (fun _ => False)) (F0 m 4 ls []) := by
    intro N
    induction N with
    | zero => intro k hk hN; exact absurd hN (Nat.not_lt_zero _)
    | succ N ih_4 =>
      intro k hk hN  ls hl
      refine lv_iload_n hx hb dX3_pointsOfAll_4 rfl (lv_at hl 1 rfl) ?_
      refine lv_aload_n hx hb dX3_pointsOfAll_5 rfl (lv_at hl 2 rfl) ?_
      refine m_get hx hb hts in_X3 hown hK hM 0 (by decide) (hts _ q1571) rfl dX3_pointsOfAll_6 ?_
      refine lv_bipush (v := 14) hx hb dX3_pointsOfAll_9 (by decide) ?_
      refine m_iald hx hb hK hM 0 1 rfl 14 rfl (by omega) (v := (S 0 14)) rfl dX3_pointsOfAll_11 (by decide) ?_
      refine lv_icmp_ge (tgt := 30) hx hb dX3_pointsOfAll_12 (by decide) (fun c12_b_1 => ?_) (fun c12_b_1 => ?_)
      · skip
        have c12_b_1 := Int32.not_lt.mpr c12_b_1
        have nc12_b_1 := nltF (a := k) (b := nc) rfl enc (by omega) (by omega) c12_b_1
        obtain rfl : nc = k := by omega
        refine lv_iload_n hx hb dX3_pointsOfAll_30 rfl (lv_at hl 0 rfl) ?_
        exact W.iret hx hb hr (fun t ht hW => ⟨_, rfl, (by simp [tk_pts, enc, nI_clamp (show nc < 2 ^ 31 by omega)]), ht⟩) (fun _ h => absurd h List.not_mem_nil) dX3_pointsOfAll_31
      · skip
        have c12_b_1 := Int32.not_le.mp c12_b_1
        have nc12_b_1 := nltT (a := k) (b := nc) rfl enc (by omega) (by omega) c12_b_1
        refine lv_iload_n hx hb dX3_pointsOfAll_15 rfl (lv_at hl 0 rfl) ?_
        refine lv_aload_n hx hb dX3_pointsOfAll_16 rfl (lv_at hl 2 rfl) ?_
        refine lv_iload_n hx hb dX3_pointsOfAll_17 rfl (lv_at hl 1 rfl) ?_
        refine lv_iconst (v := 0) hx hb dX3_pointsOfAll_18 (by decide) ?_
        refine vp_callSi (W.runV (As := [.int (nI k), .int (nI 0)]) (rest := [.int (tk_sum (fun c => S 0 (16 + 6 * c)) k)]) ⟨hx, hb, hml, hown, hts⟩ (met_X3_of l D cA ad S k 0 (by first | assumption | omega | decide)) (cwV 2 hts (lw_V q1686 q1688 qs32 q71 q1689) rfl rfl rfl (by decide +kernel) ⟨Nat.le_of_ble_eq_true rfl, Nat.le_of_ble_eq_true rfl⟩) (mPreV hK hM) rfl rfl hl.1 rfl (lv_room (Nat.le_of_ble_eq_true rfl)) dX3_pointsOfAll_19 ⟨Nat.le_of_ble_eq_true rfl, Nat.le_of_ble_eq_true rfl⟩) (fun r_2 hr_2 => ?_)
        subst hr_2
        rw [show S 0 (16 + 6 * k + 0) = (S 0 (16 + 6 * k)) from (show S 0 (16 + 6 * k) = (S 0 (16 + 6 * k)) from rfl)]
        refine lv_iadd hx hb dX3_pointsOfAll_22 ?_
        refine lv_istore_n (lv' := [(1, .int ((tk_sum (fun c => S 0 (16 + 6 * c)) k) + (S 0 (16 + 6 * k)))), (2, .int (nI k)), (0, .ref (ad 7))]) hx hb dX3_pointsOfAll_23 rfl hl (by decide) rfl (fun ls hl => ?_)
        refine lv_iinc (v := (nI (k + 1))) (lv' := [(2, .int (nI (k + 1))), (1, .int ((tk_sum (fun c => S 0 (16 + 6 * c)) k) + (S 0 (16 + 6 * k)))), (0, .ref (ad 7))]) hx hb dX3_pointsOfAll_24 hl (k := 1) rfl (ixA rfl rfl) (by decide) rfl (fun ls hl => ?_)
        refine lv_goto (tgt := 4) hx hb dX3_pointsOfAll_27 (by decide) ?_
        exact ih_4 (k + 1) (by omega) (by omega)  ls (lv_sub hl [1, 0, 2] rfl)
  exact cut_4 _ 0 (by omega) (Nat.lt_succ_self _)  ls (lv_sub hl [1, 0, 2] rfl)

set_option maxHeartbeats 4000000 in
set_option maxRecDepth 100000 in
theorem met_X3_setKind (l : Launch) {B : Nat} (D : va_G) (cA : Nat → ClassId) (ad : Nat → Nat) (S : Nat → Nat → Int32) (k0 : Int32) (w0 : Int32) (s0 : Int32) (n0 : Nat) (hI : tk_ok B (S 0)) (hn : n0 ≤ 5) (hns : S 7 0 = nI n0) : Met l yX3_setKind (ws_ yX3_setKind cX3_setKind 4 (some .int)) (rmL 4 0 0) (mPre D cA ad S [.int k0, .int w0, .int s0]) (va_Qi (fun (r : Int32) (S' : Nat → Nat → Int32) => r = (tk_kinds (S 0) k0 w0 s0).1 ∧ tk_top S S' n0 (tk_cp (S 0) (S 1) 284) r (tk_kinds (S 0) k0 w0 s0).2) (mEnd D cA ad) (mA ad)) 0 0 (mA ad) := by
  refine Met.ofW (cc := cX3_setKind) (maxL := 4) (ret := (some .int)) (by decide) rfl ?_
  intro p e s m args below meth c s₁ Bd hml hv
  obtain ⟨rfl, hP, hK, hD⟩ := hv
  have hx := Bd.exec
  have hb := Bd.bytes
  have hr := Bd.returns
  have hts := atoms_spec (ws := (ws_ yX3_setKind cX3_setKind 4 (some .int))) Bd.pre
  have hts : ∀ w ∈ lw_all, w.before _ s = true := fun w h => hts w (List.mem_cons_of_mem _ h)
  have hown : s.vm.findClass RX3 = some m.cls := findClass_of_methodNamed Bd.named
  have hlocks := Bd.notSynchronized
  have hM : mSt D cA ad (mA ad) s.heap s.heap [] S := ⟨hP, hD, va_S.rf⟩
  have hl := lv_entry ([.ref (ad 7), .int k0, .int w0, .int s0]) (n := 4) (Nat.le_of_ble_eq_true rfl)
  rw [lg_entry_eq]
  generalize (lg_sl ([.ref (ad 7), .int k0, .int w0, .int s0]) ++ List.replicate (4 - (lg_sl ([.ref (ad 7), .int k0, .int w0, .int s0])).length) Slot.unset).toArray = ls at hl ⊢
  have hl : lv_has ls 4 [(0, .ref (ad 7)), (1, .int k0), (2, .int w0), (3, .int s0)] := hl
  refine lv_aload_n hx hb dX3_setKind_0 rfl (lv_at hl 0 rfl) ?_
  refine va_callv (va_runV (As := []) (rest := []) ⟨hx, hb, hml, hown, hts⟩ (met_X3_keeps l D cA ad S ) (cwV 0 hts (lw_V q1622 q1624 qs24 q71 q1625) rfl rfl rfl (by decide +kernel) ⟨Nat.le_of_ble_eq_true rfl, Nat.le_of_ble_eq_true rfl⟩) (mPreV hK hM) rfl rfl hl.1 rfl (lv_room (Nat.le_of_ble_eq_true rfl)) dX3_setKind_1 ⟨Nat.le_of_ble_eq_true rfl, Nat.le_of_ble_eq_true rfl⟩) hM.2.2 (fun _ _ h => h) (fun _ h => h) (fun S_2 t H1 locs ht hvm hr_1 hB hz hk hS => ?_)
  have hM : mSt D cA ad (mA ad) s.heap H1 locs S_2 := ⟨by rw [← ht]; exact hB.1, hB.2, hS⟩
  clear hB ht; generalize H1 = H at hM ⊢; clear hz hk hS
  refine W.widen (k := 0) (n := 0) (Nat.le_refl 0) (Nat.le_refl 0) ?_
  refine lv_aload_n hx hb dX3_setKind_4 rfl (lv_at hl 0 rfl) ?_
  refine lv_aload_n hx hb dX3_setKind_5 rfl (lv_at hl 0 rfl) ?_
  refine lv_iload_n hx hb dX3_setKind_6 rfl (lv_at hl 1 rfl) ?_
  refine lv_iload_n hx hb dX3_setKind_7 rfl (lv_at hl 2 rfl) ?_
  refine lv_iload_n hx hb dX3_setKind_8 rfl (lv_at hl 3 rfl) ?_
  refine va_calli (va_runV (As := [.int k0, .int w0, .int s0]) (rest := [.ref (ad 7)]) ⟨hx, hb, hml, hown, hts⟩ (met_X3_kinds l D cA ad S_2 k0 w0 s0 (by rw [show S_2 0 = S 0 from (by rw [hr_1, su_n _ _ (by decide)])]; exact hI)) (cwV 3 hts (lw_V q1626 q1628 qs25 q71 q1629) rfl rfl rfl (by decide +kernel) ⟨Nat.le_of_ble_eq_true rfl, Nat.le_of_ble_eq_true rfl⟩) (mPreV hK hM) rfl rfl hl.1 rfl (lv_room (Nat.le_of_ble_eq_true rfl)) dX3_setKind_9 ⟨Nat.le_of_ble_eq_true rfl, Nat.le_of_ble_eq_true rfl⟩) hM.2.2 (fun _ _ h => h) (fun _ h => h) (fun r_3 S_4 t H1 locs ht hvm hr_3 hB hz hk hS => ?_)
  have hM : mSt D cA ad (mA ad) s.heap H1 locs S_4 := ⟨by rw [← ht]; exact hB.1, hB.2, hS⟩
  clear hB ht; generalize H1 = H at hM ⊢; clear hz hk hS
  refine W.widen (k := 0) (n := 0) (Nat.le_refl 0) (Nat.le_refl 0) ?_
  obtain ⟨hr_3a, hr_3b⟩ := hr_3
  rw [show S_2 0 = S 0 from (by rw [hr_1, su_n _ _ (by decide)])] at hr_3a
  refine va_calli (va_runV (As := [.int r_3]) (rest := []) ⟨hx, hb, hml, hown, hts⟩ (met_X3_acted l D cA ad S_4 n0 r_3 (by first | assumption | omega | decide) (Eq.trans (by rw [hr_3b.2.2.2.2.2.2.2 _ (by decide), hr_1, su_n _ _ (by decide)]) hns)) (cwV 1 hts (lw_V q1637 q1639 qs26 q71 q1640) rfl rfl rfl (by decide +kernel) ⟨Nat.le_of_ble_eq_true rfl, Nat.le_of_ble_eq_true rfl⟩) (mPreV hK hM) rfl rfl hl.1 rfl (lv_room (Nat.le_of_ble_eq_true rfl)) dX3_setKind_12 ⟨Nat.le_of_ble_eq_true rfl, Nat.le_of_ble_eq_true rfl⟩) hM.2.2 (fun _ _ h => h) (fun _ h => h) (fun r_5 S_6 t H1 locs ht hvm hr_5 hB hz hk hS => ?_)
  have hM : mSt D cA ad (mA ad) s.heap H1 locs S_6 := ⟨by rw [← ht]; exact hB.1, hB.2, hS⟩
  clear hB ht; generalize H1 = H at hM ⊢; clear hz hk hS
  refine W.widen (k := 0) (n := 0) (Nat.le_refl 0) (Nat.le_refl 0) ?_
  obtain ⟨hr_5a, hr_5b⟩ := hr_5
  exact W.iret hx hb hr (fun t ht hW => ⟨⟨_, S_6, rfl, (by subst hr_5a; subst hr_3a; subst hr_1; exact ⟨rfl, tk_topI rfl hr_3b hr_5b⟩), by rw [ht]; exact hM.1, hM.2.1⟩, hM.2.2.F ht⟩) hM.2.2.2.2 dX3_setKind_15

set_option maxHeartbeats 4000000 in
set_option maxRecDepth 100000 in
theorem met_X3_setScale (l : Launch) {B : Nat} (D : va_G) (cA : Nat → ClassId) (ad : Nat → Nat) (S : Nat → Nat → Int32) (s0 : Int32) (l0 : Int32) (n0 : Nat) (hI : tk_ok B (S 0)) (hn : n0 ≤ 5) (hns : S 7 0 = nI n0) : Met l yX3_setScale (ws_ yX3_setScale cX3_setScale 3 (some .int)) (rmL 3 0 0) (mPre D cA ad S [.int s0, .int l0]) (va_Qi (fun (r : Int32) (S' : Nat → Nat → Int32) => r = (tk_scales (S 0) s0 l0).1 ∧ tk_top S S' n0 (tk_cp (S 0) (S 1) 284) r (tk_scales (S 0) s0 l0).2) (mEnd D cA ad) (mA ad)) 0 0 (mA ad) := by
  refine Met.ofW (cc := cX3_setScale) (maxL := 3) (ret := (some .int)) (by decide) rfl ?_
  intro p e s m args below meth c s₁ Bd hml hv
  obtain ⟨rfl, hP, hK, hD⟩ := hv
  have hx := Bd.exec
  have hb := Bd.bytes
  have hr := Bd.returns
  have hts := atoms_spec (ws := (ws_ yX3_setScale cX3_setScale 3 (some .int))) Bd.pre
  have hts : ∀ w ∈ lw_all, w.before _ s = true := fun w h => hts w (List.mem_cons_of_mem _ h)
  have hown : s.vm.findClass RX3 = some m.cls := findClass_of_methodNamed Bd.named
  have hlocks := Bd.notSynchronized
  have hM : mSt D cA ad (mA ad) s.heap s.heap [] S := ⟨hP, hD, va_S.rf⟩
  have hl := lv_entry ([.ref (ad 7), .int s0, .int l0]) (n := 3) (Nat.le_of_ble_eq_true rfl)
  rw [lg_entry_eq]
  generalize (lg_sl ([.ref (ad 7), .int s0, .int l0]) ++ List.replicate (3 - (lg_sl ([.ref (ad 7), .int s0, .int l0])).length) Slot.unset).toArray = ls at hl ⊢
  have hl : lv_has ls 3 [(0, .ref (ad 7)), (1, .int s0), (2, .int l0)] := hl
  refine lv_aload_n hx hb dX3_setScale_0 rfl (lv_at hl 0 rfl) ?_
  refine va_callv (va_runV (As := []) (rest := []) ⟨hx, hb, hml, hown, hts⟩ (met_X3_keeps l D cA ad S ) (cwV 0 hts (lw_V q1622 q1624 qs24 q71 q1625) rfl rfl rfl (by decide +kernel) ⟨Nat.le_of_ble_eq_true rfl, Nat.le_of_ble_eq_true rfl⟩) (mPreV hK hM) rfl rfl hl.1 rfl (lv_room (Nat.le_of_ble_eq_true rfl)) dX3_setScale_1 ⟨Nat.le_of_ble_eq_true rfl, Nat.le_of_ble_eq_true rfl⟩) hM.2.2 (fun _ _ h => h) (fun _ h => h) (fun S_2 t H1 locs ht hvm hr_1 hB hz hk hS => ?_)
  have hM : mSt D cA ad (mA ad) s.heap H1 locs S_2 := ⟨by rw [← ht]; exact hB.1, hB.2, hS⟩
  clear hB ht; generalize H1 = H at hM ⊢; clear hz hk hS
  refine W.widen (k := 0) (n := 0) (Nat.le_refl 0) (Nat.le_refl 0) ?_
  refine lv_aload_n hx hb dX3_setScale_4 rfl (lv_at hl 0 rfl) ?_
  refine lv_aload_n hx hb dX3_setScale_5 rfl (lv_at hl 0 rfl) ?_
  refine lv_iload_n hx hb dX3_setScale_6 rfl (lv_at hl 1 rfl) ?_
  refine lv_iload_n hx hb dX3_setScale_7 rfl (lv_at hl 2 rfl) ?_
  refine va_calli (va_runV (As := [.int s0, .int l0]) (rest := [.ref (ad 7)]) ⟨hx, hb, hml, hown, hts⟩ (met_X3_scales l D cA ad S_2 s0 l0 (by rw [show S_2 0 = S 0 from (by rw [hr_1, su_n _ _ (by decide)])]; exact hI)) (cwV 2 hts (lw_V q1649 q1651 qs28 q71 q1652) rfl rfl rfl (by decide +kernel) ⟨Nat.le_of_ble_eq_true rfl, Nat.le_of_ble_eq_true rfl⟩) (mPreV hK hM) rfl rfl hl.1 rfl (lv_room (Nat.le_of_ble_eq_true rfl)) dX3_setScale_8 ⟨Nat.le_of_ble_eq_true rfl, Nat.le_of_ble_eq_true rfl⟩) hM.2.2 (fun _ _ h => h) (fun _ h => h) (fun r_3 S_4 t H1 locs ht hvm hr_3 hB hz hk hS => ?_)
  have hM : mSt D cA ad (mA ad) s.heap H1 locs S_4 := ⟨by rw [← ht]; exact hB.1, hB.2, hS⟩
  clear hB ht; generalize H1 = H at hM ⊢; clear hz hk hS
  refine W.widen (k := 0) (n := 0) (Nat.le_refl 0) (Nat.le_refl 0) ?_
  obtain ⟨hr_3a, hr_3b⟩ := hr_3
  rw [show S_2 0 = S 0 from (by rw [hr_1, su_n _ _ (by decide)])] at hr_3a
  refine va_calli (va_runV (As := [.int r_3]) (rest := []) ⟨hx, hb, hml, hown, hts⟩ (met_X3_acted l D cA ad S_4 n0 r_3 (by first | assumption | omega | decide) (Eq.trans (by rw [hr_3b.2.2.2.2.2.2.2 _ (by decide), hr_1, su_n _ _ (by decide)]) hns)) (cwV 1 hts (lw_V q1637 q1639 qs26 q71 q1640) rfl rfl rfl (by decide +kernel) ⟨Nat.le_of_ble_eq_true rfl, Nat.le_of_ble_eq_true rfl⟩) (mPreV hK hM) rfl rfl hl.1 rfl (lv_room (Nat.le_of_ble_eq_true rfl)) dX3_setScale_11 ⟨Nat.le_of_ble_eq_true rfl, Nat.le_of_ble_eq_true rfl⟩) hM.2.2 (fun _ _ h => h) (fun _ h => h) (fun r_5 S_6 t H1 locs ht hvm hr_5 hB hz hk hS => ?_)
  have hM : mSt D cA ad (mA ad) s.heap H1 locs S_6 := ⟨by rw [← ht]; exact hB.1, hB.2, hS⟩
  clear hB ht; generalize H1 = H at hM ⊢; clear hz hk hS
  refine W.widen (k := 0) (n := 0) (Nat.le_refl 0) (Nat.le_refl 0) ?_
  obtain ⟨hr_5a, hr_5b⟩ := hr_5
  exact W.iret hx hb hr (fun t ht hW => ⟨⟨_, S_6, rfl, (by subst hr_5a; subst hr_3a; subst hr_1; exact ⟨rfl, tk_topI rfl hr_3b hr_5b⟩), by rw [ht]; exact hM.1, hM.2.1⟩, hM.2.2.F ht⟩) hM.2.2.2.2 dX3_setScale_14

set_option maxHeartbeats 4000000 in
set_option maxRecDepth 100000 in
theorem met_X3_setBias (l : Launch) {B : Nat} (D : va_G) (cA : Nat → ClassId) (ad : Nat → Nat) (S : Nat → Nat → Int32) (b0 : Int32) (n0 : Nat) (hI : tk_ok B (S 0)) (hn : n0 ≤ 5) (hns : S 7 0 = nI n0) : Met l yX3_setBias (ws_ yX3_setBias cX3_setBias 2 (some .int)) (rmL 3 0 0) (mPre D cA ad S [.int b0]) (va_Qi (fun (r : Int32) (S' : Nat → Nat → Int32) => r = (tk_sets (S 0) 10 b0 (-(S 0 9)) (S 0 9)).1 ∧ tk_top S S' n0 (tk_cp (S 0) (S 1) 284) r (tk_sets (S 0) 10 b0 (-(S 0 9)) (S 0 9)).2) (mEnd D cA ad) (mA ad)) 0 0 (mA ad) := by
  refine Met.ofW (cc := cX3_setBias) (maxL := 2) (ret := (some .int)) (by decide) rfl ?_
  intro p e s m args below meth c s₁ Bd hml hv
  obtain ⟨rfl, hP, hK, hD⟩ := hv
  have hx := Bd.exec
  have hb := Bd.bytes
  have hr := Bd.returns
  have hts := atoms_spec (ws := (ws_ yX3_setBias cX3_setBias 2 (some .int))) Bd.pre
  have hts : ∀ w ∈ lw_all, w.before _ s = true := fun w h => hts w (List.mem_cons_of_mem _ h)
  have hown : s.vm.findClass RX3 = some m.cls := findClass_of_methodNamed Bd.named
  have hlocks := Bd.notSynchronized
  have hM : mSt D cA ad (mA ad) s.heap s.heap [] S := ⟨hP, hD, va_S.rf⟩
  have hl := lv_entry ([.ref (ad 7), .int b0]) (n := 2) (Nat.le_of_ble_eq_true rfl)
  rw [lg_entry_eq]
  generalize (lg_sl ([.ref (ad 7), .int b0]) ++ List.replicate (2 - (lg_sl ([.ref (ad 7), .int b0])).length) Slot.unset).toArray = ls at hl ⊢
  have hl : lv_has ls 2 [(0, .ref (ad 7)), (1, .int b0)] := hl
  refine lv_aload_n hx hb dX3_setBias_0 rfl (lv_at hl 0 rfl) ?_
  refine va_callv (va_runV (As := []) (rest := []) ⟨hx, hb, hml, hown, hts⟩ (met_X3_keeps l D cA ad S ) (cwV 0 hts (lw_V q1622 q1624 qs24 q71 q1625) rfl rfl rfl (by decide +kernel) ⟨Nat.le_of_ble_eq_true rfl, Nat.le_of_ble_eq_true rfl⟩) (mPreV hK hM) rfl rfl hl.1 rfl (lv_room (Nat.le_of_ble_eq_true rfl)) dX3_setBias_1 ⟨Nat.le_of_ble_eq_true rfl, Nat.le_of_ble_eq_true rfl⟩) hM.2.2 (fun _ _ h => h) (fun _ h => h) (fun S_2 t H1 locs ht hvm hr_1 hB hz hk hS => ?_)
  have hM : mSt D cA ad (mA ad) s.heap H1 locs S_2 := ⟨by rw [← ht]; exact hB.1, hB.2, hS⟩
  clear hB ht; generalize H1 = H at hM ⊢; clear hz hk hS
  refine W.widen (k := 0) (n := 0) (Nat.le_refl 0) (Nat.le_refl 0) ?_
  refine lv_aload_n hx hb dX3_setBias_4 rfl (lv_at hl 0 rfl) ?_
  refine lv_aload_n hx hb dX3_setBias_5 rfl (lv_at hl 0 rfl) ?_
  refine lv_bipush (v := 10) hx hb dX3_setBias_6 (by decide) ?_
  refine lv_iload_n hx hb dX3_setBias_8 rfl (lv_at hl 1 rfl) ?_
  refine lv_aload_n hx hb dX3_setBias_9 rfl (lv_at hl 0 rfl) ?_
  refine m_get hx hb hts in_X3 hown hK hM 0 (by decide) (hts _ q1571) rfl dX3_setBias_10 ?_
  refine lv_bipush (v := 9) hx hb dX3_setBias_13 (by decide) ?_
  refine m_iald hx hb hK hM 0 1 rfl 9 rfl (by omega) (v := (S 0 9)) (by rw [hr_1, su_n _ _ (by decide)]) dX3_setBias_15 (by decide) ?_
  refine lv_ineg hx hb dX3_setBias_16 ?_
  refine lv_aload_n hx hb dX3_setBias_17 rfl (lv_at hl 0 rfl) ?_
  refine m_get hx hb hts in_X3 hown hK hM 0 (by decide) (hts _ q1571) rfl dX3_setBias_18 ?_
  refine lv_bipush (v := 9) hx hb dX3_setBias_21 (by decide) ?_
  refine m_iald hx hb hK hM 0 1 rfl 9 rfl (by omega) (v := (S 0 9)) (by rw [hr_1, su_n _ _ (by decide)]) dX3_setBias_23 (by decide) ?_
  refine va_calli (va_runV (As := [.int (nI 10), .int b0, .int (-(S 0 9)), .int (S 0 9)]) (rest := [.ref (ad 7)]) ⟨hx, hb, hml, hown, hts⟩ (met_X3_sets l D cA ad S_2 10 b0 (-(S 0 9)) (S 0 9) (by rw [show S_2 0 = S 0 from (by rw [hr_1, su_n _ _ (by decide)])]; exact hI) (by first | assumption | omega | decide)) (cwV 4 hts (lw_V q1657 q1659 qs29 q71 q1660) rfl rfl rfl (by decide +kernel) ⟨Nat.le_of_ble_eq_true rfl, Nat.le_of_ble_eq_true rfl⟩) (mPreV hK hM) rfl rfl hl.1 rfl (lv_room (Nat.le_of_ble_eq_true rfl)) dX3_setBias_24 ⟨Nat.le_of_ble_eq_true rfl, Nat.le_of_ble_eq_true rfl⟩) hM.2.2 (fun _ _ h => h) (fun _ h => h) (fun r_3 S_4 t H1 locs ht hvm hr_3 hB hz hk hS => ?_)
  have hM : mSt D cA ad (mA ad) s.heap H1 locs S_4 := ⟨by rw [← ht]; exact hB.1, hB.2, hS⟩
  clear hB ht; generalize H1 = H at hM ⊢; clear hz hk hS
  refine W.widen (k := 0) (n := 0) (Nat.le_refl 0) (Nat.le_refl 0) ?_
  obtain ⟨hr_3a, hr_3b⟩ := hr_3
  rw [show S_2 0 = S 0 from (by rw [hr_1, su_n _ _ (by decide)])] at hr_3a
  refine va_calli (va_runV (As := [.int r_3]) (rest := []) ⟨hx, hb, hml, hown, hts⟩ (met_X3_acted l D cA ad S_4 n0 r_3 (by first | assumption | omega | decide) (Eq.trans (by rw [hr_3b.2.2.2.2.2.2.2 _ (by decide), hr_1, su_n _ _ (by decide)]) hns)) (cwV 1 hts (lw_V q1637 q1639 qs26 q71 q1640) rfl rfl rfl (by decide +kernel) ⟨Nat.le_of_ble_eq_true rfl, Nat.le_of_ble_eq_true rfl⟩) (mPreV hK hM) rfl rfl hl.1 rfl (lv_room (Nat.le_of_ble_eq_true rfl)) dX3_setBias_27 ⟨Nat.le_of_ble_eq_true rfl, Nat.le_of_ble_eq_true rfl⟩) hM.2.2 (fun _ _ h => h) (fun _ h => h) (fun r_5 S_6 t H1 locs ht hvm hr_5 hB hz hk hS => ?_)
  have hM : mSt D cA ad (mA ad) s.heap H1 locs S_6 := ⟨by rw [← ht]; exact hB.1, hB.2, hS⟩
  clear hB ht; generalize H1 = H at hM ⊢; clear hz hk hS
  refine W.widen (k := 0) (n := 0) (Nat.le_refl 0) (Nat.le_refl 0) ?_
  obtain ⟨hr_5a, hr_5b⟩ := hr_5
  exact W.iret hx hb hr (fun t ht hW => ⟨⟨_, S_6, rfl, (by subst hr_5a; subst hr_3a; subst hr_1; exact ⟨rfl, tk_topI rfl hr_3b hr_5b⟩), by rw [ht]; exact hM.1, hM.2.1⟩, hM.2.2.F ht⟩) hM.2.2.2.2 dX3_setBias_30

set_option maxHeartbeats 4000000 in
set_option maxRecDepth 100000 in
theorem met_X3_setRule (l : Launch) {B : Nat} (D : va_G) (cA : Nat → ClassId) (ad : Nat → Nat) (S : Nat → Nat → Int32) (b0 : Int32) (n0 : Nat) (hI : tk_ok B (S 0)) (hn : n0 ≤ 5) (hns : S 7 0 = nI n0) : Met l yX3_setRule (ws_ yX3_setRule cX3_setRule 2 (some .int)) (rmL 3 0 0) (mPre D cA ad S [.int b0]) (va_Qi (fun (r : Int32) (S' : Nat → Nat → Int32) => r = (tk_sets (S 0) 11 b0 0 3).1 ∧ tk_top S S' n0 (tk_cp (S 0) (S 1) 284) r (tk_sets (S 0) 11 b0 0 3).2) (mEnd D cA ad) (mA ad)) 0 0 (mA ad) := by
  refine Met.ofW (cc := cX3_setRule) (maxL := 2) (ret := (some .int)) (by decide) rfl ?_
  intro p e s m args below meth c s₁ Bd hml hv
  obtain ⟨rfl, hP, hK, hD⟩ := hv
  have hx := Bd.exec
  have hb := Bd.bytes
  have hr := Bd.returns
  have hts := atoms_spec (ws := (ws_ yX3_setRule cX3_setRule 2 (some .int))) Bd.pre
  have hts : ∀ w ∈ lw_all, w.before _ s = true := fun w h => hts w (List.mem_cons_of_mem _ h)
  have hown : s.vm.findClass RX3 = some m.cls := findClass_of_methodNamed Bd.named
  have hlocks := Bd.notSynchronized
  have hM : mSt D cA ad (mA ad) s.heap s.heap [] S := ⟨hP, hD, va_S.rf⟩
  have hl := lv_entry ([.ref (ad 7), .int b0]) (n := 2) (Nat.le_of_ble_eq_true rfl)
  rw [lg_entry_eq]
  generalize (lg_sl ([.ref (ad 7), .int b0]) ++ List.replicate (2 - (lg_sl ([.ref (ad 7), .int b0])).length) Slot.unset).toArray = ls at hl ⊢
  have hl : lv_has ls 2 [(0, .ref (ad 7)), (1, .int b0)] := hl
  refine lv_aload_n hx hb dX3_setRule_0 rfl (lv_at hl 0 rfl) ?_
  refine va_callv (va_runV (As := []) (rest := []) ⟨hx, hb, hml, hown, hts⟩ (met_X3_keeps l D cA ad S ) (cwV 0 hts (lw_V q1622 q1624 qs24 q71 q1625) rfl rfl rfl (by decide +kernel) ⟨Nat.le_of_ble_eq_true rfl, Nat.le_of_ble_eq_true rfl⟩) (mPreV hK hM) rfl rfl hl.1 rfl (lv_room (Nat.le_of_ble_eq_true rfl)) dX3_setRule_1 ⟨Nat.le_of_ble_eq_true rfl, Nat.le_of_ble_eq_true rfl⟩) hM.2.2 (fun _ _ h => h) (fun _ h => h) (fun S_2 t H1 locs ht hvm hr_1 hB hz hk hS => ?_)
  have hM : mSt D cA ad (mA ad) s.heap H1 locs S_2 := ⟨by rw [← ht]; exact hB.1, hB.2, hS⟩
  clear hB ht; generalize H1 = H at hM ⊢; clear hz hk hS
  refine W.widen (k := 0) (n := 0) (Nat.le_refl 0) (Nat.le_refl 0) ?_
  refine lv_aload_n hx hb dX3_setRule_4 rfl (lv_at hl 0 rfl) ?_
  refine lv_aload_n hx hb dX3_setRule_5 rfl (lv_at hl 0 rfl) ?_
  refine lv_bipush (v := 11) hx hb dX3_setRule_6 (by decide) ?_
  refine lv_iload_n hx hb dX3_setRule_8 rfl (lv_at hl 1 rfl) ?_
  refine lv_iconst (v := 0) hx hb dX3_setRule_9 (by decide) ?_
  refine lv_iconst (v := 3) hx hb dX3_setRule_10 (by decide) ?_
  refine va_calli (va_runV (As := [.int (nI 11), .int b0, .int (0 : Int32), .int (3 : Int32)]) (rest := [.ref (ad 7)]) ⟨hx, hb, hml, hown, hts⟩ (met_X3_sets l D cA ad S_2 11 b0 (0 : Int32) (3 : Int32) (by rw [show S_2 0 = S 0 from (by rw [hr_1, su_n _ _ (by decide)])]; exact hI) (by first | assumption | omega | decide)) (cwV 4 hts (lw_V q1657 q1659 qs29 q71 q1660) rfl rfl rfl (by decide +kernel) ⟨Nat.le_of_ble_eq_true rfl, Nat.le_of_ble_eq_true rfl⟩) (mPreV hK hM) rfl rfl hl.1 rfl (lv_room (Nat.le_of_ble_eq_true rfl)) dX3_setRule_11 ⟨Nat.le_of_ble_eq_true rfl, Nat.le_of_ble_eq_true rfl⟩) hM.2.2 (fun _ _ h => h) (fun _ h => h) (fun r_3 S_4 t H1 locs ht hvm hr_3 hB hz hk hS => ?_)
  have hM : mSt D cA ad (mA ad) s.heap H1 locs S_4 := ⟨by rw [← ht]; exact hB.1, hB.2, hS⟩
  clear hB ht; generalize H1 = H at hM ⊢; clear hz hk hS
  refine W.widen (k := 0) (n := 0) (Nat.le_refl 0) (Nat.le_refl 0) ?_
  obtain ⟨hr_3a, hr_3b⟩ := hr_3
  rw [show S_2 0 = S 0 from (by rw [hr_1, su_n _ _ (by decide)])] at hr_3a
  refine va_calli (va_runV (As := [.int r_3]) (rest := []) ⟨hx, hb, hml, hown, hts⟩ (met_X3_acted l D cA ad S_4 n0 r_3 (by first | assumption | omega | decide) (Eq.trans (by rw [hr_3b.2.2.2.2.2.2.2 _ (by decide), hr_1, su_n _ _ (by decide)]) hns)) (cwV 1 hts (lw_V q1637 q1639 qs26 q71 q1640) rfl rfl rfl (by decide +kernel) ⟨Nat.le_of_ble_eq_true rfl, Nat.le_of_ble_eq_true rfl⟩) (mPreV hK hM) rfl rfl hl.1 rfl (lv_room (Nat.le_of_ble_eq_true rfl)) dX3_setRule_14 ⟨Nat.le_of_ble_eq_true rfl, Nat.le_of_ble_eq_true rfl⟩) hM.2.2 (fun _ _ h => h) (fun _ h => h) (fun r_5 S_6 t H1 locs ht hvm hr_5 hB hz hk hS => ?_)
  have hM : mSt D cA ad (mA ad) s.heap H1 locs S_6 := ⟨by rw [← ht]; exact hB.1, hB.2, hS⟩
  clear hB ht; generalize H1 = H at hM ⊢; clear hz hk hS
  refine W.widen (k := 0) (n := 0) (Nat.le_refl 0) (Nat.le_refl 0) ?_
  obtain ⟨hr_5a, hr_5b⟩ := hr_5
  exact W.iret hx hb hr (fun t ht hW => ⟨⟨_, S_6, rfl, (by subst hr_5a; subst hr_3a; subst hr_1; exact ⟨rfl, tk_topI rfl hr_3b hr_5b⟩), by rw [ht]; exact hM.1, hM.2.1⟩, hM.2.2.F ht⟩) hM.2.2.2.2 dX3_setRule_17

set_option maxHeartbeats 4000000 in
set_option maxRecDepth 100000 in
theorem met_X3_setFee (l : Launch) {B : Nat} (D : va_G) (cA : Nat → ClassId) (ad : Nat → Nat) (S : Nat → Nat → Int32) (b0 : Int32) (n0 : Nat) (hI : tk_ok B (S 0)) (hn : n0 ≤ 5) (hns : S 7 0 = nI n0) : Met l yX3_setFee (ws_ yX3_setFee cX3_setFee 2 (some .int)) (rmL 3 0 0) (mPre D cA ad S [.int b0]) (va_Qi (fun (r : Int32) (S' : Nat → Nat → Int32) => r = (tk_sets (S 0) 12 b0 0 100).1 ∧ tk_top S S' n0 (tk_cp (S 0) (S 1) 284) r (tk_sets (S 0) 12 b0 0 100).2) (mEnd D cA ad) (mA ad)) 0 0 (mA ad) := by
  refine Met.ofW (cc := cX3_setFee) (maxL := 2) (ret := (some .int)) (by decide) rfl ?_
  intro p e s m args below meth c s₁ Bd hml hv
  obtain ⟨rfl, hP, hK, hD⟩ := hv
  have hx := Bd.exec
  have hb := Bd.bytes
  have hr := Bd.returns
  have hts := atoms_spec (ws := (ws_ yX3_setFee cX3_setFee 2 (some .int))) Bd.pre
  have hts : ∀ w ∈ lw_all, w.before _ s = true := fun w h => hts w (List.mem_cons_of_mem _ h)
  have hown : s.vm.findClass RX3 = some m.cls := findClass_of_methodNamed Bd.named
  have hlocks := Bd.notSynchronized
  have hM : mSt D cA ad (mA ad) s.heap s.heap [] S := ⟨hP, hD, va_S.rf⟩
  have hl := lv_entry ([.ref (ad 7), .int b0]) (n := 2) (Nat.le_of_ble_eq_true rfl)
  rw [lg_entry_eq]
  generalize (lg_sl ([.ref (ad 7), .int b0]) ++ List.replicate (2 - (lg_sl ([.ref (ad 7), .int b0])).length) Slot.unset).toArray = ls at hl ⊢
  have hl : lv_has ls 2 [(0, .ref (ad 7)), (1, .int b0)] := hl
  refine lv_aload_n hx hb dX3_setFee_0 rfl (lv_at hl 0 rfl) ?_
  refine va_callv (va_runV (As := []) (rest := []) ⟨hx, hb, hml, hown, hts⟩ (met_X3_keeps l D cA ad S ) (cwV 0 hts (lw_V q1622 q1624 qs24 q71 q1625) rfl rfl rfl (by decide +kernel) ⟨Nat.le_of_ble_eq_true rfl, Nat.le_of_ble_eq_true rfl⟩) (mPreV hK hM) rfl rfl hl.1 rfl (lv_room (Nat.le_of_ble_eq_true rfl)) dX3_setFee_1 ⟨Nat.le_of_ble_eq_true rfl, Nat.le_of_ble_eq_true rfl⟩) hM.2.2 (fun _ _ h => h) (fun _ h => h) (fun S_2 t H1 locs ht hvm hr_1 hB hz hk hS => ?_)
  have hM : mSt D cA ad (mA ad) s.heap H1 locs S_2 := ⟨by rw [← ht]; exact hB.1, hB.2, hS⟩
  clear hB ht; generalize H1 = H at hM ⊢; clear hz hk hS
  refine W.widen (k := 0) (n := 0) (Nat.le_refl 0) (Nat.le_refl 0) ?_
  refine lv_aload_n hx hb dX3_setFee_4 rfl (lv_at hl 0 rfl) ?_
  refine lv_aload_n hx hb dX3_setFee_5 rfl (lv_at hl 0 rfl) ?_
  refine lv_bipush (v := 12) hx hb dX3_setFee_6 (by decide) ?_
  refine lv_iload_n hx hb dX3_setFee_8 rfl (lv_at hl 1 rfl) ?_
  refine lv_iconst (v := 0) hx hb dX3_setFee_9 (by decide) ?_
  refine lv_bipush (v := 100) hx hb dX3_setFee_10 (by decide) ?_
  refine va_calli (va_runV (As := [.int (nI 12), .int b0, .int (0 : Int32), .int (100 : Int32)]) (rest := [.ref (ad 7)]) ⟨hx, hb, hml, hown, hts⟩ (met_X3_sets l D cA ad S_2 12 b0 (0 : Int32) (100 : Int32) (by rw [show S_2 0 = S 0 from (by rw [hr_1, su_n _ _ (by decide)])]; exact hI) (by first | assumption | omega | decide)) (cwV 4 hts (lw_V q1657 q1659 qs29 q71 q1660) rfl rfl rfl (by decide +kernel) ⟨Nat.le_of_ble_eq_true rfl, Nat.le_of_ble_eq_true rfl⟩) (mPreV hK hM) rfl rfl hl.1 rfl (lv_room (Nat.le_of_ble_eq_true rfl)) dX3_setFee_12 ⟨Nat.le_of_ble_eq_true rfl, Nat.le_of_ble_eq_true rfl⟩) hM.2.2 (fun _ _ h => h) (fun _ h => h) (fun r_3 S_4 t H1 locs ht hvm hr_3 hB hz hk hS => ?_)
  have hM : mSt D cA ad (mA ad) s.heap H1 locs S_4 := ⟨by rw [← ht]; exact hB.1, hB.2, hS⟩
  clear hB ht; generalize H1 = H at hM ⊢; clear hz hk hS
  refine W.widen (k := 0) (n := 0) (Nat.le_refl 0) (Nat.le_refl 0) ?_
  obtain ⟨hr_3a, hr_3b⟩ := hr_3
  rw [show S_2 0 = S 0 from (by rw [hr_1, su_n _ _ (by decide)])] at hr_3a
  refine va_calli (va_runV (As := [.int r_3]) (rest := []) ⟨hx, hb, hml, hown, hts⟩ (met_X3_acted l D cA ad S_4 n0 r_3 (by first | assumption | omega | decide) (Eq.trans (by rw [hr_3b.2.2.2.2.2.2.2 _ (by decide), hr_1, su_n _ _ (by decide)]) hns)) (cwV 1 hts (lw_V q1637 q1639 qs26 q71 q1640) rfl rfl rfl (by decide +kernel) ⟨Nat.le_of_ble_eq_true rfl, Nat.le_of_ble_eq_true rfl⟩) (mPreV hK hM) rfl rfl hl.1 rfl (lv_room (Nat.le_of_ble_eq_true rfl)) dX3_setFee_15 ⟨Nat.le_of_ble_eq_true rfl, Nat.le_of_ble_eq_true rfl⟩) hM.2.2 (fun _ _ h => h) (fun _ h => h) (fun r_5 S_6 t H1 locs ht hvm hr_5 hB hz hk hS => ?_)
  have hM : mSt D cA ad (mA ad) s.heap H1 locs S_6 := ⟨by rw [← ht]; exact hB.1, hB.2, hS⟩
  clear hB ht; generalize H1 = H at hM ⊢; clear hz hk hS
  refine W.widen (k := 0) (n := 0) (Nat.le_refl 0) (Nat.le_refl 0) ?_
  obtain ⟨hr_5a, hr_5b⟩ := hr_5
  exact W.iret hx hb hr (fun t ht hW => ⟨⟨_, S_6, rfl, (by subst hr_5a; subst hr_3a; subst hr_1; exact ⟨rfl, tk_topI rfl hr_3b hr_5b⟩), by rw [ht]; exact hM.1, hM.2.1⟩, hM.2.2.F ht⟩) hM.2.2.2.2 dX3_setFee_18

set_option maxHeartbeats 4000000 in
set_option maxRecDepth 100000 in
theorem met_X3_come (l : Launch) {B : Nat} (D : va_G) (cA : Nat → ClassId) (ad : Nat → Nat) (S : Nat → Nat → Int32) (p0 : Int32) (n0 : Nat) (hI : tk_ok B (S 0)) (hn : n0 ≤ 5) (hns : S 7 0 = nI n0) : Met l yX3_come (ws_ yX3_come cX3_come 2 (some .int)) (rmL 3 0 0) (mPre D cA ad S [.int p0]) (va_Qi (fun (r : Int32) (S' : Nat → Nat → Int32) => r = (tk_comes (S 0) p0).1 ∧ tk_top S S' n0 (tk_cp (S 0) (S 1) 284) r (tk_comes (S 0) p0).2) (mEnd D cA ad) (mA ad)) 0 0 (mA ad) := by
  refine Met.ofW (cc := cX3_come) (maxL := 2) (ret := (some .int)) (by decide) rfl ?_
  intro p e s m args below meth c s₁ Bd hml hv
  obtain ⟨rfl, hP, hK, hD⟩ := hv
  have hx := Bd.exec
  have hb := Bd.bytes
  have hr := Bd.returns
  have hts := atoms_spec (ws := (ws_ yX3_come cX3_come 2 (some .int))) Bd.pre
  have hts : ∀ w ∈ lw_all, w.before _ s = true := fun w h => hts w (List.mem_cons_of_mem _ h)
  have hown : s.vm.findClass RX3 = some m.cls := findClass_of_methodNamed Bd.named
  have hlocks := Bd.notSynchronized
  have hM : mSt D cA ad (mA ad) s.heap s.heap [] S := ⟨hP, hD, va_S.rf⟩
  have hl := lv_entry ([.ref (ad 7), .int p0]) (n := 2) (Nat.le_of_ble_eq_true rfl)
  rw [lg_entry_eq]
  generalize (lg_sl ([.ref (ad 7), .int p0]) ++ List.replicate (2 - (lg_sl ([.ref (ad 7), .int p0])).length) Slot.unset).toArray = ls at hl ⊢
  have hl : lv_has ls 2 [(0, .ref (ad 7)), (1, .int p0)] := hl
  refine lv_aload_n hx hb dX3_come_0 rfl (lv_at hl 0 rfl) ?_
  refine va_callv (va_runV (As := []) (rest := []) ⟨hx, hb, hml, hown, hts⟩ (met_X3_keeps l D cA ad S ) (cwV 0 hts (lw_V q1622 q1624 qs24 q71 q1625) rfl rfl rfl (by decide +kernel) ⟨Nat.le_of_ble_eq_true rfl, Nat.le_of_ble_eq_true rfl⟩) (mPreV hK hM) rfl rfl hl.1 rfl (lv_room (Nat.le_of_ble_eq_true rfl)) dX3_come_1 ⟨Nat.le_of_ble_eq_true rfl, Nat.le_of_ble_eq_true rfl⟩) hM.2.2 (fun _ _ h => h) (fun _ h => h) (fun S_2 t H1 locs ht hvm hr_1 hB hz hk hS => ?_)
  have hM : mSt D cA ad (mA ad) s.heap H1 locs S_2 := ⟨by rw [← ht]; exact hB.1, hB.2, hS⟩
  clear hB ht; generalize H1 = H at hM ⊢; clear hz hk hS
  refine W.widen (k := 0) (n := 0) (Nat.le_refl 0) (Nat.le_refl 0) ?_
  refine lv_aload_n hx hb dX3_come_4 rfl (lv_at hl 0 rfl) ?_
  refine lv_aload_n hx hb dX3_come_5 rfl (lv_at hl 0 rfl) ?_
  refine lv_iload_n hx hb dX3_come_6 rfl (lv_at hl 1 rfl) ?_
  refine va_calli (va_runV (As := [.int p0]) (rest := [.ref (ad 7)]) ⟨hx, hb, hml, hown, hts⟩ (met_X3_comes l D cA ad S_2 p0 (by rw [show S_2 0 = S 0 from (by rw [hr_1, su_n _ _ (by decide)])]; exact hI)) (cwV 1 hts (lw_V q1673 q1675 qs30 q71 q1676) rfl rfl rfl (by decide +kernel) ⟨Nat.le_of_ble_eq_true rfl, Nat.le_of_ble_eq_true rfl⟩) (mPreV hK hM) rfl rfl hl.1 rfl (lv_room (Nat.le_of_ble_eq_true rfl)) dX3_come_7 ⟨Nat.le_of_ble_eq_true rfl, Nat.le_of_ble_eq_true rfl⟩) hM.2.2 (fun _ _ h => h) (fun _ h => h) (fun r_3 S_4 t H1 locs ht hvm hr_3 hB hz hk hS => ?_)
  have hM : mSt D cA ad (mA ad) s.heap H1 locs S_4 := ⟨by rw [← ht]; exact hB.1, hB.2, hS⟩
  clear hB ht; generalize H1 = H at hM ⊢; clear hz hk hS
  refine W.widen (k := 0) (n := 0) (Nat.le_refl 0) (Nat.le_refl 0) ?_
  obtain ⟨hr_3a, hr_3b⟩ := hr_3
  rw [show S_2 0 = S 0 from (by rw [hr_1, su_n _ _ (by decide)])] at hr_3a
  refine va_calli (va_runV (As := [.int r_3]) (rest := []) ⟨hx, hb, hml, hown, hts⟩ (met_X3_acted l D cA ad S_4 n0 r_3 (by first | assumption | omega | decide) (Eq.trans (by rw [hr_3b.2.2.2.2.2.2.2 _ (by decide), hr_1, su_n _ _ (by decide)]) hns)) (cwV 1 hts (lw_V q1637 q1639 qs26 q71 q1640) rfl rfl rfl (by decide +kernel) ⟨Nat.le_of_ble_eq_true rfl, Nat.le_of_ble_eq_true rfl⟩) (mPreV hK hM) rfl rfl hl.1 rfl (lv_room (Nat.le_of_ble_eq_true rfl)) dX3_come_10 ⟨Nat.le_of_ble_eq_true rfl, Nat.le_of_ble_eq_true rfl⟩) hM.2.2 (fun _ _ h => h) (fun _ h => h) (fun r_5 S_6 t H1 locs ht hvm hr_5 hB hz hk hS => ?_)
  have hM : mSt D cA ad (mA ad) s.heap H1 locs S_6 := ⟨by rw [← ht]; exact hB.1, hB.2, hS⟩
  clear hB ht; generalize H1 = H at hM ⊢; clear hz hk hS
  refine W.widen (k := 0) (n := 0) (Nat.le_refl 0) (Nat.le_refl 0) ?_
  obtain ⟨hr_5a, hr_5b⟩ := hr_5
  exact W.iret hx hb hr (fun t ht hW => ⟨⟨_, S_6, rfl, (by subst hr_5a; subst hr_3a; subst hr_1; exact ⟨rfl, tk_topI rfl hr_3b hr_5b⟩), by rw [ht]; exact hM.1, hM.2.1⟩, hM.2.2.F ht⟩) hM.2.2.2.2 dX3_come_13

set_option maxHeartbeats 4000000 in
set_option maxRecDepth 100000 in
theorem met_X3_weigh (l : Launch) {B : Nat} (D : va_G) (cA : Nat → ClassId) (ad : Nat → Nat) (S : Nat → Nat → Int32) (c0 : Int32) (k0 : Int32) (n1 : Int32) (v0 : Int32) (n0 : Nat) (hI : tk_ok B (S 0)) (hn : n0 ≤ 5) (hns : S 7 0 = nI n0) : Met l yX3_weigh (ws_ yX3_weigh cX3_weigh 5 (some .int)) (rmL 6 0 0) (mPre D cA ad S [.int c0, .int k0, .int n1, .int v0]) (va_Qi (fun (r : Int32) (S' : Nat → Nat → Int32) => r = (tk_weighs (S 0) c0 k0 n1 v0).1 ∧ tk_top S S' n0 (tk_cp (S 0) (S 1) 284) r (tk_weighs (S 0) c0 k0 n1 v0).2) (mEnd D cA ad) (mA ad)) 0 0 (mA ad) := by
  refine Met.ofW (cc := cX3_weigh) (maxL := 5) (ret := (some .int)) (by decide) rfl ?_
  intro p e s m args below meth c s₁ Bd hml hv
  obtain ⟨rfl, hP, hK, hD⟩ := hv
  have hx := Bd.exec
  have hb := Bd.bytes
  have hr := Bd.returns
  have hts := atoms_spec (ws := (ws_ yX3_weigh cX3_weigh 5 (some .int))) Bd.pre
  have hts : ∀ w ∈ lw_all, w.before _ s = true := fun w h => hts w (List.mem_cons_of_mem _ h)
  have hown : s.vm.findClass RX3 = some m.cls := findClass_of_methodNamed Bd.named
  have hlocks := Bd.notSynchronized
  have hM : mSt D cA ad (mA ad) s.heap s.heap [] S := ⟨hP, hD, va_S.rf⟩
  have hl := lv_entry ([.ref (ad 7), .int c0, .int k0, .int n1, .int v0]) (n := 5) (Nat.le_of_ble_eq_true rfl)
  rw [lg_entry_eq]
  generalize (lg_sl ([.ref (ad 7), .int c0, .int k0, .int n1, .int v0]) ++ List.replicate (5 - (lg_sl ([.ref (ad 7), .int c0, .int k0, .int n1, .int v0])).length) Slot.unset).toArray = ls at hl ⊢
  have hl : lv_has ls 5 [(0, .ref (ad 7)), (1, .int c0), (2, .int k0), (3, .int n1), (4, .int v0)] := hl
  refine lv_aload_n hx hb dX3_weigh_0 rfl (lv_at hl 0 rfl) ?_
  refine va_callv (va_runV (As := []) (rest := []) ⟨hx, hb, hml, hown, hts⟩ (met_X3_keeps l D cA ad S ) (cwV 0 hts (lw_V q1622 q1624 qs24 q71 q1625) rfl rfl rfl (by decide +kernel) ⟨Nat.le_of_ble_eq_true rfl, Nat.le_of_ble_eq_true rfl⟩) (mPreV hK hM) rfl rfl hl.1 rfl (lv_room (Nat.le_of_ble_eq_true rfl)) dX3_weigh_1 ⟨Nat.le_of_ble_eq_true rfl, Nat.le_of_ble_eq_true rfl⟩) hM.2.2 (fun _ _ h => h) (fun _ h => h) (fun S_2 t H1 locs ht hvm hr_1 hB hz hk hS => ?_)
  have hM : mSt D cA ad (mA ad) s.heap H1 locs S_2 := ⟨by rw [← ht]; exact hB.1, hB.2, hS⟩
  clear hB ht; generalize H1 = H at hM ⊢; clear hz hk hS
  refine W.widen (k := 0) (n := 0) (Nat.le_refl 0) (Nat.le_refl 0) ?_
  refine lv_aload_n hx hb dX3_weigh_4 rfl (lv_at hl 0 rfl) ?_
  refine lv_aload_n hx hb dX3_weigh_5 rfl (lv_at hl 0 rfl) ?_
  refine lv_iload_n hx hb dX3_weigh_6 rfl (lv_at hl 1 rfl) ?_
  refine lv_iload_n hx hb dX3_weigh_7 rfl (lv_at hl 2 rfl) ?_
  refine lv_iload_n hx hb dX3_weigh_8 rfl (lv_at hl 3 rfl) ?_
  refine lv_iload hx hb dX3_weigh_9 (lv_at hl 4 rfl) ?_
  refine va_calli (va_runV (As := [.int c0, .int k0, .int n1, .int v0]) (rest := [.ref (ad 7)]) ⟨hx, hb, hml, hown, hts⟩ (met_X3_weighs l D cA ad S_2 c0 k0 n1 v0 (by rw [show S_2 0 = S 0 from (by rw [hr_1, su_n _ _ (by decide)])]; exact hI)) (cwV 4 hts (lw_V q1694 q1696 qs33 q71 q1697) rfl rfl rfl (by decide +kernel) ⟨Nat.le_of_ble_eq_true rfl, Nat.le_of_ble_eq_true rfl⟩) (mPreV hK hM) rfl rfl hl.1 rfl (lv_room (Nat.le_of_ble_eq_true rfl)) dX3_weigh_11 ⟨Nat.le_of_ble_eq_true rfl, Nat.le_of_ble_eq_true rfl⟩) hM.2.2 (fun _ _ h => h) (fun _ h => h) (fun r_3 S_4 t H1 locs ht hvm hr_3 hB hz hk hS => ?_)
  have hM : mSt D cA ad (mA ad) s.heap H1 locs S_4 := ⟨by rw [← ht]; exact hB.1, hB.2, hS⟩
  clear hB ht; generalize H1 = H at hM ⊢; clear hz hk hS
  refine W.widen (k := 0) (n := 0) (Nat.le_refl 0) (Nat.le_refl 0) ?_
  obtain ⟨hr_3a, hr_3b⟩ := hr_3
  rw [show S_2 0 = S 0 from (by rw [hr_1, su_n _ _ (by decide)])] at hr_3a
  refine va_calli (va_runV (As := [.int r_3]) (rest := []) ⟨hx, hb, hml, hown, hts⟩ (met_X3_acted l D cA ad S_4 n0 r_3 (by first | assumption | omega | decide) (Eq.trans (by rw [hr_3b.2.2.2.2.2.2.2 _ (by decide), hr_1, su_n _ _ (by decide)]) hns)) (cwV 1 hts (lw_V q1637 q1639 qs26 q71 q1640) rfl rfl rfl (by decide +kernel) ⟨Nat.le_of_ble_eq_true rfl, Nat.le_of_ble_eq_true rfl⟩) (mPreV hK hM) rfl rfl hl.1 rfl (lv_room (Nat.le_of_ble_eq_true rfl)) dX3_weigh_14 ⟨Nat.le_of_ble_eq_true rfl, Nat.le_of_ble_eq_true rfl⟩) hM.2.2 (fun _ _ h => h) (fun _ h => h) (fun r_5 S_6 t H1 locs ht hvm hr_5 hB hz hk hS => ?_)
  have hM : mSt D cA ad (mA ad) s.heap H1 locs S_6 := ⟨by rw [← ht]; exact hB.1, hB.2, hS⟩
  clear hB ht; generalize H1 = H at hM ⊢; clear hz hk hS
  refine W.widen (k := 0) (n := 0) (Nat.le_refl 0) (Nat.le_refl 0) ?_
  obtain ⟨hr_5a, hr_5b⟩ := hr_5
  exact W.iret hx hb hr (fun t ht hW => ⟨⟨_, S_6, rfl, (by subst hr_5a; subst hr_3a; subst hr_1; exact ⟨rfl, tk_topI rfl hr_3b hr_5b⟩), by rw [ht]; exact hM.1, hM.2.1⟩, hM.2.2.F ht⟩) hM.2.2.2.2 dX3_weigh_17

set_option maxHeartbeats 4000000 in
set_option maxRecDepth 100000 in
theorem met_X3_claim (l : Launch) {B : Nat} (D : va_G) (cA : Nat → ClassId) (ad : Nat → Nat) (S : Nat → Nat → Int32) (c0 : Int32) (n1 : Int32) (n0 : Nat) (hI : tk_ok B (S 0)) (hn : n0 ≤ 5) (hns : S 7 0 = nI n0) : Met l yX3_claim (ws_ yX3_claim cX3_claim 3 (some .int)) (rmL 5 0 0) (mPre D cA ad S [.int c0, .int n1]) (va_Qi (fun (r : Int32) (S' : Nat → Nat → Int32) => r = (tk_claims (S 0) c0 n1).1 ∧ tk_top S S' n0 (tk_cp (S 0) (S 1) 284) r (tk_claims (S 0) c0 n1).2) (mEnd D cA ad) (mA ad)) 0 0 (mA ad) := by
  refine Met.ofW (cc := cX3_claim) (maxL := 3) (ret := (some .int)) (by decide) rfl ?_
  intro p e s m args below meth c s₁ Bd hml hv
  obtain ⟨rfl, hP, hK, hD⟩ := hv
  have hx := Bd.exec
  have hb := Bd.bytes
  have hr := Bd.returns
  have hts := atoms_spec (ws := (ws_ yX3_claim cX3_claim 3 (some .int))) Bd.pre
  have hts : ∀ w ∈ lw_all, w.before _ s = true := fun w h => hts w (List.mem_cons_of_mem _ h)
  have hown : s.vm.findClass RX3 = some m.cls := findClass_of_methodNamed Bd.named
  have hlocks := Bd.notSynchronized
  have hM : mSt D cA ad (mA ad) s.heap s.heap [] S := ⟨hP, hD, va_S.rf⟩
  have hl := lv_entry ([.ref (ad 7), .int c0, .int n1]) (n := 3) (Nat.le_of_ble_eq_true rfl)
  rw [lg_entry_eq]
  generalize (lg_sl ([.ref (ad 7), .int c0, .int n1]) ++ List.replicate (3 - (lg_sl ([.ref (ad 7), .int c0, .int n1])).length) Slot.unset).toArray = ls at hl ⊢
  have hl : lv_has ls 3 [(0, .ref (ad 7)), (1, .int c0), (2, .int n1)] := hl
  refine lv_aload_n hx hb dX3_claim_0 rfl (lv_at hl 0 rfl) ?_
  refine va_callv (va_runV (As := []) (rest := []) ⟨hx, hb, hml, hown, hts⟩ (met_X3_keeps l D cA ad S ) (cwV 0 hts (lw_V q1622 q1624 qs24 q71 q1625) rfl rfl rfl (by decide +kernel) ⟨Nat.le_of_ble_eq_true rfl, Nat.le_of_ble_eq_true rfl⟩) (mPreV hK hM) rfl rfl hl.1 rfl (lv_room (Nat.le_of_ble_eq_true rfl)) dX3_claim_1 ⟨Nat.le_of_ble_eq_true rfl, Nat.le_of_ble_eq_true rfl⟩) hM.2.2 (fun _ _ h => h) (fun _ h => h) (fun S_2 t H1 locs ht hvm hr_1 hB hz hk hS => ?_)
  have hM : mSt D cA ad (mA ad) s.heap H1 locs S_2 := ⟨by rw [← ht]; exact hB.1, hB.2, hS⟩
  clear hB ht; generalize H1 = H at hM ⊢; clear hz hk hS
  refine W.widen (k := 0) (n := 0) (Nat.le_refl 0) (Nat.le_refl 0) ?_
  refine lv_aload_n hx hb dX3_claim_4 rfl (lv_at hl 0 rfl) ?_
  refine lv_aload_n hx hb dX3_claim_5 rfl (lv_at hl 0 rfl) ?_
  refine lv_iload_n hx hb dX3_claim_6 rfl (lv_at hl 1 rfl) ?_
  refine lv_iload_n hx hb dX3_claim_7 rfl (lv_at hl 2 rfl) ?_
  refine va_calli (va_runV (As := [.int c0, .int n1]) (rest := [.ref (ad 7)]) ⟨hx, hb, hml, hown, hts⟩ (met_X3_claims l D cA ad S_2 c0 n1 (by rw [show S_2 0 = S 0 from (by rw [hr_1, su_n _ _ (by decide)])]; exact hI)) (cwV 2 hts (lw_V q1727 q1729 qs39 q71 q1730) rfl rfl rfl (by decide +kernel) ⟨Nat.le_of_ble_eq_true rfl, Nat.le_of_ble_eq_true rfl⟩) (mPreV hK hM) rfl rfl hl.1 rfl (lv_room (Nat.le_of_ble_eq_true rfl)) dX3_claim_8 ⟨Nat.le_of_ble_eq_true rfl, Nat.le_of_ble_eq_true rfl⟩) hM.2.2 (fun _ _ h => h) (fun _ h => h) (fun r_3 S_4 t H1 locs ht hvm hr_3 hB hz hk hS => ?_)
  have hM : mSt D cA ad (mA ad) s.heap H1 locs S_4 := ⟨by rw [← ht]; exact hB.1, hB.2, hS⟩
  clear hB ht; generalize H1 = H at hM ⊢; clear hz hk hS
  refine W.widen (k := 0) (n := 0) (Nat.le_refl 0) (Nat.le_refl 0) ?_
  obtain ⟨hr_3a, hr_3b⟩ := hr_3
  rw [show S_2 0 = S 0 from (by rw [hr_1, su_n _ _ (by decide)])] at hr_3a
  refine va_calli (va_runV (As := [.int r_3]) (rest := []) ⟨hx, hb, hml, hown, hts⟩ (met_X3_acted l D cA ad S_4 n0 r_3 (by first | assumption | omega | decide) (Eq.trans (by rw [hr_3b.2.2.2.2.2.2.2 _ (by decide), hr_1, su_n _ _ (by decide)]) hns)) (cwV 1 hts (lw_V q1637 q1639 qs26 q71 q1640) rfl rfl rfl (by decide +kernel) ⟨Nat.le_of_ble_eq_true rfl, Nat.le_of_ble_eq_true rfl⟩) (mPreV hK hM) rfl rfl hl.1 rfl (lv_room (Nat.le_of_ble_eq_true rfl)) dX3_claim_11 ⟨Nat.le_of_ble_eq_true rfl, Nat.le_of_ble_eq_true rfl⟩) hM.2.2 (fun _ _ h => h) (fun _ h => h) (fun r_5 S_6 t H1 locs ht hvm hr_5 hB hz hk hS => ?_)
  have hM : mSt D cA ad (mA ad) s.heap H1 locs S_6 := ⟨by rw [← ht]; exact hB.1, hB.2, hS⟩
  clear hB ht; generalize H1 = H at hM ⊢; clear hz hk hS
  refine W.widen (k := 0) (n := 0) (Nat.le_refl 0) (Nat.le_refl 0) ?_
  obtain ⟨hr_5a, hr_5b⟩ := hr_5
  exact W.iret hx hb hr (fun t ht hW => ⟨⟨_, S_6, rfl, (by subst hr_5a; subst hr_3a; subst hr_1; exact ⟨rfl, tk_topI rfl hr_3b hr_5b⟩), by rw [ht]; exact hM.1, hM.2.1⟩, hM.2.2.F ht⟩) hM.2.2.2.2 dX3_claim_14

set_option maxHeartbeats 4000000 in
set_option maxRecDepth 100000 in
theorem met_X3_addPrize (l : Launch) {B : Nat} (D : va_G) (cA : Nat → ClassId) (ad : Nat → Nat) (S : Nat → Nat → Int32) (p0 : Int32) (w0 : Int32) (s0 : Int32) (m0 : Int32) (b0 : Int32) (n0 : Nat) (hI : tk_ok B (S 0)) (hn : n0 ≤ 5) (hns : S 7 0 = nI n0) : Met l yX3_addPrize (ws_ yX3_addPrize cX3_addPrize 6 (some .int)) (rmL 3 0 0) (mPre D cA ad S [.int p0, .int w0, .int s0, .int m0, .int b0]) (va_Qi (fun (r : Int32) (S' : Nat → Nat → Int32) => r = (tk_adds (S 0) p0 w0 s0 m0 b0).1 ∧ tk_top S S' n0 (tk_cp (S 0) (S 1) 284) r (tk_adds (S 0) p0 w0 s0 m0 b0).2) (mEnd D cA ad) (mA ad)) 0 0 (mA ad) := by
  refine Met.ofW (cc := cX3_addPrize) (maxL := 6) (ret := (some .int)) (by decide) rfl ?_
  intro p e s m args below meth c s₁ Bd hml hv
  obtain ⟨rfl, hP, hK, hD⟩ := hv
  have hx := Bd.exec
  have hb := Bd.bytes
  have hr := Bd.returns
  have hts := atoms_spec (ws := (ws_ yX3_addPrize cX3_addPrize 6 (some .int))) Bd.pre
  have hts : ∀ w ∈ lw_all, w.before _ s = true := fun w h => hts w (List.mem_cons_of_mem _ h)
  have hown : s.vm.findClass RX3 = some m.cls := findClass_of_methodNamed Bd.named
  have hlocks := Bd.notSynchronized
  have hM : mSt D cA ad (mA ad) s.heap s.heap [] S := ⟨hP, hD, va_S.rf⟩
  have hl := lv_entry ([.ref (ad 7), .int p0, .int w0, .int s0, .int m0, .int b0]) (n := 6) (Nat.le_of_ble_eq_true rfl)
  rw [lg_entry_eq]
  generalize (lg_sl ([.ref (ad 7), .int p0, .int w0, .int s0, .int m0, .int b0]) ++ List.replicate (6 - (lg_sl ([.ref (ad 7), .int p0, .int w0, .int s0, .int m0, .int b0])).length) Slot.unset).toArray = ls at hl ⊢
  have hl : lv_has ls 6 [(0, .ref (ad 7)), (1, .int p0), (2, .int w0), (3, .int s0), (4, .int m0), (5, .int b0)] := hl
  refine lv_aload_n hx hb dX3_addPrize_0 rfl (lv_at hl 0 rfl) ?_
  refine va_callv (va_runV (As := []) (rest := []) ⟨hx, hb, hml, hown, hts⟩ (met_X3_keeps l D cA ad S ) (cwV 0 hts (lw_V q1622 q1624 qs24 q71 q1625) rfl rfl rfl (by decide +kernel) ⟨Nat.le_of_ble_eq_true rfl, Nat.le_of_ble_eq_true rfl⟩) (mPreV hK hM) rfl rfl hl.1 rfl (lv_room (Nat.le_of_ble_eq_true rfl)) dX3_addPrize_1 ⟨Nat.le_of_ble_eq_true rfl, Nat.le_of_ble_eq_true rfl⟩) hM.2.2 (fun _ _ h => h) (fun _ h => h) (fun S_2 t H1 locs ht hvm hr_1 hB hz hk hS => ?_)
  have hM : mSt D cA ad (mA ad) s.heap H1 locs S_2 := ⟨by rw [← ht]; exact hB.1, hB.2, hS⟩
  clear hB ht; generalize H1 = H at hM ⊢; clear hz hk hS
  refine W.widen (k := 0) (n := 0) (Nat.le_refl 0) (Nat.le_refl 0) ?_
  refine lv_aload_n hx hb dX3_addPrize_4 rfl (lv_at hl 0 rfl) ?_
  refine lv_aload_n hx hb dX3_addPrize_5 rfl (lv_at hl 0 rfl) ?_
  refine lv_iload_n hx hb dX3_addPrize_6 rfl (lv_at hl 1 rfl) ?_
  refine lv_iload_n hx hb dX3_addPrize_7 rfl (lv_at hl 2 rfl) ?_
  refine lv_iload_n hx hb dX3_addPrize_8 rfl (lv_at hl 3 rfl) ?_
  refine lv_iload hx hb dX3_addPrize_9 (lv_at hl 4 rfl) ?_
  refine lv_iload hx hb dX3_addPrize_11 (lv_at hl 5 rfl) ?_
  refine va_calli (va_runV (As := [.int p0, .int w0, .int s0, .int m0, .int b0]) (rest := [.ref (ad 7)]) ⟨hx, hb, hml, hown, hts⟩ (met_X3_adds l D cA ad S_2 p0 w0 s0 m0 b0 (by rw [show S_2 0 = S 0 from (by rw [hr_1, su_n _ _ (by decide)])]; exact hI)) (cwV 5 hts (lw_V q1739 q1741 qs40 q71 q1742) rfl rfl rfl (by decide +kernel) ⟨Nat.le_of_ble_eq_true rfl, Nat.le_of_ble_eq_true rfl⟩) (mPreV hK hM) rfl rfl hl.1 rfl (lv_room (Nat.le_of_ble_eq_true rfl)) dX3_addPrize_13 ⟨Nat.le_of_ble_eq_true rfl, Nat.le_of_ble_eq_true rfl⟩) hM.2.2 (fun _ _ h => h) (fun _ h => h) (fun r_3 S_4 t H1 locs ht hvm hr_3 hB hz hk hS => ?_)
  have hM : mSt D cA ad (mA ad) s.heap H1 locs S_4 := ⟨by rw [← ht]; exact hB.1, hB.2, hS⟩
  clear hB ht; generalize H1 = H at hM ⊢; clear hz hk hS
  refine W.widen (k := 0) (n := 0) (Nat.le_refl 0) (Nat.le_refl 0) ?_
  obtain ⟨hr_3a, hr_3b⟩ := hr_3
  rw [show S_2 0 = S 0 from (by rw [hr_1, su_n _ _ (by decide)])] at hr_3a
  refine va_calli (va_runV (As := [.int r_3]) (rest := []) ⟨hx, hb, hml, hown, hts⟩ (met_X3_acted l D cA ad S_4 n0 r_3 (by first | assumption | omega | decide) (Eq.trans (by rw [hr_3b.2.2.2.2.2.2.2 _ (by decide), hr_1, su_n _ _ (by decide)]) hns)) (cwV 1 hts (lw_V q1637 q1639 qs26 q71 q1640) rfl rfl rfl (by decide +kernel) ⟨Nat.le_of_ble_eq_true rfl, Nat.le_of_ble_eq_true rfl⟩) (mPreV hK hM) rfl rfl hl.1 rfl (lv_room (Nat.le_of_ble_eq_true rfl)) dX3_addPrize_16 ⟨Nat.le_of_ble_eq_true rfl, Nat.le_of_ble_eq_true rfl⟩) hM.2.2 (fun _ _ h => h) (fun _ h => h) (fun r_5 S_6 t H1 locs ht hvm hr_5 hB hz hk hS => ?_)
  have hM : mSt D cA ad (mA ad) s.heap H1 locs S_6 := ⟨by rw [← ht]; exact hB.1, hB.2, hS⟩
  clear hB ht; generalize H1 = H at hM ⊢; clear hz hk hS
  refine W.widen (k := 0) (n := 0) (Nat.le_refl 0) (Nat.le_refl 0) ?_
  obtain ⟨hr_5a, hr_5b⟩ := hr_5
  exact W.iret hx hb hr (fun t ht hW => ⟨⟨_, S_6, rfl, (by subst hr_5a; subst hr_3a; subst hr_1; exact ⟨rfl, tk_topI rfl hr_3b hr_5b⟩), by rw [ht]; exact hM.1, hM.2.1⟩, hM.2.2.F ht⟩) hM.2.2.2.2 dX3_addPrize_19

set_option maxHeartbeats 4000000 in
set_option maxRecDepth 100000 in
theorem met_X3_buy (l : Launch) {B : Nat} (D : va_G) (cA : Nat → ClassId) (ad : Nat → Nat) (S : Nat → Nat → Int32) (c0 : Int32) (p0 : Int32) (n1 : Int32) (n0 : Nat) (hI : tk_ok B (S 0)) (hn : n0 ≤ 5) (hns : S 7 0 = nI n0) : Met l yX3_buy (ws_ yX3_buy cX3_buy 4 (some .int)) (rmL 4 0 0) (mPre D cA ad S [.int c0, .int p0, .int n1]) (va_Qi (fun (r : Int32) (S' : Nat → Nat → Int32) => r = (tk_buys (S 0) c0 p0 n1).1 ∧ tk_top S S' n0 (tk_cp (S 0) (S 1) 284) r (tk_buys (S 0) c0 p0 n1).2) (mEnd D cA ad) (mA ad)) 0 0 (mA ad) := by
  refine Met.ofW (cc := cX3_buy) (maxL := 4) (ret := (some .int)) (by decide) rfl ?_
  intro p e s m args below meth c s₁ Bd hml hv
  obtain ⟨rfl, hP, hK, hD⟩ := hv
  have hx := Bd.exec
  have hb := Bd.bytes
  have hr := Bd.returns
  have hts := atoms_spec (ws := (ws_ yX3_buy cX3_buy 4 (some .int))) Bd.pre
  have hts : ∀ w ∈ lw_all, w.before _ s = true := fun w h => hts w (List.mem_cons_of_mem _ h)
  have hown : s.vm.findClass RX3 = some m.cls := findClass_of_methodNamed Bd.named
  have hlocks := Bd.notSynchronized
  have hM : mSt D cA ad (mA ad) s.heap s.heap [] S := ⟨hP, hD, va_S.rf⟩
  have hl := lv_entry ([.ref (ad 7), .int c0, .int p0, .int n1]) (n := 4) (Nat.le_of_ble_eq_true rfl)
  rw [lg_entry_eq]
  generalize (lg_sl ([.ref (ad 7), .int c0, .int p0, .int n1]) ++ List.replicate (4 - (lg_sl ([.ref (ad 7), .int c0, .int p0, .int n1])).length) Slot.unset).toArray = ls at hl ⊢
  have hl : lv_has ls 4 [(0, .ref (ad 7)), (1, .int c0), (2, .int p0), (3, .int n1)] := hl
  refine lv_aload_n hx hb dX3_buy_0 rfl (lv_at hl 0 rfl) ?_
  refine va_callv (va_runV (As := []) (rest := []) ⟨hx, hb, hml, hown, hts⟩ (met_X3_keeps l D cA ad S ) (cwV 0 hts (lw_V q1622 q1624 qs24 q71 q1625) rfl rfl rfl (by decide +kernel) ⟨Nat.le_of_ble_eq_true rfl, Nat.le_of_ble_eq_true rfl⟩) (mPreV hK hM) rfl rfl hl.1 rfl (lv_room (Nat.le_of_ble_eq_true rfl)) dX3_buy_1 ⟨Nat.le_of_ble_eq_true rfl, Nat.le_of_ble_eq_true rfl⟩) hM.2.2 (fun _ _ h => h) (fun _ h => h) (fun S_2 t H1 locs ht hvm hr_1 hB hz hk hS => ?_)
  have hM : mSt D cA ad (mA ad) s.heap H1 locs S_2 := ⟨by rw [← ht]; exact hB.1, hB.2, hS⟩
  clear hB ht; generalize H1 = H at hM ⊢; clear hz hk hS
  refine W.widen (k := 0) (n := 0) (Nat.le_refl 0) (Nat.le_refl 0) ?_
  refine lv_aload_n hx hb dX3_buy_4 rfl (lv_at hl 0 rfl) ?_
  refine lv_aload_n hx hb dX3_buy_5 rfl (lv_at hl 0 rfl) ?_
  refine lv_iload_n hx hb dX3_buy_6 rfl (lv_at hl 1 rfl) ?_
  refine lv_iload_n hx hb dX3_buy_7 rfl (lv_at hl 2 rfl) ?_
  refine lv_iload_n hx hb dX3_buy_8 rfl (lv_at hl 3 rfl) ?_
  refine va_calli (va_runV (As := [.int c0, .int p0, .int n1]) (rest := [.ref (ad 7)]) ⟨hx, hb, hml, hown, hts⟩ (met_X3_buys l D cA ad S_2 c0 p0 n1 (by rw [show S_2 0 = S 0 from (by rw [hr_1, su_n _ _ (by decide)])]; exact hI)) (cwV 3 hts (lw_V q1764 q1766 qs43 q71 q1767) rfl rfl rfl (by decide +kernel) ⟨Nat.le_of_ble_eq_true rfl, Nat.le_of_ble_eq_true rfl⟩) (mPreV hK hM) rfl rfl hl.1 rfl (lv_room (Nat.le_of_ble_eq_true rfl)) dX3_buy_9 ⟨Nat.le_of_ble_eq_true rfl, Nat.le_of_ble_eq_true rfl⟩) hM.2.2 (fun _ _ h => h) (fun _ h => h) (fun r_3 S_4 t H1 locs ht hvm hr_3 hB hz hk hS => ?_)
  have hM : mSt D cA ad (mA ad) s.heap H1 locs S_4 := ⟨by rw [← ht]; exact hB.1, hB.2, hS⟩
  clear hB ht; generalize H1 = H at hM ⊢; clear hz hk hS
  refine W.widen (k := 0) (n := 0) (Nat.le_refl 0) (Nat.le_refl 0) ?_
  obtain ⟨hr_3a, hr_3b⟩ := hr_3
  rw [show S_2 0 = S 0 from (by rw [hr_1, su_n _ _ (by decide)])] at hr_3a
  refine va_calli (va_runV (As := [.int r_3]) (rest := []) ⟨hx, hb, hml, hown, hts⟩ (met_X3_acted l D cA ad S_4 n0 r_3 (by first | assumption | omega | decide) (Eq.trans (by rw [hr_3b.2.2.2.2.2.2.2 _ (by decide), hr_1, su_n _ _ (by decide)]) hns)) (cwV 1 hts (lw_V q1637 q1639 qs26 q71 q1640) rfl rfl rfl (by decide +kernel) ⟨Nat.le_of_ble_eq_true rfl, Nat.le_of_ble_eq_true rfl⟩) (mPreV hK hM) rfl rfl hl.1 rfl (lv_room (Nat.le_of_ble_eq_true rfl)) dX3_buy_12 ⟨Nat.le_of_ble_eq_true rfl, Nat.le_of_ble_eq_true rfl⟩) hM.2.2 (fun _ _ h => h) (fun _ h => h) (fun r_5 S_6 t H1 locs ht hvm hr_5 hB hz hk hS => ?_)
  have hM : mSt D cA ad (mA ad) s.heap H1 locs S_6 := ⟨by rw [← ht]; exact hB.1, hB.2, hS⟩
  clear hB ht; generalize H1 = H at hM ⊢; clear hz hk hS
  refine W.widen (k := 0) (n := 0) (Nat.le_refl 0) (Nat.le_refl 0) ?_
  obtain ⟨hr_5a, hr_5b⟩ := hr_5
  exact W.iret hx hb hr (fun t ht hW => ⟨⟨_, S_6, rfl, (by subst hr_5a; subst hr_3a; subst hr_1; exact ⟨rfl, tk_topI rfl hr_3b hr_5b⟩), by rw [ht]; exact hM.1, hM.2.1⟩, hM.2.2.F ht⟩) hM.2.2.2.2 dX3_buy_15

set_option maxHeartbeats 4000000 in
set_option maxRecDepth 100000 in
theorem met_X3_setPrice (l : Launch) {B : Nat} (D : va_G) (cA : Nat → ClassId) (ad : Nat → Nat) (S : Nat → Nat → Int32) (p0 : Int32) (v0 : Int32) (n0 : Nat) (hI : tk_ok B (S 0)) (hn : n0 ≤ 5) (hns : S 7 0 = nI n0) : Met l yX3_setPrice (ws_ yX3_setPrice cX3_setPrice 3 (some .int)) (rmL 3 0 0) (mPre D cA ad S [.int p0, .int v0]) (va_Qi (fun (r : Int32) (S' : Nat → Nat → Int32) => r = (tk_price (S 0) p0 v0).1 ∧ tk_top S S' n0 (tk_cp (S 0) (S 1) 284) r (tk_price (S 0) p0 v0).2) (mEnd D cA ad) (mA ad)) 0 0 (mA ad) := by
  refine Met.ofW (cc := cX3_setPrice) (maxL := 3) (ret := (some .int)) (by decide) rfl ?_
  intro p e s m args below meth c s₁ Bd hml hv
  obtain ⟨rfl, hP, hK, hD⟩ := hv
  have hx := Bd.exec
  have hb := Bd.bytes
  have hr := Bd.returns
  have hts := atoms_spec (ws := (ws_ yX3_setPrice cX3_setPrice 3 (some .int))) Bd.pre
  have hts : ∀ w ∈ lw_all, w.before _ s = true := fun w h => hts w (List.mem_cons_of_mem _ h)
  have hown : s.vm.findClass RX3 = some m.cls := findClass_of_methodNamed Bd.named
  have hlocks := Bd.notSynchronized
  have hM : mSt D cA ad (mA ad) s.heap s.heap [] S := ⟨hP, hD, va_S.rf⟩
  have hl := lv_entry ([.ref (ad 7), .int p0, .int v0]) (n := 3) (Nat.le_of_ble_eq_true rfl)
  rw [lg_entry_eq]
  generalize (lg_sl ([.ref (ad 7), .int p0, .int v0]) ++ List.replicate (3 - (lg_sl ([.ref (ad 7), .int p0, .int v0])).length) Slot.unset).toArray = ls at hl ⊢
  have hl : lv_has ls 3 [(0, .ref (ad 7)), (1, .int p0), (2, .int v0)] := hl
  refine lv_aload_n hx hb dX3_setPrice_0 rfl (lv_at hl 0 rfl) ?_
  refine lv_iload_n hx hb dX3_setPrice_1 rfl (lv_at hl 1 rfl) ?_
  refine vp_callSi (W.runV (As := [.int p0]) (rest := []) ⟨hx, hb, hml, hown, hts⟩ (met_X3_isPrize l D cA ad S p0) (cwV 1 hts (lw_V q1748 q1750 qs41 q71 q1751) rfl rfl rfl (by decide +kernel) ⟨Nat.le_of_ble_eq_true rfl, Nat.le_of_ble_eq_true rfl⟩) (mPreV hK hM) rfl rfl hl.1 rfl (lv_room (Nat.le_of_ble_eq_true rfl)) dX3_setPrice_2 ⟨Nat.le_of_ble_eq_true rfl, Nat.le_of_ble_eq_true rfl⟩) (fun r_1 hr_1 => ?_)
  rcases hr_1 with ⟨er_hr_1, hr_1⟩ | ⟨er_hr_1, hr_1⟩
  · subst er_hr_1
    obtain ⟨q0, hq0, hlq0, rfl⟩ := ok_pri hI hr_1
    have nnq0 : (nI q0).toNatClampNeg = q0 := nI_clamp (by omega)
    refine lv_if_ne (tgt := 11) hx hb dX3_setPrice_5 (by decide) (fun _ => ?_) (fun c_ => absurd c_ (by decide))
    refine lv_aload_n hx hb dX3_setPrice_11 rfl (lv_at hl 0 rfl) ?_
    refine va_callv (va_runV (As := []) (rest := []) ⟨hx, hb, hml, hown, hts⟩ (met_X3_keeps l D cA ad S ) (cwV 0 hts (lw_V q1622 q1624 qs24 q71 q1625) rfl rfl rfl (by decide +kernel) ⟨Nat.le_of_ble_eq_true rfl, Nat.le_of_ble_eq_true rfl⟩) (mPreV hK hM) rfl rfl hl.1 rfl (lv_room (Nat.le_of_ble_eq_true rfl)) dX3_setPrice_12 ⟨Nat.le_of_ble_eq_true rfl, Nat.le_of_ble_eq_true rfl⟩) hM.2.2 (fun _ _ h => h) (fun _ h => h) (fun S_3 t H1 locs ht hvm hr_2 hB hz hk hS => ?_)
    have hM : mSt D cA ad (mA ad) s.heap H1 locs S_3 := ⟨by rw [← ht]; exact hB.1, hB.2, hS⟩
    clear hB ht; generalize H1 = H at hM ⊢; clear hz hk hS
    refine W.widen (k := 0) (n := 0) (Nat.le_refl 0) (Nat.le_refl 0) ?_
    refine lv_aload_n hx hb dX3_setPrice_15 rfl (lv_at hl 0 rfl) ?_
    refine lv_aload_n hx hb dX3_setPrice_16 rfl (lv_at hl 0 rfl) ?_
    refine lv_bipush (v := 52) hx hb dX3_setPrice_17 (by decide) ?_
    refine lv_bipush (v := 7) hx hb dX3_setPrice_19 (by decide) ?_
    refine lv_iload_n hx hb dX3_setPrice_21 rfl (lv_at hl 1 rfl) ?_
    refine lv_imul hx hb dX3_setPrice_22 ?_
    refine lv_iadd hx hb dX3_setPrice_23 ?_
    refine lv_iload_n hx hb dX3_setPrice_24 rfl (lv_at hl 2 rfl) ?_
    refine lv_iconst (v := 1) hx hb dX3_setPrice_25 (by decide) ?_
    refine lv_sipush (v := 5000) hx hb dX3_setPrice_26 (by decide) ?_
    rw [show ((52 : Int32) + ((7 : Int32) * (nI q0))) = nI (52 + (7 * q0)) from (ixA rfl (ixM rfl rfl))]
    refine va_calli (va_runV (As := [.int (nI (52 + (7 * q0))), .int v0, .int (1 : Int32), .int (5000 : Int32)]) (rest := [.ref (ad 7)]) ⟨hx, hb, hml, hown, hts⟩ (met_X3_sets l D cA ad S_3 (52 + (7 * q0)) v0 (1 : Int32) (5000 : Int32) (by rw [show S_3 0 = S 0 from (by rw [hr_2, su_n _ _ (by decide)])]; exact hI) (by first | assumption | omega | decide)) (cwV 4 hts (lw_V q1657 q1659 qs29 q71 q1660) rfl rfl rfl (by decide +kernel) ⟨Nat.le_of_ble_eq_true rfl, Nat.le_of_ble_eq_true rfl⟩) (mPreV hK hM) rfl rfl hl.1 rfl (lv_room (Nat.le_of_ble_eq_true rfl)) dX3_setPrice_29 ⟨Nat.le_of_ble_eq_true rfl, Nat.le_of_ble_eq_true rfl⟩) hM.2.2 (fun _ _ h => h) (fun _ h => h) (fun r_4 S_5 t H1 locs ht hvm hr_4 hB hz hk hS => ?_)
    have hM : mSt D cA ad (mA ad) s.heap H1 locs S_5 := ⟨by rw [← ht]; exact hB.1, hB.2, hS⟩
    clear hB ht; generalize H1 = H at hM ⊢; clear hz hk hS
    refine W.widen (k := 0) (n := 0) (Nat.le_refl 0) (Nat.le_refl 0) ?_
    obtain ⟨hr_4a, hr_4b⟩ := hr_4
    rw [show S_3 0 = S 0 from (by rw [hr_2, su_n _ _ (by decide)])] at hr_4a
    refine va_calli (va_runV (As := [.int r_4]) (rest := []) ⟨hx, hb, hml, hown, hts⟩ (met_X3_acted l D cA ad S_5 n0 r_4 (by first | assumption | omega | decide) (Eq.trans (by rw [hr_4b.2.2.2.2.2.2.2 _ (by decide), hr_2, su_n _ _ (by decide)]) hns)) (cwV 1 hts (lw_V q1637 q1639 qs26 q71 q1640) rfl rfl rfl (by decide +kernel) ⟨Nat.le_of_ble_eq_true rfl, Nat.le_of_ble_eq_true rfl⟩) (mPreV hK hM) rfl rfl hl.1 rfl (lv_room (Nat.le_of_ble_eq_true rfl)) dX3_setPrice_32 ⟨Nat.le_of_ble_eq_true rfl, Nat.le_of_ble_eq_true rfl⟩) hM.2.2 (fun _ _ h => h) (fun _ h => h) (fun r_6 S_7 t H1 locs ht hvm hr_6 hB hz hk hS => ?_)
    have hM : mSt D cA ad (mA ad) s.heap H1 locs S_7 := ⟨by rw [← ht]; exact hB.1, hB.2, hS⟩
    clear hB ht; generalize H1 = H at hM ⊢; clear hz hk hS
    refine W.widen (k := 0) (n := 0) (Nat.le_refl 0) (Nat.le_refl 0) ?_
    obtain ⟨hr_6a, hr_6b⟩ := hr_6
    exact W.iret hx hb hr (fun t ht hW => ⟨⟨_, S_7, rfl, (by subst hr_6a; subst hr_4a; subst hr_2; rw [show tk_price (S 0) (nI q0) v0 = tk_sets (S 0) (52 + 7 * q0) v0 1 5000 from by simp [tk_price, hr_1, nnq0]]; exact ⟨rfl, tk_topI rfl hr_4b hr_6b⟩), by rw [ht]; exact hM.1, hM.2.1⟩, hM.2.2.F ht⟩) hM.2.2.2.2 dX3_setPrice_35
  · subst er_hr_1
    refine lv_if_ne (tgt := 11) hx hb dX3_setPrice_5 (by decide) (fun c_ => absurd (by decide) c_) (fun _ => ?_)
    refine lv_ldc (v := -100001) hx hb hown (hts _ q1636) dX3_setPrice_8 ?_
    exact W.iret hx hb hr (fun t ht hW => ⟨⟨_, S, rfl, (by exact ⟨by simp [tk_price, hr_1], tk_topR (by decide) (by simp [tk_price, hr_1])⟩), by rw [ht]; exact hM.1, hM.2.1⟩, hM.2.2.F ht⟩) hM.2.2.2.2 dX3_setPrice_10
