set_option maxHeartbeats 4000000 in
set_option maxRecDepth 100000 in
theorem met_J2_fastRemove (l : Launch) (D : va_G) (cA : Nat → ClassId) (Z : Nat → Nat) (F : Nat → Prop) (H : Heap) {a ed : Nat} {mo : Int32} {n : Nat} {el : Nat → Nat} {j : Nat} (ha : va_at D vwCl (a, .inr (10, [.int mo, .ref ed, .int (nI n)])) H) (he : va_at D vwCl (ed, .inl (cA 3, 10, .inr (.inr (.inr (.inr (alf n el)))))) H) (hFa : F a) (hFed : F ed) (hj : j < n) (hn : n ≤ 10) (hel : ∀ q, q < n → lobj D cA Z H (el q)) (hya : ∀ q, q < n → el q ≠ a) : Met l yJ2_fastRemove (ws_ yJ2_fastRemove cJ2_fastRemove 4 none) (rmL 2 0 0) (cP D cA Z F H [.ref a, .ref ed, .int (nI j)]) (va_Qv (fun (H1 : Heap) => va_at D vwCl (a, .inr (10, [.int (mo + 1), .ref ed, .int (nI (n - 1))])) H1 ∧ va_at D vwCl (ed, .inl (cA 3, 10, .inr (.inr (.inr (.inr (alf (n - 1) (remE el j))))))) H1) (fun (H1 : Heap) (t : State) => t.heap = H1) F) 0 0 F := by
  refine Met.ofW (cc := cJ2_fastRemove) (maxL := 4) (ret := none) (by decide) rfl ?_
  intro p e s m args below meth c s₁ Bd hml hv
  obtain ⟨rfl, hh, hK, hE, hZn⟩ := hv
  subst hh
  have hx := Bd.exec
  have hb := Bd.bytes
  have hr := Bd.returns
  have hts := atoms_spec (ws := (ws_ yJ2_fastRemove cJ2_fastRemove 4 none)) Bd.pre
  have hts : ∀ w ∈ lw_all, w.before _ s = true := fun w h => hts w (List.mem_cons_of_mem _ h)
  have hown : s.vm.findClass RJ2 = some m.cls := findClass_of_methodNamed Bd.named
  have hlocks := Bd.notSynchronized
  have hS : va_S F s.heap s.heap [] := va_S.rf
  have hl := lv_entry ([.ref a, .ref ed, .int (nI j)]) (n := 4) (Nat.le_of_ble_eq_true rfl)
  rw [lg_entry_eq]
  generalize (lg_sl ([.ref a, .ref ed, .int (nI j)]) ++ List.replicate (4 - (lg_sl ([.ref a, .ref ed, .int (nI j)])).length) Slot.unset).toArray = ls at hl ⊢
  have hl : lv_has ls 4 [(0, .ref a), (1, .ref ed), (2, .int (nI j))] := hl
  refine W.gq fun Q0 hQe => ?_
  refine lv_aload_n hx hb dJ2_fastRemove_0 rfl (lv_at hl 0 rfl) ?_
  refine lv_dup hx hb dJ2_fastRemove_1 rfl ?_
  refine r_get (C := RJ2) (T := TJ2) (N := 3) hx hb hts in_J2 hown hK ha rfl 0 (by decide) (hts _ q129) (fun _ h => u_same (hts _ q128) _ h) (v := .int mo) rfl dJ2_fastRemove_2 ?_
  refine lv_iconst (v := 1) hx hb dJ2_fastRemove_5 (by decide) ?_
  refine lv_iadd hx hb dJ2_fastRemove_6 ?_
  refine r_put (C := RJ2) (T := TJ2) (N := 3) hx hb hts in_J2 tyJ2 tyJ2_ok nmJ2 hown hK hS ha hFa rfl 0 (by decide) (hts _ q129) (fun _ h => u_same (hts _ q128) _ h) rfl rfl rfl (Nat.le_of_ble_eq_true rfl) dJ2_fastRemove_7 (fun H_2 locs hs_1 hS => ?_)
  have h_3 := atK he hs_1 (at_ne he ha (Ne.symm (K_ca hK (i := 10) 3 rfl rfl (by decide))))
  have h_4 : va_at D vwCl (a, .inr (10, [.int (mo + (1 : Int32)), .ref ed, .int (nI n)])) H_2 := hs_1.1
  refine lv_aload_n hx hb dJ2_fastRemove_10 rfl (lv_at hl 0 rfl) ?_
  refine r_get (C := RJ2) (T := TJ2) (N := 3) hx hb hts in_J2 hown hK h_4 rfl 2 (by decide) (hts _ q125) (fun _ h => h) (v := .int (nI n)) rfl dJ2_fastRemove_11 ?_
  refine lv_iconst (v := 1) hx hb dJ2_fastRemove_14 (by decide) ?_
  refine lv_isub hx hb dJ2_fastRemove_15 ?_
  rw [show ((nI n) - (1 : Int32)) = nI (n - 1) from (ixS rfl rfl (by omega))]
  refine lv_dup hx hb dJ2_fastRemove_16 rfl ?_
  refine lv_istore_n (lv' := [(3, .int (nI (n - 1))), (0, .ref a), (1, .ref ed), (2, .int (nI j))]) hx hb dJ2_fastRemove_17 rfl hl (by decide) rfl (fun ls hl => ?_)
  refine lv_iload_n hx hb dJ2_fastRemove_18 rfl (lv_at hl 3 rfl) ?_
  refine lv_icmp_le (tgt := 34) hx hb dJ2_fastRemove_19 (by decide) (fun c19_b_5 => ?_) (fun c19_b_5 => ?_)
  · skip
    have c19_b_5 := Int32.not_lt.mpr c19_b_5
    have nc19_b_5 := ngtF (a := (n - 1)) (b := j) rfl rfl (by omega) (by omega) c19_b_5
    refine lv_aload_n hx hb dJ2_fastRemove_34 rfl (lv_at hl 2 rfl) ?_
    refine lv_aload_n hx hb dJ2_fastRemove_35 rfl (lv_at hl 1 rfl) ?_
    refine lv_iload_n hx hb dJ2_fastRemove_36 rfl (lv_at hl 0 rfl) ?_
    refine lv_dup_x1 hx hb dJ2_fastRemove_37 rfl rfl ?_
    refine r_put (C := RJ2) (T := TJ2) (N := 3) hx hb hts in_J2 tyJ2 tyJ2_ok nmJ2 hown hK hS h_4 hFa rfl 2 (by decide) (hts _ q125) (fun _ h => h) rfl rfl rfl (Nat.le_of_ble_eq_true rfl) dJ2_fastRemove_38 (fun H_7 locs hs_6 hS => ?_)
    have h_8 := atK h_3 hs_6 (at_ne h_3 h_4 (Ne.symm (K_ca hK (i := 10) 3 rfl rfl (by decide))))
    have h_9 : va_at D vwCl (a, .inr (10, [.int (mo + (1 : Int32)), .ref ed, .int (nI (n - 1))])) H_7 := hs_6.1
    refine lv_null hx hb dJ2_fastRemove_41 ?_
    refine r_aastN hx hb hK hS h_8 hFed 3 rfl (n - 1) rfl (by omega) (by decide) dJ2_fastRemove_42 (fun H_11 locs hs_10 hS => ?_)
    have h_13 := atK h_9 hs_10 (at_ne h_9 h_8 (K_ca hK (i := 10) 3 rfl rfl (by decide)))
    have h_12 := hs_10.1
    subst hQe
    refine W.widen (k := 0) (n := 0) (by first | decide | omega) (by first | decide | omega) ?_
    exact W.vret hx hb hr (fun t ht hW => ⟨⟨H_11, rfl, ⟨h_13, (by have hq := h_12; rw [alf_rem1 hj (by omega)] at hq; exact hq)⟩, ht⟩, hS.F ht⟩) hS.2.2 dJ2_fastRemove_43
  · skip
    have c19_b_5 := Int32.not_le.mp c19_b_5
    have nc19_b_5 := ngtT (a := (n - 1)) (b := j) rfl rfl (by omega) (by omega) c19_b_5
    refine lv_aload_n hx hb dJ2_fastRemove_22 rfl (lv_at hl 2 rfl) ?_
    refine lv_iload_n hx hb dJ2_fastRemove_23 rfl (lv_at hl 3 rfl) ?_
    refine lv_iconst (v := 1) hx hb dJ2_fastRemove_24 (by decide) ?_
    refine lv_iadd hx hb dJ2_fastRemove_25 ?_
    refine lv_aload_n hx hb dJ2_fastRemove_26 rfl (lv_at hl 2 rfl) ?_
    refine lv_iload_n hx hb dJ2_fastRemove_27 rfl (lv_at hl 3 rfl) ?_
    refine lv_iload_n hx hb dJ2_fastRemove_28 rfl (lv_at hl 0 rfl) ?_
    refine lv_iload_n hx hb dJ2_fastRemove_29 rfl (lv_at hl 3 rfl) ?_
    refine lv_isub hx hb dJ2_fastRemove_30 ?_
    refine r_copyq hx hb (hml.trans hl.1.symm) hown (hts _ q625) (hts _ q291) (hts _ q290) (hts _ q72) hK hS h_3 h_3 hFed 3 3 rfl rfl (j + 1) j ((n - 1) - j) (ixA rfl rfl) rfl (ixS rfl rfl (by omega)) (by omega) (by omega) (by decide) (by decide) (fun z hz y hy => by rw [alf_lt (show j + 1 + z < n by omega)] at hy; cases hy; exact lobj_el hK hE ((hel _ (by omega)).S hs_1 (hya _ (by omega)))) (Nat.le_of_ble_eq_true rfl) (Nat.le_of_ble_eq_true rfl) dJ2_fastRemove_31 (fun H_15 locs hs_14 hS => ?_)
    have h_17 := atK h_4 hs_14 (at_ne h_4 h_3 (K_ca hK (i := 10) 3 rfl rfl (by decide)))
    have h_16 := hs_14.1
    refine lv_aload_n hx hb dJ2_fastRemove_34 rfl (lv_at hl 2 rfl) ?_
    refine lv_aload_n hx hb dJ2_fastRemove_35 rfl (lv_at hl 1 rfl) ?_
    refine lv_iload_n hx hb dJ2_fastRemove_36 rfl (lv_at hl 0 rfl) ?_
    refine lv_dup_x1 hx hb dJ2_fastRemove_37 rfl rfl ?_
    refine r_put (C := RJ2) (T := TJ2) (N := 3) hx hb hts in_J2 tyJ2 tyJ2_ok nmJ2 hown hK hS h_17 hFa rfl 2 (by decide) (hts _ q125) (fun _ h => h) rfl rfl rfl (Nat.le_of_ble_eq_true rfl) dJ2_fastRemove_38 (fun H_19 locs hs_18 hS => ?_)
    have h_20 := atK h_16 hs_18 (at_ne h_16 h_17 (Ne.symm (K_ca hK (i := 10) 3 rfl rfl (by decide))))
    have h_21 : va_at D vwCl (a, .inr (10, [.int (mo + (1 : Int32)), .ref ed, .int (nI (n - 1))])) H_19 := hs_18.1
    refine lv_null hx hb dJ2_fastRemove_41 ?_
    refine r_aastN hx hb hK hS h_20 hFed 3 rfl (n - 1) rfl (by omega) (by decide) dJ2_fastRemove_42 (fun H_23 locs hs_22 hS => ?_)
    have h_25 := atK h_21 hs_22 (at_ne h_21 h_20 (K_ca hK (i := 10) 3 rfl rfl (by decide)))
    have h_24 := hs_22.1
    subst hQe
    refine W.widen (k := 0) (n := 0) (by first | decide | omega) (by first | decide | omega) ?_
    exact W.vret hx hb hr (fun t ht hW => ⟨⟨H_23, rfl, ⟨h_25, (by have hq := h_24; rw [alf_rem hj] at hq; exact hq)⟩, ht⟩, hS.F ht⟩) hS.2.2 dJ2_fastRemove_43

set_option maxHeartbeats 4000000 in
set_option maxRecDepth 100000 in
theorem met_J2_remove (l : Launch) (D : va_G) (cA : Nat → ClassId) (Z : Nat → Nat) (F : Nat → Prop) (H : Heap) {a : Nat} {ed : Nat} {mo : Int32} {n : Nat} {el : Nat → Nat} {j : Nat} (ha : va_at D vwCl (a, .inr (10, [.int mo, .ref ed, .int (nI n)])) H) (he : va_at D vwCl (ed, .inl (cA 3, 10, .inr (.inr (.inr (.inr (alf n el)))))) H) (hFa : F a) (hFed : F ed) (hj : j < n) (hn : n ≤ 10) (hel : ∀ q, q < n → lobj D cA Z H (el q)) (hya : ∀ q, q < n → el q ≠ a) : Met l yJ2_remove (ws_ yJ2_remove cJ2_remove 4 (some (.object "java/lang/Object"))) (rmL 3 0 0) (cP D cA Z F H [.ref a, .int (nI j)]) (va_Qq (fun (r : Option Nat) (H1 : Heap) => r = some (el j) ∧ va_at D vwCl (a, .inr (10, [.int (mo + 1), .ref ed, .int (nI (n - 1))])) H1 ∧ va_at D vwCl (ed, .inl (cA 3, 10, .inr (.inr (.inr (.inr (alf (n - 1) (remE el j))))))) H1) (fun (H1 : Heap) (t : State) => t.heap = H1) F) 0 0 F := by
  refine Met.ofW (cc := cJ2_remove) (maxL := 4) (ret := (some (.object "java/lang/Object"))) (by decide) rfl ?_
  intro p e s m args below meth c s₁ Bd hml hv
  obtain ⟨rfl, hh, hK, hE, hZn⟩ := hv
  subst hh
  have hx := Bd.exec
  have hb := Bd.bytes
  have hr := Bd.returns
  have hts := atoms_spec (ws := (ws_ yJ2_remove cJ2_remove 4 (some (.object "java/lang/Object")))) Bd.pre
  have hts : ∀ w ∈ lw_all, w.before _ s = true := fun w h => hts w (List.mem_cons_of_mem _ h)
  have hown : s.vm.findClass RJ2 = some m.cls := findClass_of_methodNamed Bd.named
  have hlocks := Bd.notSynchronized
  have hS : va_S F s.heap s.heap [] := va_S.rf
  have hl := lv_entry ([.ref a, .int (nI j)]) (n := 4) (Nat.le_of_ble_eq_true rfl)
  rw [lg_entry_eq]
  generalize (lg_sl ([.ref a, .int (nI j)]) ++ List.replicate (4 - (lg_sl ([.ref a, .int (nI j)])).length) Slot.unset).toArray = ls at hl ⊢
  have hl : lv_has ls 4 [(0, .ref a), (1, .int (nI j))] := hl
  refine W.gq fun Q0 hQe => ?_
  refine lv_iload_n hx hb dJ2_remove_0 rfl (lv_at hl 1 rfl) ?_
  refine lv_aload_n hx hb dJ2_remove_1 rfl (lv_at hl 0 rfl) ?_
  refine r_get (C := RJ2) (T := TJ2) (N := 3) hx hb hts in_J2 hown hK ha rfl 2 (by decide) (hts _ q125) (fun _ h => h) (v := .int (nI n)) rfl dJ2_remove_2 ?_
  refine vp_callSi (W.runS (As := [.int (nI j), .int (nI n)]) (rest := []) ⟨hx, hb, hml, hown, hts⟩ (met_J12_checkIndex l j n (by first | assumption | omega | decide) (by first | assumption | omega | decide)) (va_cwS 2 hts (lw_S q615 q616 q79 q617) rfl rfl rfl (by decide +kernel) ⟨Nat.le_of_ble_eq_true rfl, Nat.le_of_ble_eq_true rfl⟩) ⟨fun a U g mk q => q, fun U hU hW => ⟨rfl, trivial⟩⟩ rfl rfl hl.1 rfl (lv_room (Nat.le_of_ble_eq_true rfl)) dJ2_remove_5 ⟨Nat.le_of_ble_eq_true rfl, Nat.le_of_ble_eq_true rfl⟩) (fun r_1 hr_1 => ?_)
  subst hr_1
  refine lv_pop hx hb dJ2_remove_8 rfl ?_
  refine lv_aload_n hx hb dJ2_remove_9 rfl (lv_at hl 0 rfl) ?_
  refine r_get (C := RJ2) (T := TJ2) (N := 3) hx hb hts in_J2 hown hK ha rfl 1 (by decide) (hts _ q122) (fun _ h => h) (v := .ref ed) rfl dJ2_remove_10 ?_
  refine lv_astore_n (lv' := [(2, .ref ed), (0, .ref a), (1, .int (nI j))]) hx hb dJ2_remove_13 rfl hl (by decide) rfl (fun ls hl => ?_)
  refine lv_aload_n hx hb dJ2_remove_14 rfl (lv_at hl 0 rfl) ?_
  refine lv_iload_n hx hb dJ2_remove_15 rfl (lv_at hl 2 rfl) ?_
  refine r_aald hx hb hK he 3 rfl j rfl (by omega) (by decide) (v := .ref (el j)) (by rw [alf_lt hj]; rfl) dJ2_remove_16 ?_
  refine lv_astore_n (lv' := [(3, .ref (el j)), (2, .ref ed), (0, .ref a), (1, .int (nI j))]) hx hb dJ2_remove_17 rfl hl (by decide) rfl (fun ls hl => ?_)
  refine lv_aload_n hx hb dJ2_remove_18 rfl (lv_at hl 2 rfl) ?_
  refine lv_aload_n hx hb dJ2_remove_19 rfl (lv_at hl 1 rfl) ?_
  refine lv_iload_n hx hb dJ2_remove_20 rfl (lv_at hl 3 rfl) ?_
  have hSo := hS
  refine va_callv (va_runV (As := [.ref ed, .int (nI j)]) (rest := []) ⟨hx, hb, hml, hown, hts⟩ (met_J2_fastRemove l D cA Z (fun q => q = a ∨ q = ed) s.heap (mo := mo) (n := n) (el := el) (j := j) ha he (Or.inl rfl) (Or.inr rfl) (by first | assumption | omega | decide) (by first | assumption | omega | decide) (by first | assumption | omega | decide) (by first | assumption | omega | decide)) (cwV 2 hts (lw_V q621 q623 qs7 q65 q624) rfl rfl rfl (by decide +kernel) ⟨Nat.le_of_ble_eq_true rfl, Nat.le_of_ble_eq_true rfl⟩) (cP_V hK hE (En.narrow hZn (fun q h => by rcases h with rfl | rfl <;> first | exact hFa | exact hFed)) (rcv hK ha rfl)) rfl rfl hl.1 rfl (lv_room (Nat.le_of_ble_eq_true rfl)) dJ2_remove_21 ⟨Nat.le_of_ble_eq_true rfl, Nat.le_of_ble_eq_true rfl⟩) hS (fun q _ h => (fun q h => by rcases h with rfl | rfl <;> first | exact hFa | exact hFed) q h) (fun q h => by rcases h with rfl | rfl <;> first | exact hFa | exact hFed) (fun H_3 t H_3x locs ht _ hr_2 hB hz hk hS => ?_)
  obtain rfl : H_3x = H_3 := ht.symm.trans hB
  have hz_4 : hC (fun q => q = a ∨ q = ed) s.heap H_3x := ⟨hz, hk⟩
  clear hz hk hB ht
  obtain ⟨h_5, h_6⟩ := hr_2
  refine lv_aload_n hx hb dJ2_remove_24 rfl (lv_at hl 0 rfl) ?_
  subst hQe
  refine W.widen (k := 0) (n := 0) (by first | decide | omega) (by first | decide | omega) ?_
  exact W.aret hx hb hr (Or.inl ⟨_, rfl⟩) (Or.inr ⟨_, rfl⟩) (fun t ht hW => ⟨⟨some (el j), H_3x, rfl, ⟨rfl, h_5, h_6⟩, ht⟩, hS.F ht⟩) hS.2.2 dJ2_remove_25
