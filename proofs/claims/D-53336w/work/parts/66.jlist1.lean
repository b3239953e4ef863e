set_option maxHeartbeats 4000000 in
set_option maxRecDepth 100000 in
theorem met_J13_checkIndex (l : Launch) (j : Nat) (n : Nat) (hj : j < n)  (hn : n < 2 ^ 31) : Met l yJ13_checkIndex (ws_ yJ13_checkIndex cJ13_checkIndex 3 (some .int)) (rmL 1 0 0) (va_Pc [.int (nI j), .int (nI n), .null] (fun _ => True)) (vp_Si (fun r => r = nI j)) 0 0 (fun _ => False) := by
  refine Met.ofW (cc := cJ13_checkIndex) (maxL := 3) (ret := (some .int)) (by decide) rfl ?_
  intro p e s m args below meth c s₁ Bd hml hv
  obtain ⟨rfl, -⟩ := hv
  have hx := Bd.exec
  have hb := Bd.bytes
  have hr := Bd.returns
  have hts := atoms_spec (ws := (ws_ yJ13_checkIndex cJ13_checkIndex 3 (some .int))) Bd.pre
  have hts : ∀ w ∈ lw_all, w.before _ s = true := fun w h => hts w (List.mem_cons_of_mem _ h)
  have hown : s.vm.findClass RJ13 = some m.cls := findClass_of_methodNamed Bd.named
  have hlocks := Bd.notSynchronized
  have hl := lv_entry ([.int (nI j), .int (nI n), .null]) (n := 3) (Nat.le_of_ble_eq_true rfl)
  rw [lg_entry_eq]
  generalize (lg_sl ([.int (nI j), .int (nI n), .null]) ++ List.replicate (3 - (lg_sl ([.int (nI j), .int (nI n), .null])).length) Slot.unset).toArray = ls at hl ⊢
  have hl : lv_has ls 3 [(0, .int (nI j)), (1, .int (nI n)), (2, .null)] := hl
  refine lv_iload_n hx hb dJ13_checkIndex_0 rfl (lv_at hl 0 rfl) ?_
  refine lv_if_lt (tgt := 9) hx hb dJ13_checkIndex_1 (by decide) (fun c1_b_1 => absurd c1_b_1 (nI_nn (j := j) (by omega))) (fun c1_b_1 => ?_)
  refine lv_iload_n hx hb dJ13_checkIndex_4 rfl (lv_at hl 0 rfl) ?_
  refine lv_iload_n hx hb dJ13_checkIndex_5 rfl (lv_at hl 1 rfl) ?_
  refine lv_icmp_lt (tgt := 16) hx hb dJ13_checkIndex_6 (by decide) (fun c6_b_2 => ?_) (fun c6_b_2 => absurd (nI_lt hj hn) c6_b_2)
  refine lv_iload_n hx hb dJ13_checkIndex_16 rfl (lv_at hl 0 rfl) ?_
  exact W.iret hx hb hr (fun t ht hW => ⟨_, rfl, rfl, ht⟩) (fun _ h => absurd h List.not_mem_nil) dJ13_checkIndex_17

set_option maxHeartbeats 4000000 in
set_option maxRecDepth 100000 in
theorem met_J12_checkIndex (l : Launch) (j : Nat) (n : Nat) (hj : j < n)  (hn : n < 2 ^ 31) : Met l yJ12_checkIndex (ws_ yJ12_checkIndex cJ12_checkIndex 2 (some .int)) (rmL 2 0 0) (va_Pc [.int (nI j), .int (nI n)] (fun _ => True)) (vp_Si (fun r => r = nI j)) 0 0 (fun _ => False) := by
  refine Met.ofW (cc := cJ12_checkIndex) (maxL := 2) (ret := (some .int)) (by decide) rfl ?_
  intro p e s m args below meth c s₁ Bd hml hv
  obtain ⟨rfl, -⟩ := hv
  have hx := Bd.exec
  have hb := Bd.bytes
  have hr := Bd.returns
  have hts := atoms_spec (ws := (ws_ yJ12_checkIndex cJ12_checkIndex 2 (some .int))) Bd.pre
  have hts : ∀ w ∈ lw_all, w.before _ s = true := fun w h => hts w (List.mem_cons_of_mem _ h)
  have hown : s.vm.findClass RJ12 = some m.cls := findClass_of_methodNamed Bd.named
  have hlocks := Bd.notSynchronized
  have hl := lv_entry ([.int (nI j), .int (nI n)]) (n := 2) (Nat.le_of_ble_eq_true rfl)
  rw [lg_entry_eq]
  generalize (lg_sl ([.int (nI j), .int (nI n)]) ++ List.replicate (2 - (lg_sl ([.int (nI j), .int (nI n)])).length) Slot.unset).toArray = ls at hl ⊢
  have hl : lv_has ls 2 [(0, .int (nI j)), (1, .int (nI n))] := hl
  refine lv_iload_n hx hb dJ12_checkIndex_0 rfl (lv_at hl 0 rfl) ?_
  refine lv_iload_n hx hb dJ12_checkIndex_1 rfl (lv_at hl 1 rfl) ?_
  refine lv_null hx hb dJ12_checkIndex_2 ?_
  refine vp_callSi (W.runS (As := [.int (nI j), .int (nI n), .null]) (rest := []) ⟨hx, hb, hml, hown, hts⟩ (met_J13_checkIndex l j n (by first | assumption | omega | decide) (by first | assumption | omega | decide)) (va_cwS 3 hts (lw_S q618 q619 q80 q620) rfl rfl rfl (by decide +kernel) ⟨Nat.le_of_ble_eq_true rfl, Nat.le_of_ble_eq_true rfl⟩) ⟨fun a U g mk q => q, fun U hU hW => ⟨rfl, trivial⟩⟩ rfl rfl hl.1 rfl (lv_room (Nat.le_of_ble_eq_true rfl)) dJ12_checkIndex_3 ⟨Nat.le_of_ble_eq_true rfl, Nat.le_of_ble_eq_true rfl⟩) (fun r_1 hr_1 => ?_)
  subst hr_1
  exact W.iret hx hb hr (fun t ht hW => ⟨_, rfl, rfl, ht⟩) (fun _ h => absurd h List.not_mem_nil) dJ12_checkIndex_6

set_option maxHeartbeats 4000000 in
set_option maxRecDepth 100000 in
theorem met_J0_init (l : Launch) (D : va_G) (cA : Nat → ClassId) (Z : Nat → Nat) (F : Nat → Prop) (H : Heap) {a : Nat} : Met l yJ0_init (ws_ yJ0_init cJ0_init 1 none) (rmL 1 0 0) (cP D cA Z F H [.ref a]) (va_Sv (fun _ => True)) 0 0 (fun _ => False) := by
  refine Met.ofW (cc := cJ0_init) (maxL := 1) (ret := none) (by decide) rfl ?_
  intro p e s m args below meth c s₁ Bd hml hv
  obtain ⟨rfl, hh, hK, hE, hZn⟩ := hv
  subst hh
  have hx := Bd.exec
  have hb := Bd.bytes
  have hr := Bd.returns
  have hts := atoms_spec (ws := (ws_ yJ0_init cJ0_init 1 none)) Bd.pre
  have hts : ∀ w ∈ lw_all, w.before _ s = true := fun w h => hts w (List.mem_cons_of_mem _ h)
  have hown : s.vm.findClass RJ0 = some m.cls := findClass_of_methodNamed Bd.named
  have hlocks := Bd.notSynchronized
  have hinit : meth.name = "<init>" := (name_of_methodNamed Bd.named Bd.method).1
  have hS : va_S F s.heap s.heap [] := va_S.rf
  have hl := lv_entry ([.ref a]) (n := 1) (Nat.le_of_ble_eq_true rfl)
  rw [lg_entry_eq]
  generalize (lg_sl ([.ref a]) ++ List.replicate (1 - (lg_sl ([.ref a])).length) Slot.unset).toArray = ls at hl ⊢
  have hl : lv_has ls 1 [(0, .ref a)] := hl
  refine W.gq fun Q0 hQe => ?_
  refine lv_aload_n hx hb dJ0_init_0 rfl (lv_at hl 0 rfl) ?_
  refine W.objInit hx hb hown (hts _ q119) (hts _ q98) (hts _ q99) rfl (hl.1.trans hml.symm) rfl dJ0_init_1 (Nat.le_of_ble_eq_true rfl) (Nat.le_of_ble_eq_true rfl) ?_
  subst hQe
  exact W.vret hx hb hr (fun t ht hW => ⟨rfl, trivial, ht⟩) (fun _ h => absurd h List.not_mem_nil) dJ0_init_4

set_option maxHeartbeats 4000000 in
set_option maxRecDepth 100000 in
theorem met_J1_init (l : Launch) (D : va_G) (cA : Nat → ClassId) (Z : Nat → Nat) (F : Nat → Prop) (H : Heap) {a : Nat} {x : Int32} {ev : Option Nat} {n : Nat} (ha : va_at D vwCl (a, .inr (10, [.int x, va_rf ev, .int (nI n)])) H) (hFa : F a) : Met l yJ1_init (ws_ yJ1_init cJ1_init 1 none) (rmL 2 0 0) (cP D cA Z F H [.ref a]) (va_Qv (fun (H1 : Heap) => va_at D vwCl (a, .inr (10, [.int (0 : Int32), va_rf ev, .int (nI n)])) H1) (fun (H1 : Heap) (t : State) => t.heap = H1) F) 0 0 F := by
  refine Met.ofW (cc := cJ1_init) (maxL := 1) (ret := none) (by decide) rfl ?_
  intro p e s m args below meth c s₁ Bd hml hv
  obtain ⟨rfl, hh, hK, hE, hZn⟩ := hv
  subst hh
  have hx := Bd.exec
  have hb := Bd.bytes
  have hr := Bd.returns
  have hts := atoms_spec (ws := (ws_ yJ1_init cJ1_init 1 none)) Bd.pre
  have hts : ∀ w ∈ lw_all, w.before _ s = true := fun w h => hts w (List.mem_cons_of_mem _ h)
  have hown : s.vm.findClass RJ1 = some m.cls := findClass_of_methodNamed Bd.named
  have hlocks := Bd.notSynchronized
  have hinit : meth.name = "<init>" := (name_of_methodNamed Bd.named Bd.method).1
  have hS : va_S F s.heap s.heap [] := va_S.rf
  have hl := lv_entry ([.ref a]) (n := 1) (Nat.le_of_ble_eq_true rfl)
  rw [lg_entry_eq]
  generalize (lg_sl ([.ref a]) ++ List.replicate (1 - (lg_sl ([.ref a])).length) Slot.unset).toArray = ls at hl ⊢
  have hl : lv_has ls 1 [(0, .ref a)] := hl
  refine W.gq fun Q0 hQe => ?_
  refine lv_aload_n hx hb dJ1_init_0 rfl (lv_at hl 0 rfl) ?_
  refine va_csv (W.runI (As := []) (rest := []) ⟨hx, hb, hml, hown, hts⟩ (met_J0_init l D cA Z (fun _ => False) s.heap  ) (cwI 0 hts (lw_meth q118) rfl rfl rfl (hts _ q63) (hts _ q116) (hts _ q117) rfl (by decide +kernel) ⟨Nat.le_of_ble_eq_true rfl, Nat.le_of_ble_eq_true rfl⟩) (cP_S hK hE (En.narrow hZn (fun _ h => h.elim))) rfl rfl hl.1 rfl (lv_room (Nat.le_of_ble_eq_true rfl)) dJ1_init_1 ⟨Nat.le_of_ble_eq_true rfl, Nat.le_of_ble_eq_true rfl⟩) (fun _ => ?_)
  refine lv_aload_n hx hb dJ1_init_4 rfl (lv_at hl 0 rfl) ?_
  refine lv_iconst (v := 0) hx hb dJ1_init_5 (by decide) ?_
  refine r_put (C := RJ2) (T := TJ2) (N := 3) hx hb hts in_J2 tyJ2 tyJ2_ok nmJ2 hown hK hS ha hFa rfl 0 (by decide) (hts _ q126) (fun _ h => h) rfl rfl rfl (Nat.le_of_ble_eq_true rfl) dJ1_init_6 (fun H_3 locs hs_2 hS => ?_)
  have h_4 : va_at D vwCl (a, .inr (10, [.int (0 : Int32), va_rf ev, .int (nI n)])) H_3 := hs_2.1
  subst hQe
  refine W.widen (k := 0) (n := 0) (by first | decide | omega) (by first | decide | omega) ?_
  exact W.vret hx hb hr (fun t ht hW => ⟨⟨H_3, rfl, h_4, ht⟩, hS.F ht⟩) hS.2.2 dJ1_init_9

set_option maxHeartbeats 4000000 in
set_option maxRecDepth 100000 in
theorem met_J2_init (l : Launch) (D : va_G) (cA : Nat → ClassId) (Z : Nat → Nat) (F : Nat → Prop) (H : Heap) {a : Nat} {x : Int32} {ev : Option Nat} {n : Nat} (ha : va_at D vwCl (a, .inr (10, [.int x, va_rf ev, .int (nI n)])) H) (hFa : F a) : Met l yJ2_init (ws_ yJ2_init cJ2_init 1 none) (rmL 3 0 0) (cP D cA Z F H [.ref a]) (va_Qv (fun (H1 : Heap) => va_at D vwCl (a, .inr (10, [.int (0 : Int32), .ref (Z 0), .int (nI n)])) H1) (fun (H1 : Heap) (t : State) => t.heap = H1) F) 0 0 F := by
  refine Met.ofW (cc := cJ2_init) (maxL := 1) (ret := none) (by decide) rfl ?_
  intro p e s m args below meth c s₁ Bd hml hv
  obtain ⟨rfl, hh, hK, hE, hZn⟩ := hv
  subst hh
  have hx := Bd.exec
  have hb := Bd.bytes
  have hr := Bd.returns
  have hts := atoms_spec (ws := (ws_ yJ2_init cJ2_init 1 none)) Bd.pre
  have hts : ∀ w ∈ lw_all, w.before _ s = true := fun w h => hts w (List.mem_cons_of_mem _ h)
  have hown : s.vm.findClass RJ2 = some m.cls := findClass_of_methodNamed Bd.named
  have hlocks := Bd.notSynchronized
  have hinit : meth.name = "<init>" := (name_of_methodNamed Bd.named Bd.method).1
  have hS : va_S F s.heap s.heap [] := va_S.rf
  have hl := lv_entry ([.ref a]) (n := 1) (Nat.le_of_ble_eq_true rfl)
  rw [lg_entry_eq]
  generalize (lg_sl ([.ref a]) ++ List.replicate (1 - (lg_sl ([.ref a])).length) Slot.unset).toArray = ls at hl ⊢
  have hl : lv_has ls 1 [(0, .ref a)] := hl
  refine W.gq fun Q0 hQe => ?_
  refine lv_aload_n hx hb dJ2_init_0 rfl (lv_at hl 0 rfl) ?_
  have hSo := hS
  refine va_callv (va_runI (As := []) (rest := []) ⟨hx, hb, hml, hown, hts⟩ (met_J1_init l D cA Z (fun q => q = a) s.heap (x := x) (ev := ev) (n := n) ha rfl) (cwI 0 hts (lw_meth q115) rfl rfl rfl (hts _ q64) (hts _ q113) (hts _ q114) rfl (by decide +kernel) ⟨Nat.le_of_ble_eq_true rfl, Nat.le_of_ble_eq_true rfl⟩) (cP_S hK hE (En.narrow hZn (fun q h => by subst h; exact hFa))) rfl rfl hl.1 rfl (lv_room (Nat.le_of_ble_eq_true rfl)) dJ2_init_1 ⟨Nat.le_of_ble_eq_true rfl, Nat.le_of_ble_eq_true rfl⟩) hS (fun q _ h => (fun q h => by subst h; exact hFa) q h) (fun q h => by subst h; exact hFa) (fun H_2 t H_2x locs ht _ hr_1 hB hz hk hS => ?_)
  obtain rfl : H_2x = H_2 := ht.symm.trans hB
  have hz_3 : hC (fun q => q = a) s.heap H_2x := ⟨hz, hk⟩
  clear hz hk hB ht
  have h_4 := hr_1
  refine lv_aload_n hx hb dJ2_init_4 rfl (lv_at hl 0 rfl) ?_
  refine va_gets hx hb hZn.1.1 hS hown (hts _ q120) (fun _ h => h) dJ2_init_5 ?_
  refine r_put (C := RJ2) (T := TJ2) (N := 3) hx hb hts in_J2 tyJ2 tyJ2_ok nmJ2 hown hK hS h_4 hFa rfl 1 (by decide) (hts _ q122) (fun _ h => h) rfl rfl rfl (Nat.le_of_ble_eq_true rfl) dJ2_init_8 (fun H_6 locs hs_5 hS => ?_)
  have h_7 : va_at D vwCl (a, .inr (10, [.int (0 : Int32), .ref (Z 0), .int (nI n)])) H_6 := hs_5.1
  subst hQe
  refine W.widen (k := 0) (n := 0) (by first | decide | omega) (by first | decide | omega) ?_
  exact W.vret hx hb hr (fun t ht hW => ⟨⟨H_6, rfl, h_7, ht⟩, hS.F ht⟩) hS.2.2 dJ2_init_11

set_option maxHeartbeats 4000000 in
set_option maxRecDepth 100000 in
theorem met_J2_size (l : Launch) (D : va_G) (cA : Nat → ClassId) (Z : Nat → Nat) (F : Nat → Prop) (H : Heap) {a : Nat} {mo : Int32} {ed n : Nat} (ha : va_at D vwCl (a, .inr (10, [.int mo, .ref ed, .int (nI n)])) H) : Met l yJ2_size (ws_ yJ2_size cJ2_size 1 (some .int)) (rmL 1 0 0) (cP D cA Z F H [.ref a]) (vp_Si (fun r => r = nI n)) 0 0 (fun _ => False) := by
  refine Met.ofW (cc := cJ2_size) (maxL := 1) (ret := (some .int)) (by decide) rfl ?_
  intro p e s m args below meth c s₁ Bd hml hv
  obtain ⟨rfl, hh, hK, hE, hZn⟩ := hv
  subst hh
  have hx := Bd.exec
  have hb := Bd.bytes
  have hr := Bd.returns
  have hts := atoms_spec (ws := (ws_ yJ2_size cJ2_size 1 (some .int))) Bd.pre
  have hts : ∀ w ∈ lw_all, w.before _ s = true := fun w h => hts w (List.mem_cons_of_mem _ h)
  have hown : s.vm.findClass RJ2 = some m.cls := findClass_of_methodNamed Bd.named
  have hlocks := Bd.notSynchronized
  have hS : va_S F s.heap s.heap [] := va_S.rf
  have hl := lv_entry ([.ref a]) (n := 1) (Nat.le_of_ble_eq_true rfl)
  rw [lg_entry_eq]
  generalize (lg_sl ([.ref a]) ++ List.replicate (1 - (lg_sl ([.ref a])).length) Slot.unset).toArray = ls at hl ⊢
  have hl : lv_has ls 1 [(0, .ref a)] := hl
  refine W.gq fun Q0 hQe => ?_
  refine lv_aload_n hx hb dJ2_size_0 rfl (lv_at hl 0 rfl) ?_
  refine r_get (C := RJ2) (T := TJ2) (N := 3) hx hb hts in_J2 hown hK ha rfl 2 (by decide) (hts _ q125) (fun _ h => h) (v := .int (nI n)) rfl dJ2_size_1 ?_
  subst hQe
  exact W.iret hx hb hr (fun t ht hW => ⟨_, rfl, rfl, ht⟩) (fun _ h => absurd h List.not_mem_nil) dJ2_size_4

set_option maxHeartbeats 4000000 in
set_option maxRecDepth 100000 in
theorem met_J2_elementData (l : Launch) (D : va_G) (cA : Nat → ClassId) (Z : Nat → Nat) (F : Nat → Prop) (H : Heap) {a : Nat} {mo : Int32} {ed n j : Nat} {f : Nat → Option Nat} (ha : va_at D vwCl (a, .inr (10, [.int mo, .ref ed, .int (nI n)])) H) (he : va_at D vwCl (ed, .inl (cA 3, 10, .inr (.inr (.inr (.inr f))))) H) (hj : j < n) (hn : n ≤ 10) : Met l yJ2_elementData (ws_ yJ2_elementData cJ2_elementData 2 (some (.object "java/lang/Object"))) (rmL 1 0 0) (cP D cA Z F H [.ref a, .int (nI j)]) (va_Sq (fun r => r = f j)) 0 0 (fun _ => False) := by
  refine Met.ofW (cc := cJ2_elementData) (maxL := 2) (ret := (some (.object "java/lang/Object"))) (by decide) rfl ?_
  intro p e s m args below meth c s₁ Bd hml hv
  obtain ⟨rfl, hh, hK, hE, hZn⟩ := hv
  subst hh
  have hx := Bd.exec
  have hb := Bd.bytes
  have hr := Bd.returns
  have hts := atoms_spec (ws := (ws_ yJ2_elementData cJ2_elementData 2 (some (.object "java/lang/Object")))) Bd.pre
  have hts : ∀ w ∈ lw_all, w.before _ s = true := fun w h => hts w (List.mem_cons_of_mem _ h)
  have hown : s.vm.findClass RJ2 = some m.cls := findClass_of_methodNamed Bd.named
  have hlocks := Bd.notSynchronized
  have hS : va_S F s.heap s.heap [] := va_S.rf
  have hl := lv_entry ([.ref a, .int (nI j)]) (n := 2) (Nat.le_of_ble_eq_true rfl)
  rw [lg_entry_eq]
  generalize (lg_sl ([.ref a, .int (nI j)]) ++ List.replicate (2 - (lg_sl ([.ref a, .int (nI j)])).length) Slot.unset).toArray = ls at hl ⊢
  have hl : lv_has ls 2 [(0, .ref a), (1, .int (nI j))] := hl
  refine W.gq fun Q0 hQe => ?_
  refine lv_aload_n hx hb dJ2_elementData_0 rfl (lv_at hl 0 rfl) ?_
  refine r_get (C := RJ2) (T := TJ2) (N := 3) hx hb hts in_J2 hown hK ha rfl 1 (by decide) (hts _ q122) (fun _ h => h) (v := .ref ed) rfl dJ2_elementData_1 ?_
  refine lv_iload_n hx hb dJ2_elementData_4 rfl (lv_at hl 1 rfl) ?_
  refine r_aald hx hb hK he 3 rfl j rfl (by omega) (by decide) (v := va_rf (f j)) rfl dJ2_elementData_5 ?_
  subst hQe
  exact W.aret hx hb hr (Or.inl ⟨_, rfl⟩) (va_rf_or _) (fun t ht hW => ⟨(f j), rfl, rfl, ht⟩) (fun _ h => absurd h List.not_mem_nil) dJ2_elementData_6

set_option maxHeartbeats 4000000 in
set_option maxRecDepth 100000 in
theorem met_J2_get (l : Launch) (D : va_G) (cA : Nat → ClassId) (Z : Nat → Nat) (F : Nat → Prop) (H : Heap) {a : Nat} {mo : Int32} {ed n j : Nat} {f : Nat → Option Nat} (ha : va_at D vwCl (a, .inr (10, [.int mo, .ref ed, .int (nI n)])) H) (he : va_at D vwCl (ed, .inl (cA 3, 10, .inr (.inr (.inr (.inr f))))) H) (hj : j < n) (hn : n ≤ 10) : Met l yJ2_get (ws_ yJ2_get cJ2_get 2 (some (.object "java/lang/Object"))) (rmL 3 0 0) (cP D cA Z F H [.ref a, .int (nI j)]) (va_Sq (fun r => r = f j)) 0 0 (fun _ => False) := by
  refine Met.ofW (cc := cJ2_get) (maxL := 2) (ret := (some (.object "java/lang/Object"))) (by decide) rfl ?_
  intro p e s m args below meth c s₁ Bd hml hv
  obtain ⟨rfl, hh, hK, hE, hZn⟩ := hv
  subst hh
  have hx := Bd.exec
  have hb := Bd.bytes
  have hr := Bd.returns
  have hts := atoms_spec (ws := (ws_ yJ2_get cJ2_get 2 (some (.object "java/lang/Object")))) Bd.pre
  have hts : ∀ w ∈ lw_all, w.before _ s = true := fun w h => hts w (List.mem_cons_of_mem _ h)
  have hown : s.vm.findClass RJ2 = some m.cls := findClass_of_methodNamed Bd.named
  have hlocks := Bd.notSynchronized
  have hS : va_S F s.heap s.heap [] := va_S.rf
  have hl := lv_entry ([.ref a, .int (nI j)]) (n := 2) (Nat.le_of_ble_eq_true rfl)
  rw [lg_entry_eq]
  generalize (lg_sl ([.ref a, .int (nI j)]) ++ List.replicate (2 - (lg_sl ([.ref a, .int (nI j)])).length) Slot.unset).toArray = ls at hl ⊢
  have hl : lv_has ls 2 [(0, .ref a), (1, .int (nI j))] := hl
  refine W.gq fun Q0 hQe => ?_
  refine lv_iload_n hx hb dJ2_get_0 rfl (lv_at hl 1 rfl) ?_
  refine lv_aload_n hx hb dJ2_get_1 rfl (lv_at hl 0 rfl) ?_
  refine r_get (C := RJ2) (T := TJ2) (N := 3) hx hb hts in_J2 hown hK ha rfl 2 (by decide) (hts _ q125) (fun _ h => h) (v := .int (nI n)) rfl dJ2_get_2 ?_
  refine vp_callSi (W.runS (As := [.int (nI j), .int (nI n)]) (rest := []) ⟨hx, hb, hml, hown, hts⟩ (met_J12_checkIndex l j n (by first | assumption | omega | decide) (by first | assumption | omega | decide)) (va_cwS 2 hts (lw_S q615 q616 q79 q617) rfl rfl rfl (by decide +kernel) ⟨Nat.le_of_ble_eq_true rfl, Nat.le_of_ble_eq_true rfl⟩) ⟨fun a U g mk q => q, fun U hU hW => ⟨rfl, trivial⟩⟩ rfl rfl hl.1 rfl (lv_room (Nat.le_of_ble_eq_true rfl)) dJ2_get_5 ⟨Nat.le_of_ble_eq_true rfl, Nat.le_of_ble_eq_true rfl⟩) (fun r_1 hr_1 => ?_)
  subst hr_1
  refine lv_pop hx hb dJ2_get_8 rfl ?_
  refine lv_aload_n hx hb dJ2_get_9 rfl (lv_at hl 0 rfl) ?_
  refine lv_iload_n hx hb dJ2_get_10 rfl (lv_at hl 1 rfl) ?_
  refine va_csq (W.runV (As := [.int (nI j)]) (rest := []) ⟨hx, hb, hml, hown, hts⟩ (met_J2_elementData l D cA Z (fun _ => False) s.heap (mo := mo) (ed := ed) (n := n) (j := j) (f := f) ha he (by first | assumption | omega | decide) (by first | assumption | omega | decide)) (cwV 1 hts (lw_V q747 q748 q749 q65 q750) rfl rfl rfl (by decide +kernel) ⟨Nat.le_of_ble_eq_true rfl, Nat.le_of_ble_eq_true rfl⟩) (cP_V hK hE (En.narrow hZn (fun _ h => h.elim)) (rcv hK ha rfl)) rfl rfl hl.1 rfl (lv_room (Nat.le_of_ble_eq_true rfl)) dJ2_get_11 ⟨Nat.le_of_ble_eq_true rfl, Nat.le_of_ble_eq_true rfl⟩) (fun r_2 hr_2 => ?_)
  subst hr_2
  subst hQe
  exact W.aret hx hb hr (Or.inl ⟨_, rfl⟩) (va_rf_or _) (fun t ht hW => ⟨(f j), rfl, rfl, ht⟩) (fun _ h => absurd h List.not_mem_nil) dJ2_get_14

set_option maxHeartbeats 4000000 in
set_option maxRecDepth 100000 in
theorem met_J8_init (l : Launch) (D : va_G) (cA : Nat → ClassId) (Z : Nat → Nat) (F : Nat → Prop) (H : Heap) {i a : Nat} {mo x y z : Int32} {o : Option Nat} {ed n : Nat} (hi : va_at D vwCl (i, .inr (14, [.int x, .int y, .int z, va_rf o])) H) (ha : va_at D vwCl (a, .inr (10, [.int mo, .ref ed, .int (nI n)])) H) (hFi : F i) : Met l yJ8_init (ws_ yJ8_init cJ8_init 2 none) (rmL 1 0 0) (cP D cA Z F H [.ref i, .ref a]) (va_Qv (fun (H1 : Heap) => va_at D vwCl (i, .inr (14, [.int x, .int (-1), .int mo, .ref a])) H1) (fun (H1 : Heap) (t : State) => t.heap = H1) F) 0 0 F := by
  refine Met.ofW (cc := cJ8_init) (maxL := 2) (ret := none) (by decide) rfl ?_
  intro p e s m args below meth c s₁ Bd hml hv
  obtain ⟨rfl, hh, hK, hE, hZn⟩ := hv
  subst hh
  have hx := Bd.exec
  have hb := Bd.bytes
  have hr := Bd.returns
  have hts := atoms_spec (ws := (ws_ yJ8_init cJ8_init 2 none)) Bd.pre
  have hts : ∀ w ∈ lw_all, w.before _ s = true := fun w h => hts w (List.mem_cons_of_mem _ h)
  have hown : s.vm.findClass RJ8 = some m.cls := findClass_of_methodNamed Bd.named
  have hlocks := Bd.notSynchronized
  have hinit : meth.name = "<init>" := (name_of_methodNamed Bd.named Bd.method).1
  have hS : va_S F s.heap s.heap [] := va_S.rf
  have hl := lv_entry ([.ref i, .ref a]) (n := 2) (Nat.le_of_ble_eq_true rfl)
  rw [lg_entry_eq]
  generalize (lg_sl ([.ref i, .ref a]) ++ List.replicate (2 - (lg_sl ([.ref i, .ref a])).length) Slot.unset).toArray = ls at hl ⊢
  have hl : lv_has ls 2 [(0, .ref i), (1, .ref a)] := hl
  refine W.gq fun Q0 hQe => ?_
  refine lv_aload_n hx hb dJ8_init_0 rfl (lv_at hl 0 rfl) ?_
  refine lv_aload_n hx hb dJ8_init_1 rfl (lv_at hl 1 rfl) ?_
  refine r_putF (C := RJ8) (T := TJ8) (N := 4) hx hb hts in_J8 tyJ8 tyJ8_ok nmJ8 hown hK hS hi hFi rfl 3 (by decide) (hts _ q311) (fun _ h => h) rfl hinit rfl rfl rfl (Nat.le_of_ble_eq_true rfl) dJ8_init_2 (fun H_2 locs hs_1 hS => ?_)
  have h_3 := atK ha hs_1 (at_ne ha hi (K_cc hK (i := 10) (j := 14) rfl rfl (by decide)))
  have h_4 : va_at D vwCl (i, .inr (14, [.int x, .int y, .int z, .ref a])) H_2 := hs_1.1
  refine lv_aload_n hx hb dJ8_init_5 rfl (lv_at hl 0 rfl) ?_
  refine W.objInit hx hb hown (hts _ q307) (hts _ q98) (hts _ q99) rfl (hl.1.trans hml.symm) rfl dJ8_init_6 (Nat.le_of_ble_eq_true rfl) (Nat.le_of_ble_eq_true rfl) ?_
  refine lv_aload_n hx hb dJ8_init_9 rfl (lv_at hl 0 rfl) ?_
  refine lv_iconst (v := -1) hx hb dJ8_init_10 (by decide) ?_
  refine r_put (C := RJ8) (T := TJ8) (N := 4) hx hb hts in_J8 tyJ8 tyJ8_ok nmJ8 hown hK hS h_4 hFi rfl 1 (by decide) (hts _ q309) (fun _ h => h) rfl rfl rfl (Nat.le_of_ble_eq_true rfl) dJ8_init_11 (fun H_6 locs hs_5 hS => ?_)
  have h_7 := atK h_3 hs_5 (at_ne h_3 h_4 (K_cc hK (i := 10) (j := 14) rfl rfl (by decide)))
  have h_8 : va_at D vwCl (i, .inr (14, [.int x, .int (-1 : Int32), .int z, .ref a])) H_6 := hs_5.1
  refine lv_aload_n hx hb dJ8_init_14 rfl (lv_at hl 0 rfl) ?_
  refine lv_aload_n hx hb dJ8_init_15 rfl (lv_at hl 0 rfl) ?_
  refine r_get (C := RJ8) (T := TJ8) (N := 4) hx hb hts in_J8 hown hK h_8 rfl 3 (by decide) (hts _ q311) (fun _ h => h) (v := .ref a) rfl dJ8_init_16 ?_
  refine r_get (C := RJ2) (T := TJ2) (N := 3) hx hb hts in_J2 hown hK h_7 rfl 0 (by decide) (hts _ q127) (fun _ h => u_same (hts _ q128) _ h) (v := .int mo) rfl dJ8_init_19 ?_
  refine r_put (C := RJ8) (T := TJ8) (N := 4) hx hb hts in_J8 tyJ8 tyJ8_ok nmJ8 hown hK hS h_8 hFi rfl 2 (by decide) (hts _ q310) (fun _ h => h) rfl rfl rfl (Nat.le_of_ble_eq_true rfl) dJ8_init_22 (fun H_10 locs hs_9 hS => ?_)
  have h_11 := atK h_7 hs_9 (at_ne h_7 h_8 (K_cc hK (i := 10) (j := 14) rfl rfl (by decide)))
  have h_12 : va_at D vwCl (i, .inr (14, [.int x, .int (-1 : Int32), .int mo, .ref a])) H_10 := hs_9.1
  subst hQe
  refine W.widen (k := 0) (n := 0) (by first | decide | omega) (by first | decide | omega) ?_
  exact W.vret hx hb hr (fun t ht hW => ⟨⟨H_10, rfl, h_12, ht⟩, hS.F ht⟩) hS.2.2 dJ8_init_25

set_option maxHeartbeats 4000000 in
set_option maxRecDepth 100000 in
theorem met_J2_iterator (l : Launch) (D : va_G) (cA : Nat → ClassId) (Z : Nat → Nat) (F : Nat → Prop) (H : Heap) {a : Nat} {mo : Int32} {ed n : Nat} (ha : va_at D vwCl (a, .inr (10, [.int mo, .ref ed, .int (nI n)])) H) (hF : ∀ q, H.size ≤ q → F q) : Met l yJ2_iterator (ws_ yJ2_iterator cJ2_iterator 1 (some (.object "java/util/Iterator"))) (rmL 2 1 4) (cP D cA Z F H [.ref a]) (va_Qq (fun (r : Option Nat) (H1 : Heap) => ∃ b : Nat, r = some b ∧ H.size ≤ b ∧ va_at D vwCl (b, .inr (14, [.int (0 : Int32), .int (-1), .int mo, .ref a])) H1) (fun (H1 : Heap) (t : State) => t.heap = H1) F) 1 4 F := by
  refine Met.ofW (cc := cJ2_iterator) (maxL := 1) (ret := (some (.object "java/util/Iterator"))) (by decide) rfl ?_
  intro p e s m args below meth c s₁ Bd hml hv
  obtain ⟨rfl, hh, hK, hE, hZn⟩ := hv
  subst hh
  have hx := Bd.exec
  have hb := Bd.bytes
  have hr := Bd.returns
  have hts := atoms_spec (ws := (ws_ yJ2_iterator cJ2_iterator 1 (some (.object "java/util/Iterator")))) Bd.pre
  have hts : ∀ w ∈ lw_all, w.before _ s = true := fun w h => hts w (List.mem_cons_of_mem _ h)
  have hown : s.vm.findClass RJ2 = some m.cls := findClass_of_methodNamed Bd.named
  have hlocks := Bd.notSynchronized
  have hS : va_S F s.heap s.heap [] := va_S.rf
  have hl := lv_entry ([.ref a]) (n := 1) (Nat.le_of_ble_eq_true rfl)
  rw [lg_entry_eq]
  generalize (lg_sl ([.ref a]) ++ List.replicate (1 - (lg_sl ([.ref a])).length) Slot.unset).toArray = ls at hl ⊢
  have hl : lv_has ls 1 [(0, .ref a)] := hl
  refine W.gq fun Q0 hQe => ?_
  have h0q_3 := hS.1
  refine r_new (C := RJ8) (T := TJ8) (N := 4) (ci := 14) (fs := [.int (0 : Int32), .int (0 : Int32), .int (0 : Int32), .null]) hx hb hts in_J8 tyJ8 tyJ8_ok hown (hts _ q302) (hts _ q303) (hts _ q73) hK hS rfl (fun j hj => by match j, hj with | 0, _ => rfl | 1, _ => rfl | 2, _ => rfl | 3, _ => rfl) (by decide) (by decide) dJ2_iterator_0 (fun H_2 hs_1 hS => ?_)
  have zq_3 := hF _ (h0q_3 : s.heap.size ≤ s.heap.size)
  have h_5 := atN ha hs_1
  have h_4 := hs_1.1
  have nq_3_x_6 := Nat.ne_of_lt (at_lt ha)
  have nq_3_x_7 := Nat.ne_of_lt (Nat.lt_of_lt_of_le (at_lt ha) h0q_3)
  have lq_3 : s.heap.size < H_2.size := at_lt h_4
  generalize eq_3 : s.heap.size = q_3 at zq_3 h_4 lq_3 nq_3_x_7 ⊢
  have h0q_3 : s.heap.size ≤ q_3 := Nat.le_of_eq eq_3
  refine lv_dup hx hb dJ2_iterator_3 rfl ?_
  refine lv_aload_n hx hb dJ2_iterator_4 rfl (lv_at hl 0 rfl) ?_
  have hSo := hS
  refine va_callv (va_runI (As := [.ref a]) (rest := [.ref q_3]) ⟨hx, hb, hml, hown, hts⟩ (met_J8_init l D cA Z (fun q => q = q_3) H_2 (mo := mo) (x := (0 : Int32)) (y := (0 : Int32)) (z := (0 : Int32)) (o := none) (ed := ed) (n := n) h_4 h_5 rfl) (cwI 1 hts (lw_meth q306) rfl rfl rfl (hts _ q73) (hts _ q304) (hts _ q305) rfl (by decide +kernel) ⟨Nat.le_of_ble_eq_true rfl, Nat.le_of_ble_eq_true rfl⟩) (cP_S hK hE (En.narrow (hZn.kept hS.c) (fun q h => by subst h; exact zq_3))) rfl rfl hl.1 rfl (lv_room (Nat.le_of_ble_eq_true rfl)) dJ2_iterator_5 ⟨Nat.le_of_ble_eq_true rfl, Nat.le_of_ble_eq_true rfl⟩) hS (fun q _ h => (fun q h => by subst h; exact zq_3) q h) (fun q h => by subst h; exact zq_3) (fun H_9 t H_9x locs ht _ hr_8 hB hz hk hS => ?_)
  obtain rfl : H_9x = H_9 := ht.symm.trans hB
  have hz_10 : hC (fun q => q = q_3) H_2 H_9x := ⟨hz, hk⟩
  clear hz hk hB ht
  have h_11 := atC h_5 hz_10 (fun h => absurd h nq_3_x_7)
  have h_12 := hr_8
  subst hQe
  refine W.widen (k := 1) (n := 4) (by first | decide | omega) (by first | decide | omega) ?_
  exact W.aret hx hb hr (Or.inl ⟨_, rfl⟩) (Or.inr ⟨_, rfl⟩) (fun t ht hW => ⟨⟨some q_3, H_9x, rfl, ⟨q_3, rfl, h0q_3, h_12⟩, ht⟩, hS.F ht⟩) hS.2.2 dJ2_iterator_8

set_option maxHeartbeats 4000000 in
set_option maxRecDepth 100000 in
theorem met_J8_hasNext (l : Launch) (D : va_G) (cA : Nat → ClassId) (Z : Nat → Nat) (F : Nat → Prop) (H : Heap) {i : Nat} {lr mo m2 : Int32} {a ed n k : Nat} (hi : va_at D vwCl (i, .inr (14, [.int (nI k), .int lr, .int m2, .ref a])) H) (ha : va_at D vwCl (a, .inr (10, [.int mo, .ref ed, .int (nI n)])) H) (hk : k ≤ n) (hn : n ≤ 10) : Met l yJ8_hasNext (ws_ yJ8_hasNext cJ8_hasNext 1 (some .boolean)) (rmL 1 0 0) (cP D cA Z F H [.ref i]) (vp_Si (fun r => pB r (decide (k < n)))) 0 0 (fun _ => False) := by
  refine Met.ofW (cc := cJ8_hasNext) (maxL := 1) (ret := (some .boolean)) (by decide) rfl ?_
  intro p e s m args below meth c s₁ Bd hml hv
  obtain ⟨rfl, hh, hK, hE, hZn⟩ := hv
  subst hh
  have hx := Bd.exec
  have hb := Bd.bytes
  have hr := Bd.returns
  have hts := atoms_spec (ws := (ws_ yJ8_hasNext cJ8_hasNext 1 (some .boolean))) Bd.pre
  have hts : ∀ w ∈ lw_all, w.before _ s = true := fun w h => hts w (List.mem_cons_of_mem _ h)
  have hown : s.vm.findClass RJ8 = some m.cls := findClass_of_methodNamed Bd.named
  have hlocks := Bd.notSynchronized
  have hS : va_S F s.heap s.heap [] := va_S.rf
  have hl := lv_entry ([.ref i]) (n := 1) (Nat.le_of_ble_eq_true rfl)
  rw [lg_entry_eq]
  generalize (lg_sl ([.ref i]) ++ List.replicate (1 - (lg_sl ([.ref i])).length) Slot.unset).toArray = ls at hl ⊢
  have hl : lv_has ls 1 [(0, .ref i)] := hl
  refine W.gq fun Q0 hQe => ?_
  refine lv_aload_n hx hb dJ8_hasNext_0 rfl (lv_at hl 0 rfl) ?_
  refine r_get (C := RJ8) (T := TJ8) (N := 4) hx hb hts in_J8 hown hK hi rfl 0 (by decide) (hts _ q308) (fun _ h => h) (v := .int (nI k)) rfl dJ8_hasNext_1 ?_
  refine lv_aload_n hx hb dJ8_hasNext_4 rfl (lv_at hl 0 rfl) ?_
  refine r_get (C := RJ8) (T := TJ8) (N := 4) hx hb hts in_J8 hown hK hi rfl 3 (by decide) (hts _ q311) (fun _ h => h) (v := .ref a) rfl dJ8_hasNext_5 ?_
  refine r_getN (C := RJ2) (T := TJ2) (N := 3) hx hb hts in_J2 hown hK ha rfl 2 (by decide) (hE.1 _ _ _ _ _ _ q124) (fun _ h => h) (v := .int (nI n)) rfl dJ8_hasNext_8 ?_
  refine lv_icmp_eq (tgt := 18) hx hb dJ8_hasNext_11 (by decide) (fun c11_b_1 => ?_) (fun c11_b_1 => ?_)
  · skip
    have nc11_b_1 := neqT (a := k) (b := n) rfl rfl (by omega) (by omega) c11_b_1
    refine lv_iconst (v := 0) hx hb dJ8_hasNext_18 (by decide) ?_
    subst hQe
    exact W.zret hx hb hr rfl (fun t ht hW => ⟨_, rfl, (Or.inr ⟨rfl, by simp; omega⟩), ht⟩) (fun _ h => absurd h List.not_mem_nil) dJ8_hasNext_19
  · skip
    have nc11_b_1 := neqF (a := k) (b := n) rfl rfl (by omega) (by omega) c11_b_1
    refine lv_iconst (v := 1) hx hb dJ8_hasNext_14 (by decide) ?_
    refine lv_goto (tgt := 19) hx hb dJ8_hasNext_15 (by decide) ?_
    subst hQe
    exact W.zret hx hb hr rfl (fun t ht hW => ⟨_, rfl, (Or.inl ⟨rfl, by simp; omega⟩), ht⟩) (fun _ h => absurd h List.not_mem_nil) dJ8_hasNext_19

set_option maxHeartbeats 4000000 in
set_option maxRecDepth 100000 in
theorem met_J8_checkForComodification (l : Launch) (D : va_G) (cA : Nat → ClassId) (Z : Nat → Nat) (F : Nat → Prop) (H : Heap) {i : Nat} {lr mo : Int32} {a ed n k : Nat} (hi : va_at D vwCl (i, .inr (14, [.int (nI k), .int lr, .int mo, .ref a])) H) (ha : va_at D vwCl (a, .inr (10, [.int mo, .ref ed, .int (nI n)])) H) : Met l yJ8_checkForComodification (ws_ yJ8_checkForComodification cJ8_checkForComodification 1 none) (rmL 1 0 0) (cP D cA Z F H [.ref i]) (va_Sv (fun _ => True)) 0 0 (fun _ => False) := by
  refine Met.ofW (cc := cJ8_checkForComodification) (maxL := 1) (ret := none) (by decide) rfl ?_
  intro p e s m args below meth c s₁ Bd hml hv
  obtain ⟨rfl, hh, hK, hE, hZn⟩ := hv
  subst hh
  have hx := Bd.exec
  have hb := Bd.bytes
  have hr := Bd.returns
  have hts := atoms_spec (ws := (ws_ yJ8_checkForComodification cJ8_checkForComodification 1 none)) Bd.pre
  have hts : ∀ w ∈ lw_all, w.before _ s = true := fun w h => hts w (List.mem_cons_of_mem _ h)
  have hown : s.vm.findClass RJ8 = some m.cls := findClass_of_methodNamed Bd.named
  have hlocks := Bd.notSynchronized
  have hS : va_S F s.heap s.heap [] := va_S.rf
  have hl := lv_entry ([.ref i]) (n := 1) (Nat.le_of_ble_eq_true rfl)
  rw [lg_entry_eq]
  generalize (lg_sl ([.ref i]) ++ List.replicate (1 - (lg_sl ([.ref i])).length) Slot.unset).toArray = ls at hl ⊢
  have hl : lv_has ls 1 [(0, .ref i)] := hl
  refine W.gq fun Q0 hQe => ?_
  refine lv_aload_n hx hb dJ8_checkForComodification_0 rfl (lv_at hl 0 rfl) ?_
  refine r_get (C := RJ8) (T := TJ8) (N := 4) hx hb hts in_J8 hown hK hi rfl 3 (by decide) (hts _ q311) (fun _ h => h) (v := .ref a) rfl dJ8_checkForComodification_1 ?_
  refine r_get (C := RJ2) (T := TJ2) (N := 3) hx hb hts in_J2 hown hK ha rfl 0 (by decide) (hts _ q127) (fun _ h => u_same (hts _ q128) _ h) (v := .int mo) rfl dJ8_checkForComodification_4 ?_
  refine lv_aload_n hx hb dJ8_checkForComodification_7 rfl (lv_at hl 0 rfl) ?_
  refine r_get (C := RJ8) (T := TJ8) (N := 4) hx hb hts in_J8 hown hK hi rfl 2 (by decide) (hts _ q310) (fun _ h => h) (v := .int mo) rfl dJ8_checkForComodification_8 ?_
  refine lv_icmp_eq (tgt := 22) hx hb dJ8_checkForComodification_11 (by decide) (fun c11_b_1 => ?_) (fun c11_b_1 => absurd rfl c11_b_1)
  subst hQe
  exact W.vret hx hb hr (fun t ht hW => ⟨rfl, trivial, ht⟩) (fun _ h => absurd h List.not_mem_nil) dJ8_checkForComodification_22

set_option maxHeartbeats 4000000 in
set_option maxRecDepth 100000 in
theorem met_J8_next (l : Launch) (D : va_G) (cA : Nat → ClassId) (Z : Nat → Nat) (F : Nat → Prop) (H : Heap) {i : Nat} {lr mo : Int32} {a ed n k : Nat} {f : Nat → Option Nat} (hi : va_at D vwCl (i, .inr (14, [.int (nI k), .int lr, .int mo, .ref a])) H) (ha : va_at D vwCl (a, .inr (10, [.int mo, .ref ed, .int (nI n)])) H) (he : va_at D vwCl (ed, .inl (cA 3, 10, .inr (.inr (.inr (.inr f))))) H) (hFi : F i) (hk : k < n) (hn : n ≤ 10) : Met l yJ8_next (ws_ yJ8_next cJ8_next 3 (some (.object "java/lang/Object"))) (rmL 2 0 0) (cP D cA Z F H [.ref i]) (va_Qq (fun (r : Option Nat) (H1 : Heap) => r = f k ∧ va_at D vwCl (i, .inr (14, [.int (nI (k + 1)), .int (nI k), .int mo, .ref a])) H1) (fun (H1 : Heap) (t : State) => t.heap = H1) F) 0 0 F := by
  refine Met.ofW (cc := cJ8_next) (maxL := 3) (ret := (some (.object "java/lang/Object"))) (by decide) rfl ?_
  intro p e s m args below meth c s₁ Bd hml hv
  obtain ⟨rfl, hh, hK, hE, hZn⟩ := hv
  subst hh
  have hx := Bd.exec
  have hb := Bd.bytes
  have hr := Bd.returns
  have hts := atoms_spec (ws := (ws_ yJ8_next cJ8_next 3 (some (.object "java/lang/Object")))) Bd.pre
  have hts : ∀ w ∈ lw_all, w.before _ s = true := fun w h => hts w (List.mem_cons_of_mem _ h)
  have hown : s.vm.findClass RJ8 = some m.cls := findClass_of_methodNamed Bd.named
  have hlocks := Bd.notSynchronized
  have hS : va_S F s.heap s.heap [] := va_S.rf
  have hl := lv_entry ([.ref i]) (n := 3) (Nat.le_of_ble_eq_true rfl)
  rw [lg_entry_eq]
  generalize (lg_sl ([.ref i]) ++ List.replicate (3 - (lg_sl ([.ref i])).length) Slot.unset).toArray = ls at hl ⊢
  have hl : lv_has ls 3 [(0, .ref i)] := hl
  refine W.gq fun Q0 hQe => ?_
  refine lv_aload_n hx hb dJ8_next_0 rfl (lv_at hl 0 rfl) ?_
  refine va_csv (W.runV (As := []) (rest := []) ⟨hx, hb, hml, hown, hts⟩ (met_J8_checkForComodification l D cA Z (fun _ => False) s.heap (lr := lr) (mo := mo) (a := a) (ed := ed) (n := n) (k := k) hi ha) (cwV 0 hts (lw_V q340 q341 q342 q73 q343) rfl rfl rfl (by decide +kernel) ⟨Nat.le_of_ble_eq_true rfl, Nat.le_of_ble_eq_true rfl⟩) (cP_V hK hE (En.narrow hZn (fun _ h => h.elim)) (rcv hK hi rfl)) rfl rfl hl.1 rfl (lv_room (Nat.le_of_ble_eq_true rfl)) dJ8_next_1 ⟨Nat.le_of_ble_eq_true rfl, Nat.le_of_ble_eq_true rfl⟩) (fun _ => ?_)
  refine lv_aload_n hx hb dJ8_next_4 rfl (lv_at hl 0 rfl) ?_
  refine r_get (C := RJ8) (T := TJ8) (N := 4) hx hb hts in_J8 hown hK hi rfl 0 (by decide) (hts _ q308) (fun _ h => h) (v := .int (nI k)) rfl dJ8_next_5 ?_
  refine lv_istore_n (lv' := [(1, .int (nI k)), (0, .ref i)]) hx hb dJ8_next_8 rfl hl (by decide) rfl (fun ls hl => ?_)
  refine lv_iload_n hx hb dJ8_next_9 rfl (lv_at hl 0 rfl) ?_
  refine lv_aload_n hx hb dJ8_next_10 rfl (lv_at hl 1 rfl) ?_
  refine r_get (C := RJ8) (T := TJ8) (N := 4) hx hb hts in_J8 hown hK hi rfl 3 (by decide) (hts _ q311) (fun _ h => h) (v := .ref a) rfl dJ8_next_11 ?_
  refine r_getN (C := RJ2) (T := TJ2) (N := 3) hx hb hts in_J2 hown hK ha rfl 2 (by decide) (hE.1 _ _ _ _ _ _ q124) (fun _ h => h) (v := .int (nI n)) rfl dJ8_next_14 ?_
  refine lv_icmp_lt (tgt := 28) hx hb dJ8_next_17 (by decide) (fun c17_b_2 => ?_) (fun c17_b_2 => absurd (nI_lt hk (by omega)) c17_b_2)
  refine lv_aload_n hx hb dJ8_next_28 rfl (lv_at hl 1 rfl) ?_
  refine r_get (C := RJ8) (T := TJ8) (N := 4) hx hb hts in_J8 hown hK hi rfl 3 (by decide) (hts _ q311) (fun _ h => h) (v := .ref a) rfl dJ8_next_29 ?_
  refine r_get (C := RJ2) (T := TJ2) (N := 3) hx hb hts in_J2 hown hK ha rfl 1 (by decide) (hts _ q123) (fun _ h => h) (v := .ref ed) rfl dJ8_next_32 ?_
  refine lv_astore_n (lv' := [(2, .ref ed), (1, .int (nI k)), (0, .ref i)]) hx hb dJ8_next_35 rfl hl (by decide) rfl (fun ls hl => ?_)
  refine lv_iload_n hx hb dJ8_next_36 rfl (lv_at hl 1 rfl) ?_
  refine lv_aload_n hx hb dJ8_next_37 rfl (lv_at hl 0 rfl) ?_
  refine r_alen hx hb hK he 3 rfl (v := (10 : Int32)) rfl dJ8_next_38 ?_
  refine lv_icmp_lt (tgt := 50) hx hb dJ8_next_39 (by decide) (fun c39_b_3 => ?_) (fun c39_b_3 => absurd (nI_lt (a := k) (b := 10) (by omega) (by decide)) c39_b_3)
  refine lv_aload_n hx hb dJ8_next_50 rfl (lv_at hl 2 rfl) ?_
  refine lv_iload_n hx hb dJ8_next_51 rfl (lv_at hl 1 rfl) ?_
  refine lv_iconst (v := 1) hx hb dJ8_next_52 (by decide) ?_
  refine lv_iadd hx hb dJ8_next_53 ?_
  rw [show ((nI k) + (1 : Int32)) = nI (k + 1) from (ixA rfl rfl)]
  refine r_put (C := RJ8) (T := TJ8) (N := 4) hx hb hts in_J8 tyJ8 tyJ8_ok nmJ8 hown hK hS hi hFi rfl 0 (by decide) (hts _ q308) (fun _ h => h) rfl rfl rfl (Nat.le_of_ble_eq_true rfl) dJ8_next_54 (fun H_5 locs hs_4 hS => ?_)
  have h_6 := atK ha hs_4 (at_ne ha hi (K_cc hK (i := 10) (j := 14) rfl rfl (by decide)))
  have h_7 := atK he hs_4 (at_ne he hi (Ne.symm (K_ca hK (i := 14) 3 rfl rfl (by decide))))
  have h_8 : va_at D vwCl (i, .inr (14, [.int (nI (k + 1)), .int lr, .int mo, .ref a])) H_5 := hs_4.1
  refine lv_aload_n hx hb dJ8_next_57 rfl (lv_at hl 0 rfl) ?_
  refine lv_aload_n hx hb dJ8_next_58 rfl (lv_at hl 2 rfl) ?_
  refine lv_iload_n hx hb dJ8_next_59 rfl (lv_at hl 1 rfl) ?_
  refine lv_dup_x1 hx hb dJ8_next_60 rfl rfl ?_
  refine r_put (C := RJ8) (T := TJ8) (N := 4) hx hb hts in_J8 tyJ8 tyJ8_ok nmJ8 hown hK hS h_8 hFi rfl 1 (by decide) (hts _ q309) (fun _ h => h) rfl rfl rfl (Nat.le_of_ble_eq_true rfl) dJ8_next_61 (fun H_10 locs hs_9 hS => ?_)
  have h_11 := atK h_6 hs_9 (at_ne h_6 h_8 (K_cc hK (i := 10) (j := 14) rfl rfl (by decide)))
  have h_12 := atK h_7 hs_9 (at_ne h_7 h_8 (Ne.symm (K_ca hK (i := 14) 3 rfl rfl (by decide))))
  have h_13 : va_at D vwCl (i, .inr (14, [.int (nI (k + 1)), .int (nI k), .int mo, .ref a])) H_10 := hs_9.1
  refine r_aald hx hb hK h_12 3 rfl k rfl (by omega) (by decide) (v := va_rf (f k)) rfl dJ8_next_64 ?_
  subst hQe
  refine W.widen (k := 0) (n := 0) (by first | decide | omega) (by first | decide | omega) ?_
  exact W.aret hx hb hr (Or.inl ⟨_, rfl⟩) (va_rf_or _) (fun t ht hW => ⟨⟨(f k), H_10, rfl, ⟨rfl, h_13⟩, ht⟩, hS.F ht⟩) hS.2.2 dJ8_next_65
