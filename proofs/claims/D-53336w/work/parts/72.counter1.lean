set_option maxHeartbeats 4000000 in
set_option maxRecDepth 100000 in
theorem met_X2_heaviest (l : Launch) (D : va_G) (cA : Nat → ClassId) (Z : Nat → Nat) (F : Nat → Prop) (H : Heap) {ad : Nat → Nat} {f : Nat → Int32} {n p' : Nat} {mo : Nat → Int32} {B : Nat} {j : Nat} (hR : CR D cA Z H ad f n p' mo) (hI : tk_ok B f) (hj : j < 4) : Met l yX2_heaviest (ws_ yX2_heaviest cX2_heaviest 2 (some .int)) (rmL 1 0 0) (cP D cA Z F H [.ref (ad 0), .int (nI j)]) (vp_Si (fun r => r = f j + f (4 + j))) 0 0 (fun _ => False) := by
  refine Met.ofW (cc := cX2_heaviest) (maxL := 2) (ret := (some .int)) (by decide) rfl ?_
  intro p e s m args below meth c s₁ Bd hml hv
  obtain ⟨rfl, hh, hK, hE, hZn⟩ := hv
  subst hh
  have hx := Bd.exec
  have hb := Bd.bytes
  have hr := Bd.returns
  have hts := atoms_spec (ws := (ws_ yX2_heaviest cX2_heaviest 2 (some .int))) Bd.pre
  have hts : ∀ w ∈ lw_all, w.before _ s = true := fun w h => hts w (List.mem_cons_of_mem _ h)
  have hown : s.vm.findClass RX2 = some m.cls := findClass_of_methodNamed Bd.named
  have hlocks := Bd.notSynchronized
  have hS : va_S F s.heap s.heap [] := va_S.rf
  have hl := lv_entry ([.ref (ad 0), .int (nI j)]) (n := 2) (Nat.le_of_ble_eq_true rfl)
  rw [lg_entry_eq]
  generalize (lg_sl ([.ref (ad 0), .int (nI j)]) ++ List.replicate (2 - (lg_sl ([.ref (ad 0), .int (nI j)])).length) Slot.unset).toArray = ls at hl ⊢
  have hl : lv_has ls 2 [(0, .ref (ad 0)), (1, .int (nI j))] := hl
  refine W.gq fun Q0 hQe => ?_
  refine lv_aload_n hx hb dX2_heaviest_0 rfl (lv_at hl 0 rfl) ?_
  refine r_get (C := RX2) (T := TX2) (N := 10) hx hb hts in_X2 hown hK hR.obj rfl 0 (by decide) (hts _ q138) (fun _ h => h) (v := .ref (ad 1)) rfl dX2_heaviest_1 ?_
  refine lv_iload_n hx hb dX2_heaviest_4 rfl (lv_at hl 1 rfl) ?_
  refine r_iald hx hb hK hR.wei 0 rfl j rfl (by omega) (by decide) dX2_heaviest_5 ?_
  refine lv_aload_n hx hb dX2_heaviest_6 rfl (lv_at hl 0 rfl) ?_
  refine r_get (C := RX2) (T := TX2) (N := 10) hx hb hts in_X2 hown hK hR.obj rfl 1 (by decide) (hts _ q140) (fun _ h => h) (v := .ref (ad 2)) rfl dX2_heaviest_7 ?_
  refine lv_iload_n hx hb dX2_heaviest_10 rfl (lv_at hl 1 rfl) ?_
  refine r_iald hx hb hK hR.spr 0 rfl j rfl (by omega) (by decide) dX2_heaviest_11 ?_
  refine lv_iadd hx hb dX2_heaviest_12 ?_
  subst hQe
  exact W.iret hx hb hr (fun t ht hW => ⟨_, rfl, rfl, ht⟩) (fun _ h => absurd h List.not_mem_nil) dX2_heaviest_13

set_option maxHeartbeats 4000000 in
set_option maxRecDepth 100000 in
theorem met_X2_lightest (l : Launch) (D : va_G) (cA : Nat → ClassId) (Z : Nat → Nat) (F : Nat → Prop) (H : Heap) {ad : Nat → Nat} {f : Nat → Int32} {n p' : Nat} {mo : Nat → Int32} {B : Nat} {j : Nat} (hR : CR D cA Z H ad f n p' mo) (hI : tk_ok B f) (hj : j < 4) : Met l yX2_lightest (ws_ yX2_lightest cX2_lightest 2 (some .int)) (rmL 1 0 0) (cP D cA Z F H [.ref (ad 0), .int (nI j)]) (vp_Si (fun r => r = f j - f (4 + j))) 0 0 (fun _ => False) := by
  refine Met.ofW (cc := cX2_lightest) (maxL := 2) (ret := (some .int)) (by decide) rfl ?_
  intro p e s m args below meth c s₁ Bd hml hv
  obtain ⟨rfl, hh, hK, hE, hZn⟩ := hv
  subst hh
  have hx := Bd.exec
  have hb := Bd.bytes
  have hr := Bd.returns
  have hts := atoms_spec (ws := (ws_ yX2_lightest cX2_lightest 2 (some .int))) Bd.pre
  have hts : ∀ w ∈ lw_all, w.before _ s = true := fun w h => hts w (List.mem_cons_of_mem _ h)
  have hown : s.vm.findClass RX2 = some m.cls := findClass_of_methodNamed Bd.named
  have hlocks := Bd.notSynchronized
  have hS : va_S F s.heap s.heap [] := va_S.rf
  have hl := lv_entry ([.ref (ad 0), .int (nI j)]) (n := 2) (Nat.le_of_ble_eq_true rfl)
  rw [lg_entry_eq]
  generalize (lg_sl ([.ref (ad 0), .int (nI j)]) ++ List.replicate (2 - (lg_sl ([.ref (ad 0), .int (nI j)])).length) Slot.unset).toArray = ls at hl ⊢
  have hl : lv_has ls 2 [(0, .ref (ad 0)), (1, .int (nI j))] := hl
  refine W.gq fun Q0 hQe => ?_
  refine lv_aload_n hx hb dX2_lightest_0 rfl (lv_at hl 0 rfl) ?_
  refine r_get (C := RX2) (T := TX2) (N := 10) hx hb hts in_X2 hown hK hR.obj rfl 0 (by decide) (hts _ q138) (fun _ h => h) (v := .ref (ad 1)) rfl dX2_lightest_1 ?_
  refine lv_iload_n hx hb dX2_lightest_4 rfl (lv_at hl 1 rfl) ?_
  refine r_iald hx hb hK hR.wei 0 rfl j rfl (by omega) (by decide) dX2_lightest_5 ?_
  refine lv_aload_n hx hb dX2_lightest_6 rfl (lv_at hl 0 rfl) ?_
  refine r_get (C := RX2) (T := TX2) (N := 10) hx hb hts in_X2 hown hK hR.obj rfl 1 (by decide) (hts _ q140) (fun _ h => h) (v := .ref (ad 2)) rfl dX2_lightest_7 ?_
  refine lv_iload_n hx hb dX2_lightest_10 rfl (lv_at hl 1 rfl) ?_
  refine r_iald hx hb hK hR.spr 0 rfl j rfl (by omega) (by decide) dX2_lightest_11 ?_
  refine lv_isub hx hb dX2_lightest_12 ?_
  subst hQe
  exact W.iret hx hb hr (fun t ht hW => ⟨_, rfl, rfl, ht⟩) (fun _ h => absurd h List.not_mem_nil) dX2_lightest_13

set_option maxHeartbeats 4000000 in
set_option maxRecDepth 100000 in
theorem met_X2_read_2 (l : Launch) (D : va_G) (cA : Nat → ClassId) (Z : Nat → Nat) (F : Nat → Prop) (H : Heap) {a : Nat}  {ld : Int32} {its : Int32} (hs1 : 1 ≤ its.toInt) (hs2 : its.toInt ≤ 1000) (hl1 : -536870912 ≤ ld.toInt) (hl2 : ld.toInt ≤ 536870912) : Met l yX2_read_2 (ws_ yX2_read_2 cX2_read_2 3 (some .int)) (rmL 2 0 0) (cP D cA Z F H [.ref a, .int ld, .int its]) (vp_Si (fun r => r = tk_rd ld its)) 0 0 (fun _ => False) := by
  refine Met.ofW (cc := cX2_read_2) (maxL := 3) (ret := (some .int)) (by decide) rfl ?_
  intro p e s m args below meth c s₁ Bd hml hv
  obtain ⟨rfl, hh, hK, hE, hZn⟩ := hv
  subst hh
  have hx := Bd.exec
  have hb := Bd.bytes
  have hr := Bd.returns
  have hts := atoms_spec (ws := (ws_ yX2_read_2 cX2_read_2 3 (some .int))) Bd.pre
  have hts : ∀ w ∈ lw_all, w.before _ s = true := fun w h => hts w (List.mem_cons_of_mem _ h)
  have hown : s.vm.findClass RX2 = some m.cls := findClass_of_methodNamed Bd.named
  have hlocks := Bd.notSynchronized
  have hS : va_S F s.heap s.heap [] := va_S.rf
  have hl := lv_entry ([.ref a, .int ld, .int its]) (n := 3) (Nat.le_of_ble_eq_true rfl)
  rw [lg_entry_eq]
  generalize (lg_sl ([.ref a, .int ld, .int its]) ++ List.replicate (3 - (lg_sl ([.ref a, .int ld, .int its])).length) Slot.unset).toArray = ls at hl ⊢
  have hl : lv_has ls 3 [(0, .ref a), (1, .int ld), (2, .int its)] := hl
  refine W.gq fun Q0 hQe => ?_
  refine lv_iconst (v := 0) hx hb dX2_read_2_0 (by decide) ?_
  refine lv_iconst (v := 2) hx hb dX2_read_2_1 (by decide) ?_
  refine lv_iload_n hx hb dX2_read_2_2 rfl (lv_at hl 1 rfl) ?_
  refine lv_imul hx hb dX2_read_2_3 ?_
  refine lv_iload_n hx hb dX2_read_2_4 rfl (lv_at hl 2 rfl) ?_
  refine lv_iadd hx hb dX2_read_2_5 ?_
  refine lv_iconst (v := 2) hx hb dX2_read_2_6 (by decide) ?_
  refine lv_iload_n hx hb dX2_read_2_7 rfl (lv_at hl 2 rfl) ?_
  refine lv_imul hx hb dX2_read_2_8 ?_
  refine vp_callSi (W.runS (As := [.int (((2 : Int32) * ld) + its), .int ((2 : Int32) * its)]) (rest := [.int (0 : Int32)]) ⟨hx, hb, hml, hown, hts⟩ (met_J10_floorDiv l (((2 : Int32) * ld) + its) ((2 : Int32) * its) (p_s2n hs1 hs2)) (va_cwS 2 hts (lw_S q644 q645 q76 q646) rfl rfl rfl (by decide +kernel) ⟨Nat.le_of_ble_eq_true rfl, Nat.le_of_ble_eq_true rfl⟩) ⟨fun a U g mk q => q, fun U hU hW => ⟨rfl, trivial⟩⟩ rfl rfl hl.1 rfl (lv_room (Nat.le_of_ble_eq_true rfl)) dX2_read_2_9 ⟨Nat.le_of_ble_eq_true rfl, Nat.le_of_ble_eq_true rfl⟩) (fun r_1 hr_1 => ?_)
  subst hr_1
  refine lv_iload_n hx hb dX2_read_2_12 rfl (lv_at hl 2 rfl) ?_
  refine lv_imul hx hb dX2_read_2_13 ?_
  refine vp_callSi (W.runS (As := [.int (0 : Int32), .int ((jfd (((2 : Int32) * ld) + its) ((2 : Int32) * its)) * its)]) (rest := []) ⟨hx, hb, hml, hown, hts⟩ (met_J10_max l (0 : Int32) ((jfd (((2 : Int32) * ld) + its) ((2 : Int32) * its)) * its)) (va_cwS 2 hts (lw_S q540 q391 q76 q392) rfl rfl rfl (by decide +kernel) ⟨Nat.le_of_ble_eq_true rfl, Nat.le_of_ble_eq_true rfl⟩) ⟨fun a U g mk q => q, fun U hU hW => ⟨rfl, trivial⟩⟩ rfl rfl hl.1 rfl (lv_room (Nat.le_of_ble_eq_true rfl)) dX2_read_2_14 ⟨Nat.le_of_ble_eq_true rfl, Nat.le_of_ble_eq_true rfl⟩) (fun r_2 hr_2 => ?_)
  subst hr_2
  subst hQe
  exact W.iret hx hb hr (fun t ht hW => ⟨_, rfl, (by exact p_read hs1 hs2 hl1 hl2), ht⟩) (fun _ h => absurd h List.not_mem_nil) dX2_read_2_17

set_option maxHeartbeats 4000000 in
set_option maxRecDepth 100000 in
theorem met_X2_read (l : Launch) (D : va_G) (cA : Nat → ClassId) (Z : Nat → Nat) (F : Nat → Prop) (H : Heap) {ad : Nat → Nat} {f : Nat → Int32} {n p' : Nat} {mo : Nat → Int32} {B : Nat}  {ld : Int32} (hR : CR D cA Z H ad f n p' mo) (hI : tk_ok B f) (hl1 : -536870912 ≤ ld.toInt) (hl2 : ld.toInt ≤ 536870912) : Met l yX2_read (ws_ yX2_read cX2_read 2 (some .int)) (rmL 3 0 0) (cP D cA Z F H [.ref (ad 0), .int ld]) (vp_Si (fun r => r = tk_rd ld (f 8))) 0 0 (fun _ => False) := by
  refine Met.ofW (cc := cX2_read) (maxL := 2) (ret := (some .int)) (by decide) rfl ?_
  intro p e s m args below meth c s₁ Bd hml hv
  obtain ⟨rfl, hh, hK, hE, hZn⟩ := hv
  subst hh
  have hx := Bd.exec
  have hb := Bd.bytes
  have hr := Bd.returns
  have hts := atoms_spec (ws := (ws_ yX2_read cX2_read 2 (some .int))) Bd.pre
  have hts : ∀ w ∈ lw_all, w.before _ s = true := fun w h => hts w (List.mem_cons_of_mem _ h)
  have hown : s.vm.findClass RX2 = some m.cls := findClass_of_methodNamed Bd.named
  have hlocks := Bd.notSynchronized
  have hS : va_S F s.heap s.heap [] := va_S.rf
  have hl := lv_entry ([.ref (ad 0), .int ld]) (n := 2) (Nat.le_of_ble_eq_true rfl)
  rw [lg_entry_eq]
  generalize (lg_sl ([.ref (ad 0), .int ld]) ++ List.replicate (2 - (lg_sl ([.ref (ad 0), .int ld])).length) Slot.unset).toArray = ls at hl ⊢
  have hl : lv_has ls 2 [(0, .ref (ad 0)), (1, .int ld)] := hl
  refine W.gq fun Q0 hQe => ?_
  refine lv_aload_n hx hb dX2_read_0 rfl (lv_at hl 0 rfl) ?_
  refine lv_iload_n hx hb dX2_read_1 rfl (lv_at hl 1 rfl) ?_
  refine lv_aload_n hx hb dX2_read_2 rfl (lv_at hl 0 rfl) ?_
  refine r_get (C := RX2) (T := TX2) (N := 10) hx hb hts in_X2 hown hK hR.obj rfl 2 (by decide) (hts _ q142) (fun _ h => h) (v := .int (f 8)) rfl dX2_read_3 ?_
  refine vp_callSi (W.runV (As := [.int ld, .int (f 8)]) (rest := []) ⟨hx, hb, hml, hown, hts⟩ (met_X2_read_2 l D cA Z (fun _ => False) s.heap (ld := ld) (its := (f 8)) hI.2.1.1 hI.2.1.2 (by first | assumption | omega | decide) (by first | assumption | omega | decide)) (cwV 2 hts (lw_V q640 q642 qs8 q62 q643) rfl rfl rfl (by decide +kernel) ⟨Nat.le_of_ble_eq_true rfl, Nat.le_of_ble_eq_true rfl⟩) (cP_V hK hE (En.narrow hZn (fun _ h => h.elim)) (rcv hK hR.obj rfl)) rfl rfl hl.1 rfl (lv_room (Nat.le_of_ble_eq_true rfl)) dX2_read_6 ⟨Nat.le_of_ble_eq_true rfl, Nat.le_of_ble_eq_true rfl⟩) (fun r_1 hr_1 => ?_)
  subst hr_1
  subst hQe
  exact W.iret hx hb hr (fun t ht hW => ⟨_, rfl, rfl, ht⟩) (fun _ h => absurd h List.not_mem_nil) dX2_read_9
