set_option maxHeartbeats 4000000 in
set_option maxRecDepth 100000 in
theorem met_X0_isBetween (l : Launch) (v : Int32) (lo : Int32) (hi : Int32) : Met l yX0_isBetween (ws_ yX0_isBetween cX0_isBetween 3 (some .boolean)) (rmL 1 0 0) (va_Pc [.int v, .int lo, .int hi] (fun _ => True)) (vp_Si (fun r => pB r (tk_in v lo hi))) 0 0 (fun _ => False) := by
  refine Met.ofW (cc := cX0_isBetween) (maxL := 3) (ret := (some .boolean)) (by decide) rfl ?_
  intro p e s m args below meth c s₁ Bd hml hv
  obtain ⟨rfl, -⟩ := hv
  have hx := Bd.exec
  have hb := Bd.bytes
  have hr := Bd.returns
  have hts := atoms_spec (ws := (ws_ yX0_isBetween cX0_isBetween 3 (some .boolean))) Bd.pre
  have hts : ∀ w ∈ lw_all, w.before _ s = true := fun w h => hts w (List.mem_cons_of_mem _ h)
  have hown : s.vm.findClass RX0 = some m.cls := findClass_of_methodNamed Bd.named
  have hlocks := Bd.notSynchronized
  have hl := lv_entry ([.int v, .int lo, .int hi]) (n := 3) (Nat.le_of_ble_eq_true rfl)
  rw [lg_entry_eq]
  generalize (lg_sl ([.int v, .int lo, .int hi]) ++ List.replicate (3 - (lg_sl ([.int v, .int lo, .int hi])).length) Slot.unset).toArray = ls at hl ⊢
  have hl : lv_has ls 3 [(0, .int v), (1, .int lo), (2, .int hi)] := hl
  refine lv_iload_n hx hb dX0_isBetween_0 rfl (lv_at hl 0 rfl) ?_
  refine lv_iload_n hx hb dX0_isBetween_1 rfl (lv_at hl 1 rfl) ?_
  refine lv_icmp_lt (tgt := 14) hx hb dX0_isBetween_2 (by decide) (fun c2_b_1 => ?_) (fun c2_b_1 => ?_)
  · skip
    refine lv_iconst (v := 0) hx hb dX0_isBetween_14 (by decide) ?_
    exact W.zret hx hb hr rfl (fun t ht hW => ⟨_, rfl, (Or.inr ⟨rfl, by simp [tk_in, ← Int32.not_lt, c2_b_1]⟩), ht⟩) (fun _ h => absurd h List.not_mem_nil) dX0_isBetween_15
  · skip
    refine lv_iload_n hx hb dX0_isBetween_5 rfl (lv_at hl 0 rfl) ?_
    refine lv_iload_n hx hb dX0_isBetween_6 rfl (lv_at hl 2 rfl) ?_
    refine lv_icmp_gt (tgt := 14) hx hb dX0_isBetween_7 (by decide) (fun c7_b_2 => ?_) (fun c7_b_2 => ?_)
    · skip
      refine lv_iconst (v := 0) hx hb dX0_isBetween_14 (by decide) ?_
      exact W.zret hx hb hr rfl (fun t ht hW => ⟨_, rfl, (Or.inr ⟨rfl, by simp [tk_in, ← Int32.not_lt, c2_b_1, c7_b_2]⟩), ht⟩) (fun _ h => absurd h List.not_mem_nil) dX0_isBetween_15
    · skip
      refine lv_iconst (v := 1) hx hb dX0_isBetween_10 (by decide) ?_
      refine lv_goto (tgt := 15) hx hb dX0_isBetween_11 (by decide) ?_
      exact W.zret hx hb hr rfl (fun t ht hW => ⟨_, rfl, (Or.inl ⟨rfl, by simp [tk_in, ← Int32.not_lt, c2_b_1, c7_b_2]⟩), ht⟩) (fun _ h => absurd h List.not_mem_nil) dX0_isBetween_15

set_option maxHeartbeats 4000000 in
set_option maxRecDepth 100000 in
theorem met_X6_has (l : Launch) (D : va_G) (cA : Nat → ClassId) (Z : Nat → Nat) (F : Nat → Prop) (H : Heap) {a : Nat} {lo hi : Int32} {v : Int32} (ha : va_at D vwCl (a, .inr (6, [.int lo, .int hi])) H) : Met l yX6_has (ws_ yX6_has cX6_has 2 (some .boolean)) (rmL 2 0 0) (cP D cA Z F H [.ref a, .int v]) (vp_Si (fun r => pB r (tk_in v lo hi))) 0 0 (fun _ => False) := by
  refine Met.ofW (cc := cX6_has) (maxL := 2) (ret := (some .boolean)) (by decide) rfl ?_
  intro p e s m args below meth c s₁ Bd hml hv
  obtain ⟨rfl, hh, hK, hE, hZn⟩ := hv
  subst hh
  have hx := Bd.exec
  have hb := Bd.bytes
  have hr := Bd.returns
  have hts := atoms_spec (ws := (ws_ yX6_has cX6_has 2 (some .boolean))) Bd.pre
  have hts : ∀ w ∈ lw_all, w.before _ s = true := fun w h => hts w (List.mem_cons_of_mem _ h)
  have hown : s.vm.findClass RX6 = some m.cls := findClass_of_methodNamed Bd.named
  have hlocks := Bd.notSynchronized
  have hS : va_S F s.heap s.heap [] := va_S.rf
  have hl := lv_entry ([.ref a, .int v]) (n := 2) (Nat.le_of_ble_eq_true rfl)
  rw [lg_entry_eq]
  generalize (lg_sl ([.ref a, .int v]) ++ List.replicate (2 - (lg_sl ([.ref a, .int v])).length) Slot.unset).toArray = ls at hl ⊢
  have hl : lv_has ls 2 [(0, .ref a), (1, .int v)] := hl
  refine W.gq fun Q0 hQe => ?_
  refine lv_iload_n hx hb dX6_has_0 rfl (lv_at hl 1 rfl) ?_
  refine lv_aload_n hx hb dX6_has_1 rfl (lv_at hl 0 rfl) ?_
  refine r_get (C := RX6) (T := TX6) (N := 2) hx hb hts in_X6 hown hK ha rfl 0 (by decide) (hts _ q663) (fun _ h => h) (v := .int lo) rfl dX6_has_2 ?_
  refine lv_aload_n hx hb dX6_has_5 rfl (lv_at hl 0 rfl) ?_
  refine r_get (C := RX6) (T := TX6) (N := 2) hx hb hts in_X6 hown hK ha rfl 1 (by decide) (hts _ q667) (fun _ h => h) (v := .int hi) rfl dX6_has_6 ?_
  refine vp_callSi (toCR (va_runSN (As := [.int v, .int lo, .int hi]) (rest := []) ⟨hx, hb, hml, hown, hts⟩ (met_X0_isBetween l v lo hi) ⟨va_cnB 3 hts (lw_meth q272) rfl rfl rfl (hE.2.1 _ _ _ _ q794) (hts _ q60) (by decide +kernel) ⟨Nat.le_of_ble_eq_true rfl, Nat.le_of_ble_eq_true rfl⟩, hts _ q271, trivial⟩ ⟨fun a U g mk q => q, fun U hU hW => ⟨rfl, trivial⟩⟩ rfl rfl hl.1 rfl (lv_room (Nat.le_of_ble_eq_true rfl)) dX6_has_9 ⟨Nat.le_of_ble_eq_true rfl, Nat.le_of_ble_eq_true rfl⟩)) (fun r_1 hr_1 => ?_)
  subst hQe
  exact W.zret hx hb hr (pB_nar hr_1) (fun t ht hW => ⟨_, rfl, hr_1, ht⟩) (fun _ h => absurd h List.not_mem_nil) dX6_has_12

set_option maxHeartbeats 4000000 in
set_option maxRecDepth 100000 in
theorem met_X0_up (l : Launch) (v : Int32) (b : Int32) (hb0 : ¬ b = 0) : Met l yX0_up (ws_ yX0_up cX0_up 2 (some .int)) (rmL 2 0 0) (va_Pc [.int v, .int b] (fun _ => True)) (vp_Si (fun r => r = jup v b)) 0 0 (fun _ => False) := by
  refine Met.ofW (cc := cX0_up) (maxL := 2) (ret := (some .int)) (by decide) rfl ?_
  intro p e s m args below meth c s₁ Bd hml hv
  obtain ⟨rfl, -⟩ := hv
  have hx := Bd.exec
  have hb := Bd.bytes
  have hr := Bd.returns
  have hts := atoms_spec (ws := (ws_ yX0_up cX0_up 2 (some .int))) Bd.pre
  have hts : ∀ w ∈ lw_all, w.before _ s = true := fun w h => hts w (List.mem_cons_of_mem _ h)
  have hown : s.vm.findClass RX0 = some m.cls := findClass_of_methodNamed Bd.named
  have hlocks := Bd.notSynchronized
  have hl := lv_entry ([.int v, .int b]) (n := 2) (Nat.le_of_ble_eq_true rfl)
  rw [lg_entry_eq]
  generalize (lg_sl ([.int v, .int b]) ++ List.replicate (2 - (lg_sl ([.int v, .int b])).length) Slot.unset).toArray = ls at hl ⊢
  have hl : lv_has ls 2 [(0, .int v), (1, .int b)] := hl
  refine lv_iload_n hx hb dX0_up_0 rfl (lv_at hl 0 rfl) ?_
  refine lv_ineg hx hb dX0_up_1 ?_
  refine lv_iload_n hx hb dX0_up_2 rfl (lv_at hl 1 rfl) ?_
  refine vp_callSi (W.runS (As := [.int (-v), .int b]) (rest := []) ⟨hx, hb, hml, hown, hts⟩ (met_J10_floorDiv l (-v) b (by first | assumption | omega | decide)) (va_cwS 2 hts (lw_S q679 q645 q76 q646) rfl rfl rfl (by decide +kernel) ⟨Nat.le_of_ble_eq_true rfl, Nat.le_of_ble_eq_true rfl⟩) ⟨fun a U g mk q => q, fun U hU hW => ⟨rfl, trivial⟩⟩ rfl rfl hl.1 rfl (lv_room (Nat.le_of_ble_eq_true rfl)) dX0_up_3 ⟨Nat.le_of_ble_eq_true rfl, Nat.le_of_ble_eq_true rfl⟩) (fun r_1 hr_1 => ?_)
  subst hr_1
  refine lv_ineg hx hb dX0_up_6 ?_
  exact W.iret hx hb hr (fun t ht hW => ⟨_, rfl, rfl, ht⟩) (fun _ h => absurd h List.not_mem_nil) dX0_up_7

set_option maxHeartbeats 4000000 in
set_option maxRecDepth 100000 in
theorem met_X17_among (l : Launch) (D : va_G) (cA : Nat → ClassId) (Z : Nat → Nat) (F : Nat → Prop) (H : Heap) {g a : Nat} {lo hi : Int32} {rd : Int32} {we : Int32} (ha : va_at D vwCl (a, .inr (6, [.int lo, .int hi])) H) (hw : ¬ 2 * we = 0) : Met l yX17_among (ws_ yX17_among cX17_among 4 (some .int)) (rmL 3 0 0) (cP D cA Z F H [.ref g, .ref a, .int rd, .int we]) (vp_Si (fun r => r = jmax lo (jmin hi ((2 * rd + we - 1) / (2 * we))))) 0 0 (fun _ => False) := by
  refine Met.ofW (cc := cX17_among) (maxL := 4) (ret := (some .int)) (by decide) rfl ?_
  intro p e s m args below meth c s₁ Bd hml hv
  obtain ⟨rfl, hh, hK, hE, hZn⟩ := hv
  subst hh
  have hx := Bd.exec
  have hb := Bd.bytes
  have hr := Bd.returns
  have hts := atoms_spec (ws := (ws_ yX17_among cX17_among 4 (some .int))) Bd.pre
  have hts : ∀ w ∈ lw_all, w.before _ s = true := fun w h => hts w (List.mem_cons_of_mem _ h)
  have hown : s.vm.findClass RX17 = some m.cls := findClass_of_methodNamed Bd.named
  have hlocks := Bd.notSynchronized
  have hS : va_S F s.heap s.heap [] := va_S.rf
  have hl := lv_entry ([.ref g, .ref a, .int rd, .int we]) (n := 4) (Nat.le_of_ble_eq_true rfl)
  rw [lg_entry_eq]
  generalize (lg_sl ([.ref g, .ref a, .int rd, .int we]) ++ List.replicate (4 - (lg_sl ([.ref g, .ref a, .int rd, .int we])).length) Slot.unset).toArray = ls at hl ⊢
  have hl : lv_has ls 4 [(0, .ref g), (1, .ref a), (2, .int rd), (3, .int we)] := hl
  refine W.gq fun Q0 hQe => ?_
  refine lv_aload_n hx hb dX17_among_0 rfl (lv_at hl 1 rfl) ?_
  refine lv_iconst (v := 2) hx hb dX17_among_1 (by decide) ?_
  refine lv_iload_n hx hb dX17_among_2 rfl (lv_at hl 2 rfl) ?_
  refine lv_imul hx hb dX17_among_3 ?_
  refine lv_iload_n hx hb dX17_among_4 rfl (lv_at hl 3 rfl) ?_
  refine lv_iadd hx hb dX17_among_5 ?_
  refine lv_iconst (v := 1) hx hb dX17_among_6 (by decide) ?_
  refine lv_isub hx hb dX17_among_7 ?_
  refine lv_iconst (v := 2) hx hb dX17_among_8 (by decide) ?_
  refine lv_iload_n hx hb dX17_among_9 rfl (lv_at hl 3 rfl) ?_
  refine lv_imul hx hb dX17_among_10 ?_
  refine lv_idiv hx hb dX17_among_11 (by assumption) ?_
  refine vp_callSi (W.runV (As := [.int (((((2 : Int32) * rd) + we) - (1 : Int32)) / ((2 : Int32) * we))]) (rest := []) ⟨hx, hb, hml, hown, hts⟩ (met_X6_nearestTo l D cA Z (fun _ => False) s.heap (lo := lo) (hi := hi) (n := (((((2 : Int32) * rd) + we) - (1 : Int32)) / ((2 : Int32) * we))) ha) (cwV 1 hts (lw_V q730 q731 q732 q81 q733) rfl rfl rfl (by decide +kernel) ⟨Nat.le_of_ble_eq_true rfl, Nat.le_of_ble_eq_true rfl⟩) (cP_V hK hE (En.narrow hZn (fun _ h => h.elim)) (rcv hK ha rfl)) rfl rfl hl.1 rfl (lv_room (Nat.le_of_ble_eq_true rfl)) dX17_among_12 ⟨Nat.le_of_ble_eq_true rfl, Nat.le_of_ble_eq_true rfl⟩) (fun r_1 hr_1 => ?_)
  subst hr_1
  subst hQe
  exact W.iret hx hb hr (fun t ht hW => ⟨_, rfl, rfl, ht⟩) (fun _ h => absurd h List.not_mem_nil) dX17_among_15

set_option maxHeartbeats 4000000 in
set_option maxRecDepth 100000 in
theorem met_X15_among (l : Launch) (D : va_G) (cA : Nat → ClassId) (Z : Nat → Nat) (F : Nat → Prop) (H : Heap) {g a : Nat} {lo hi : Int32} {rd : Int32} {we : Int32} (ha : va_at D vwCl (a, .inr (6, [.int lo, .int hi])) H) : Met l yX15_among (ws_ yX15_among cX15_among 4 (some .int)) (rmL 1 0 0) (cP D cA Z F H [.ref g, .ref a, .int rd, .int we]) (vp_Si (fun r => r = lo)) 0 0 (fun _ => False) := by
  refine Met.ofW (cc := cX15_among) (maxL := 4) (ret := (some .int)) (by decide) rfl ?_
  intro p e s m args below meth c s₁ Bd hml hv
  obtain ⟨rfl, hh, hK, hE, hZn⟩ := hv
  subst hh
  have hx := Bd.exec
  have hb := Bd.bytes
  have hr := Bd.returns
  have hts := atoms_spec (ws := (ws_ yX15_among cX15_among 4 (some .int))) Bd.pre
  have hts : ∀ w ∈ lw_all, w.before _ s = true := fun w h => hts w (List.mem_cons_of_mem _ h)
  have hown : s.vm.findClass RX15 = some m.cls := findClass_of_methodNamed Bd.named
  have hlocks := Bd.notSynchronized
  have hS : va_S F s.heap s.heap [] := va_S.rf
  have hl := lv_entry ([.ref g, .ref a, .int rd, .int we]) (n := 4) (Nat.le_of_ble_eq_true rfl)
  rw [lg_entry_eq]
  generalize (lg_sl ([.ref g, .ref a, .int rd, .int we]) ++ List.replicate (4 - (lg_sl ([.ref g, .ref a, .int rd, .int we])).length) Slot.unset).toArray = ls at hl ⊢
  have hl : lv_has ls 4 [(0, .ref g), (1, .ref a), (2, .int rd), (3, .int we)] := hl
  refine W.gq fun Q0 hQe => ?_
  refine lv_aload_n hx hb dX15_among_0 rfl (lv_at hl 1 rfl) ?_
  refine r_getN (C := RX6) (T := TX6) (N := 2) hx hb hts in_X6 hown hK ha rfl 0 (by decide) (hE.1 _ _ _ _ _ _ q664) (fun _ h => h) (v := .int lo) rfl dX15_among_1 ?_
  subst hQe
  exact W.iret hx hb hr (fun t ht hW => ⟨_, rfl, rfl, ht⟩) (fun _ h => absurd h List.not_mem_nil) dX15_among_4

set_option maxHeartbeats 4000000 in
set_option maxRecDepth 100000 in
theorem met_X14_among (l : Launch) (D : va_G) (cA : Nat → ClassId) (Z : Nat → Nat) (F : Nat → Prop) (H : Heap) {g a : Nat} {lo hi : Int32} {rd : Int32} {we : Int32} (ha : va_at D vwCl (a, .inr (6, [.int lo, .int hi])) H) : Met l yX14_among (ws_ yX14_among cX14_among 4 (some .int)) (rmL 1 0 0) (cP D cA Z F H [.ref g, .ref a, .int rd, .int we]) (vp_Si (fun r => r = hi)) 0 0 (fun _ => False) := by
  refine Met.ofW (cc := cX14_among) (maxL := 4) (ret := (some .int)) (by decide) rfl ?_
  intro p e s m args below meth c s₁ Bd hml hv
  obtain ⟨rfl, hh, hK, hE, hZn⟩ := hv
  subst hh
  have hx := Bd.exec
  have hb := Bd.bytes
  have hr := Bd.returns
  have hts := atoms_spec (ws := (ws_ yX14_among cX14_among 4 (some .int))) Bd.pre
  have hts : ∀ w ∈ lw_all, w.before _ s = true := fun w h => hts w (List.mem_cons_of_mem _ h)
  have hown : s.vm.findClass RX14 = some m.cls := findClass_of_methodNamed Bd.named
  have hlocks := Bd.notSynchronized
  have hS : va_S F s.heap s.heap [] := va_S.rf
  have hl := lv_entry ([.ref g, .ref a, .int rd, .int we]) (n := 4) (Nat.le_of_ble_eq_true rfl)
  rw [lg_entry_eq]
  generalize (lg_sl ([.ref g, .ref a, .int rd, .int we]) ++ List.replicate (4 - (lg_sl ([.ref g, .ref a, .int rd, .int we])).length) Slot.unset).toArray = ls at hl ⊢
  have hl : lv_has ls 4 [(0, .ref g), (1, .ref a), (2, .int rd), (3, .int we)] := hl
  refine W.gq fun Q0 hQe => ?_
  refine lv_aload_n hx hb dX14_among_0 rfl (lv_at hl 1 rfl) ?_
  refine r_getN (C := RX6) (T := TX6) (N := 2) hx hb hts in_X6 hown hK ha rfl 1 (by decide) (hE.1 _ _ _ _ _ _ q668) (fun _ h => h) (v := .int hi) rfl dX14_among_1 ?_
  subst hQe
  exact W.iret hx hb hr (fun t ht hW => ⟨_, rfl, rfl, ht⟩) (fun _ h => absurd h List.not_mem_nil) dX14_among_4

set_option maxHeartbeats 4000000 in
set_option maxRecDepth 100000 in
theorem met_X16_among (l : Launch) (D : va_G) (cA : Nat → ClassId) (Z : Nat → Nat) (F : Nat → Prop) (H : Heap) {g a : Nat} {lo hi : Int32} {rd : Int32} {we : Int32} (ha : va_at D vwCl (a, .inr (6, [.int lo, .int hi])) H) : Met l yX16_among (ws_ yX16_among cX16_among 4 (some .int)) (rmL 1 0 0) (cP D cA Z F H [.ref g, .ref a, .int rd, .int we]) (vp_Si (fun r => r = (lo + hi) / 2)) 0 0 (fun _ => False) := by
  refine Met.ofW (cc := cX16_among) (maxL := 4) (ret := (some .int)) (by decide) rfl ?_
  intro p e s m args below meth c s₁ Bd hml hv
  obtain ⟨rfl, hh, hK, hE, hZn⟩ := hv
  subst hh
  have hx := Bd.exec
  have hb := Bd.bytes
  have hr := Bd.returns
  have hts := atoms_spec (ws := (ws_ yX16_among cX16_among 4 (some .int))) Bd.pre
  have hts : ∀ w ∈ lw_all, w.before _ s = true := fun w h => hts w (List.mem_cons_of_mem _ h)
  have hown : s.vm.findClass RX16 = some m.cls := findClass_of_methodNamed Bd.named
  have hlocks := Bd.notSynchronized
  have hS : va_S F s.heap s.heap [] := va_S.rf
  have hl := lv_entry ([.ref g, .ref a, .int rd, .int we]) (n := 4) (Nat.le_of_ble_eq_true rfl)
  rw [lg_entry_eq]
  generalize (lg_sl ([.ref g, .ref a, .int rd, .int we]) ++ List.replicate (4 - (lg_sl ([.ref g, .ref a, .int rd, .int we])).length) Slot.unset).toArray = ls at hl ⊢
  have hl : lv_has ls 4 [(0, .ref g), (1, .ref a), (2, .int rd), (3, .int we)] := hl
  refine W.gq fun Q0 hQe => ?_
  refine lv_aload_n hx hb dX16_among_0 rfl (lv_at hl 1 rfl) ?_
  refine r_getN (C := RX6) (T := TX6) (N := 2) hx hb hts in_X6 hown hK ha rfl 0 (by decide) (hE.1 _ _ _ _ _ _ q665) (fun _ h => h) (v := .int lo) rfl dX16_among_1 ?_
  refine lv_aload_n hx hb dX16_among_4 rfl (lv_at hl 1 rfl) ?_
  refine r_getN (C := RX6) (T := TX6) (N := 2) hx hb hts in_X6 hown hK ha rfl 1 (by decide) (hE.1 _ _ _ _ _ _ q669) (fun _ h => h) (v := .int hi) rfl dX16_among_5 ?_
  refine lv_iadd hx hb dX16_among_8 ?_
  refine lv_iconst (v := 2) hx hb dX16_among_9 (by decide) ?_
  refine lv_idiv hx hb dX16_among_10 (by decide) ?_
  subst hQe
  exact W.iret hx hb hr (fun t ht hW => ⟨_, rfl, rfl, ht⟩) (fun _ h => absurd h List.not_mem_nil) dX16_among_11

set_option maxHeartbeats 4000000 in
set_option maxRecDepth 100000 in
theorem met_X18_of0 (l : Launch) (D : va_G) (cA : Nat → ClassId) (Z : Nat → Nat) (F : Nat → Prop) (H : Heap) {a : Nat} {lo hi : Int32} {rd : Int32} {we : Int32} (ha : va_at D vwCl (a, .inr (6, [.int lo, .int hi])) H) (hw : ¬ 2 * we = 0) : Met l yX18_of (ws_ yX18_of cX18_of 4 (some .int)) (rmL 4 0 0) (cP D cA Z F H [.ref (Z 2), .ref a, .int rd, .int we]) (vp_Si (fun r => r = if jmax 0 (hi - lo + 1) = 0 then -100009 else jG 0 lo hi rd we)) 0 0 (fun _ => False) := by
  refine Met.ofW (cc := cX18_of) (maxL := 4) (ret := (some .int)) (by decide) rfl ?_
  intro p e s m args below meth c s₁ Bd hml hv
  obtain ⟨rfl, hh, hK, hE, hZn⟩ := hv
  subst hh
  have hx := Bd.exec
  have hb := Bd.bytes
  have hr := Bd.returns
  have hts := atoms_spec (ws := (ws_ yX18_of cX18_of 4 (some .int))) Bd.pre
  have hts : ∀ w ∈ lw_all, w.before _ s = true := fun w h => hts w (List.mem_cons_of_mem _ h)
  have hown : s.vm.findClass RX18 = some m.cls := findClass_of_methodNamed Bd.named
  have hlocks := Bd.notSynchronized
  have hS : va_S F s.heap s.heap [] := va_S.rf
  have hl := lv_entry ([.ref (Z 2), .ref a, .int rd, .int we]) (n := 4) (Nat.le_of_ble_eq_true rfl)
  rw [lg_entry_eq]
  generalize (lg_sl ([.ref (Z 2), .ref a, .int rd, .int we]) ++ List.replicate (4 - (lg_sl ([.ref (Z 2), .ref a, .int rd, .int we])).length) Slot.unset).toArray = ls at hl ⊢
  have hl : lv_has ls 4 [(0, .ref (Z 2)), (1, .ref a), (2, .int rd), (3, .int we)] := hl
  refine W.gq fun Q0 hQe => ?_
  refine lv_aload_n hx hb dX18_of_0 rfl (lv_at hl 1 rfl) ?_
  refine vp_callSi (W.runV (As := []) (rest := []) ⟨hx, hb, hml, hown, hts⟩ (met_X6_size l D cA Z (fun _ => False) s.heap (lo := lo) (hi := hi) ha) (cwV 0 hts (lw_V q697 q698 q699 q81 q700) rfl rfl rfl (by decide +kernel) ⟨Nat.le_of_ble_eq_true rfl, Nat.le_of_ble_eq_true rfl⟩) (cP_V hK hE (En.narrow hZn (fun _ h => h.elim)) (rcv hK ha rfl)) rfl rfl hl.1 rfl (lv_room (Nat.le_of_ble_eq_true rfl)) dX18_of_1 ⟨Nat.le_of_ble_eq_true rfl, Nat.le_of_ble_eq_true rfl⟩) (fun r_1 hr_1 => ?_)
  subst hr_1
  refine lv_if_ne (tgt := 12) hx hb dX18_of_4 (by decide) (fun c4_b_2 => ?_) (fun c4_b_2 => ?_)
  · skip
    refine lv_aload_n hx hb dX18_of_12 rfl (lv_at hl 0 rfl) ?_
    refine lv_aload_n hx hb dX18_of_13 rfl (lv_at hl 1 rfl) ?_
    refine lv_iload_n hx hb dX18_of_14 rfl (lv_at hl 2 rfl) ?_
    refine lv_iload_n hx hb dX18_of_15 rfl (lv_at hl 3 rfl) ?_
    refine va_csFi (g_runF (As := [.ref a, .int rd, .int we]) (rest := []) ⟨hx, hb, hml, hown, hts⟩ (met_X17_among l D cA Z (fun _ => False) s.heap (lo := lo) (hi := hi) (rd := rd) (we := we) ha (by first | assumption | omega | decide)) (va_cwF 3 hts (g_wsF q704 q725 q727 q1937 q729) rfl rfl rfl (hE.2.2.2.1 "TicketScales$Nearest" _ _ (by decide) q706 q705 q728 q726 q724) (by decide +kernel) ⟨Nat.le_of_ble_eq_true rfl, Nat.le_of_ble_eq_true rfl⟩) (cP_V hK hE (En.narrow hZn (fun _ h => h.elim)) (O_rcv hZn.2.2.2.1)) rfl rfl hl.1 rfl (lv_room (Nat.le_of_ble_eq_true rfl)) dX18_of_16 ⟨Nat.le_of_ble_eq_true rfl, Nat.le_of_ble_eq_true rfl⟩) (fun r_3 hr_3 => ?_)
    subst hr_3
    subst hQe
    exact W.iret hx hb hr (fun t ht hW => ⟨_, rfl, (by first | exact (if_pos c4_b_2).symm | exact (if_neg c4_b_2).symm), ht⟩) (fun _ h => absurd h List.not_mem_nil) dX18_of_21
  · skip
    refine lv_ldc (v := -100009) hx hb hown (hts _ q702) dX18_of_7 ?_
    refine lv_goto (tgt := 21) hx hb dX18_of_9 (by decide) ?_
    subst hQe
    exact W.iret hx hb hr (fun t ht hW => ⟨_, rfl, (by first | exact (if_pos c4_b_2).symm | exact (if_neg c4_b_2).symm), ht⟩) (fun _ h => absurd h List.not_mem_nil) dX18_of_21

set_option maxHeartbeats 4000000 in
set_option maxRecDepth 100000 in
theorem met_X18_of1 (l : Launch) (D : va_G) (cA : Nat → ClassId) (Z : Nat → Nat) (F : Nat → Prop) (H : Heap) {a : Nat} {lo hi : Int32} {rd : Int32} {we : Int32} (ha : va_at D vwCl (a, .inr (6, [.int lo, .int hi])) H) (hw : ¬ 2 * we = 0) : Met l yX18_of (ws_ yX18_of cX18_of 4 (some .int)) (rmL 3 0 0) (cP D cA Z F H [.ref (Z 3), .ref a, .int rd, .int we]) (vp_Si (fun r => r = if jmax 0 (hi - lo + 1) = 0 then -100009 else jG 1 lo hi rd we)) 0 0 (fun _ => False) := by
  refine Met.ofW (cc := cX18_of) (maxL := 4) (ret := (some .int)) (by decide) rfl ?_
  intro p e s m args below meth c s₁ Bd hml hv
  obtain ⟨rfl, hh, hK, hE, hZn⟩ := hv
  subst hh
  have hx := Bd.exec
  have hb := Bd.bytes
  have hr := Bd.returns
  have hts := atoms_spec (ws := (ws_ yX18_of cX18_of 4 (some .int))) Bd.pre
  have hts : ∀ w ∈ lw_all, w.before _ s = true := fun w h => hts w (List.mem_cons_of_mem _ h)
  have hown : s.vm.findClass RX18 = some m.cls := findClass_of_methodNamed Bd.named
  have hlocks := Bd.notSynchronized
  have hS : va_S F s.heap s.heap [] := va_S.rf
  have hl := lv_entry ([.ref (Z 3), .ref a, .int rd, .int we]) (n := 4) (Nat.le_of_ble_eq_true rfl)
  rw [lg_entry_eq]
  generalize (lg_sl ([.ref (Z 3), .ref a, .int rd, .int we]) ++ List.replicate (4 - (lg_sl ([.ref (Z 3), .ref a, .int rd, .int we])).length) Slot.unset).toArray = ls at hl ⊢
  have hl : lv_has ls 4 [(0, .ref (Z 3)), (1, .ref a), (2, .int rd), (3, .int we)] := hl
  refine W.gq fun Q0 hQe => ?_
  refine lv_aload_n hx hb dX18_of_0 rfl (lv_at hl 1 rfl) ?_
  refine vp_callSi (W.runV (As := []) (rest := []) ⟨hx, hb, hml, hown, hts⟩ (met_X6_size l D cA Z (fun _ => False) s.heap (lo := lo) (hi := hi) ha) (cwV 0 hts (lw_V q697 q698 q699 q81 q700) rfl rfl rfl (by decide +kernel) ⟨Nat.le_of_ble_eq_true rfl, Nat.le_of_ble_eq_true rfl⟩) (cP_V hK hE (En.narrow hZn (fun _ h => h.elim)) (rcv hK ha rfl)) rfl rfl hl.1 rfl (lv_room (Nat.le_of_ble_eq_true rfl)) dX18_of_1 ⟨Nat.le_of_ble_eq_true rfl, Nat.le_of_ble_eq_true rfl⟩) (fun r_1 hr_1 => ?_)
  subst hr_1
  refine lv_if_ne (tgt := 12) hx hb dX18_of_4 (by decide) (fun c4_b_2 => ?_) (fun c4_b_2 => ?_)
  · skip
    refine lv_aload_n hx hb dX18_of_12 rfl (lv_at hl 0 rfl) ?_
    refine lv_aload_n hx hb dX18_of_13 rfl (lv_at hl 1 rfl) ?_
    refine lv_iload_n hx hb dX18_of_14 rfl (lv_at hl 2 rfl) ?_
    refine lv_iload_n hx hb dX18_of_15 rfl (lv_at hl 3 rfl) ?_
    refine va_csFi (g_runF (As := [.ref a, .int rd, .int we]) (rest := []) ⟨hx, hb, hml, hown, hts⟩ (met_X15_among l D cA Z (fun _ => False) s.heap (lo := lo) (hi := hi) (rd := rd) (we := we) ha) (va_cwF 3 hts (g_wsF q704 q713 q715 q1935 q717) rfl rfl rfl (hE.2.2.2.1 "TicketScales$Least" _ _ (by decide) q706 q705 q716 q714 q712) (by decide +kernel) ⟨Nat.le_of_ble_eq_true rfl, Nat.le_of_ble_eq_true rfl⟩) (cP_V hK hE (En.narrow hZn (fun _ h => h.elim)) (O_rcv hZn.2.2.2.2.1)) rfl rfl hl.1 rfl (lv_room (Nat.le_of_ble_eq_true rfl)) dX18_of_16 ⟨Nat.le_of_ble_eq_true rfl, Nat.le_of_ble_eq_true rfl⟩) (fun r_3 hr_3 => ?_)
    subst hr_3
    subst hQe
    exact W.iret hx hb hr (fun t ht hW => ⟨_, rfl, (by first | exact (if_pos c4_b_2).symm | exact (if_neg c4_b_2).symm), ht⟩) (fun _ h => absurd h List.not_mem_nil) dX18_of_21
  · skip
    refine lv_ldc (v := -100009) hx hb hown (hts _ q702) dX18_of_7 ?_
    refine lv_goto (tgt := 21) hx hb dX18_of_9 (by decide) ?_
    subst hQe
    exact W.iret hx hb hr (fun t ht hW => ⟨_, rfl, (by first | exact (if_pos c4_b_2).symm | exact (if_neg c4_b_2).symm), ht⟩) (fun _ h => absurd h List.not_mem_nil) dX18_of_21

set_option maxHeartbeats 4000000 in
set_option maxRecDepth 100000 in
theorem met_X18_of2 (l : Launch) (D : va_G) (cA : Nat → ClassId) (Z : Nat → Nat) (F : Nat → Prop) (H : Heap) {a : Nat} {lo hi : Int32} {rd : Int32} {we : Int32} (ha : va_at D vwCl (a, .inr (6, [.int lo, .int hi])) H) (hw : ¬ 2 * we = 0) : Met l yX18_of (ws_ yX18_of cX18_of 4 (some .int)) (rmL 3 0 0) (cP D cA Z F H [.ref (Z 4), .ref a, .int rd, .int we]) (vp_Si (fun r => r = if jmax 0 (hi - lo + 1) = 0 then -100009 else jG 2 lo hi rd we)) 0 0 (fun _ => False) := by
  refine Met.ofW (cc := cX18_of) (maxL := 4) (ret := (some .int)) (by decide) rfl ?_
  intro p e s m args below meth c s₁ Bd hml hv
  obtain ⟨rfl, hh, hK, hE, hZn⟩ := hv
  subst hh
  have hx := Bd.exec
  have hb := Bd.bytes
  have hr := Bd.returns
  have hts := atoms_spec (ws := (ws_ yX18_of cX18_of 4 (some .int))) Bd.pre
  have hts : ∀ w ∈ lw_all, w.before _ s = true := fun w h => hts w (List.mem_cons_of_mem _ h)
  have hown : s.vm.findClass RX18 = some m.cls := findClass_of_methodNamed Bd.named
  have hlocks := Bd.notSynchronized
  have hS : va_S F s.heap s.heap [] := va_S.rf
  have hl := lv_entry ([.ref (Z 4), .ref a, .int rd, .int we]) (n := 4) (Nat.le_of_ble_eq_true rfl)
  rw [lg_entry_eq]
  generalize (lg_sl ([.ref (Z 4), .ref a, .int rd, .int we]) ++ List.replicate (4 - (lg_sl ([.ref (Z 4), .ref a, .int rd, .int we])).length) Slot.unset).toArray = ls at hl ⊢
  have hl : lv_has ls 4 [(0, .ref (Z 4)), (1, .ref a), (2, .int rd), (3, .int we)] := hl
  refine W.gq fun Q0 hQe => ?_
  refine lv_aload_n hx hb dX18_of_0 rfl (lv_at hl 1 rfl) ?_
  refine vp_callSi (W.runV (As := []) (rest := []) ⟨hx, hb, hml, hown, hts⟩ (met_X6_size l D cA Z (fun _ => False) s.heap (lo := lo) (hi := hi) ha) (cwV 0 hts (lw_V q697 q698 q699 q81 q700) rfl rfl rfl (by decide +kernel) ⟨Nat.le_of_ble_eq_true rfl, Nat.le_of_ble_eq_true rfl⟩) (cP_V hK hE (En.narrow hZn (fun _ h => h.elim)) (rcv hK ha rfl)) rfl rfl hl.1 rfl (lv_room (Nat.le_of_ble_eq_true rfl)) dX18_of_1 ⟨Nat.le_of_ble_eq_true rfl, Nat.le_of_ble_eq_true rfl⟩) (fun r_1 hr_1 => ?_)
  subst hr_1
  refine lv_if_ne (tgt := 12) hx hb dX18_of_4 (by decide) (fun c4_b_2 => ?_) (fun c4_b_2 => ?_)
  · skip
    refine lv_aload_n hx hb dX18_of_12 rfl (lv_at hl 0 rfl) ?_
    refine lv_aload_n hx hb dX18_of_13 rfl (lv_at hl 1 rfl) ?_
    refine lv_iload_n hx hb dX18_of_14 rfl (lv_at hl 2 rfl) ?_
    refine lv_iload_n hx hb dX18_of_15 rfl (lv_at hl 3 rfl) ?_
    refine va_csFi (g_runF (As := [.ref a, .int rd, .int we]) (rest := []) ⟨hx, hb, hml, hown, hts⟩ (met_X14_among l D cA Z (fun _ => False) s.heap (lo := lo) (hi := hi) (rd := rd) (we := we) ha) (va_cwF 3 hts (g_wsF q704 q707 q709 q1934 q711) rfl rfl rfl (hE.2.2.2.1 "TicketScales$Greatest" _ _ (by decide) q706 q705 q710 q708 q692) (by decide +kernel) ⟨Nat.le_of_ble_eq_true rfl, Nat.le_of_ble_eq_true rfl⟩) (cP_V hK hE (En.narrow hZn (fun _ h => h.elim)) (O_rcv hZn.2.2.2.2.2.1)) rfl rfl hl.1 rfl (lv_room (Nat.le_of_ble_eq_true rfl)) dX18_of_16 ⟨Nat.le_of_ble_eq_true rfl, Nat.le_of_ble_eq_true rfl⟩) (fun r_3 hr_3 => ?_)
    subst hr_3
    subst hQe
    exact W.iret hx hb hr (fun t ht hW => ⟨_, rfl, (by first | exact (if_pos c4_b_2).symm | exact (if_neg c4_b_2).symm), ht⟩) (fun _ h => absurd h List.not_mem_nil) dX18_of_21
  · skip
    refine lv_ldc (v := -100009) hx hb hown (hts _ q702) dX18_of_7 ?_
    refine lv_goto (tgt := 21) hx hb dX18_of_9 (by decide) ?_
    subst hQe
    exact W.iret hx hb hr (fun t ht hW => ⟨_, rfl, (by first | exact (if_pos c4_b_2).symm | exact (if_neg c4_b_2).symm), ht⟩) (fun _ h => absurd h List.not_mem_nil) dX18_of_21

set_option maxHeartbeats 4000000 in
set_option maxRecDepth 100000 in
theorem met_X18_of3 (l : Launch) (D : va_G) (cA : Nat → ClassId) (Z : Nat → Nat) (F : Nat → Prop) (H : Heap) {a : Nat} {lo hi : Int32} {rd : Int32} {we : Int32} (ha : va_at D vwCl (a, .inr (6, [.int lo, .int hi])) H) (hw : ¬ 2 * we = 0) : Met l yX18_of (ws_ yX18_of cX18_of 4 (some .int)) (rmL 3 0 0) (cP D cA Z F H [.ref (Z 5), .ref a, .int rd, .int we]) (vp_Si (fun r => r = if jmax 0 (hi - lo + 1) = 0 then -100009 else jG 3 lo hi rd we)) 0 0 (fun _ => False) := by
  refine Met.ofW (cc := cX18_of) (maxL := 4) (ret := (some .int)) (by decide) rfl ?_
  intro p e s m args below meth c s₁ Bd hml hv
  obtain ⟨rfl, hh, hK, hE, hZn⟩ := hv
  subst hh
  have hx := Bd.exec
  have hb := Bd.bytes
  have hr := Bd.returns
  have hts := atoms_spec (ws := (ws_ yX18_of cX18_of 4 (some .int))) Bd.pre
  have hts : ∀ w ∈ lw_all, w.before _ s = true := fun w h => hts w (List.mem_cons_of_mem _ h)
  have hown : s.vm.findClass RX18 = some m.cls := findClass_of_methodNamed Bd.named
  have hlocks := Bd.notSynchronized
  have hS : va_S F s.heap s.heap [] := va_S.rf
  have hl := lv_entry ([.ref (Z 5), .ref a, .int rd, .int we]) (n := 4) (Nat.le_of_ble_eq_true rfl)
  rw [lg_entry_eq]
  generalize (lg_sl ([.ref (Z 5), .ref a, .int rd, .int we]) ++ List.replicate (4 - (lg_sl ([.ref (Z 5), .ref a, .int rd, .int we])).length) Slot.unset).toArray = ls at hl ⊢
  have hl : lv_has ls 4 [(0, .ref (Z 5)), (1, .ref a), (2, .int rd), (3, .int we)] := hl
  refine W.gq fun Q0 hQe => ?_
  refine lv_aload_n hx hb dX18_of_0 rfl (lv_at hl 1 rfl) ?_
  refine vp_callSi (W.runV (As := []) (rest := []) ⟨hx, hb, hml, hown, hts⟩ (met_X6_size l D cA Z (fun _ => False) s.heap (lo := lo) (hi := hi) ha) (cwV 0 hts (lw_V q697 q698 q699 q81 q700) rfl rfl rfl (by decide +kernel) ⟨Nat.le_of_ble_eq_true rfl, Nat.le_of_ble_eq_true rfl⟩) (cP_V hK hE (En.narrow hZn (fun _ h => h.elim)) (rcv hK ha rfl)) rfl rfl hl.1 rfl (lv_room (Nat.le_of_ble_eq_true rfl)) dX18_of_1 ⟨Nat.le_of_ble_eq_true rfl, Nat.le_of_ble_eq_true rfl⟩) (fun r_1 hr_1 => ?_)
  subst hr_1
  refine lv_if_ne (tgt := 12) hx hb dX18_of_4 (by decide) (fun c4_b_2 => ?_) (fun c4_b_2 => ?_)
  · skip
    refine lv_aload_n hx hb dX18_of_12 rfl (lv_at hl 0 rfl) ?_
    refine lv_aload_n hx hb dX18_of_13 rfl (lv_at hl 1 rfl) ?_
    refine lv_iload_n hx hb dX18_of_14 rfl (lv_at hl 2 rfl) ?_
    refine lv_iload_n hx hb dX18_of_15 rfl (lv_at hl 3 rfl) ?_
    refine va_csFi (g_runF (As := [.ref a, .int rd, .int we]) (rest := []) ⟨hx, hb, hml, hown, hts⟩ (met_X16_among l D cA Z (fun _ => False) s.heap (lo := lo) (hi := hi) (rd := rd) (we := we) ha) (va_cwF 3 hts (g_wsF q704 q719 q721 q1936 q723) rfl rfl rfl (hE.2.2.2.1 "TicketScales$Middle" _ _ (by decide) q706 q705 q722 q720 q718) (by decide +kernel) ⟨Nat.le_of_ble_eq_true rfl, Nat.le_of_ble_eq_true rfl⟩) (cP_V hK hE (En.narrow hZn (fun _ h => h.elim)) (O_rcv hZn.2.2.2.2.2.2)) rfl rfl hl.1 rfl (lv_room (Nat.le_of_ble_eq_true rfl)) dX18_of_16 ⟨Nat.le_of_ble_eq_true rfl, Nat.le_of_ble_eq_true rfl⟩) (fun r_3 hr_3 => ?_)
    subst hr_3
    subst hQe
    exact W.iret hx hb hr (fun t ht hW => ⟨_, rfl, (by first | exact (if_pos c4_b_2).symm | exact (if_neg c4_b_2).symm), ht⟩) (fun _ h => absurd h List.not_mem_nil) dX18_of_21
  · skip
    refine lv_ldc (v := -100009) hx hb hown (hts _ q702) dX18_of_7 ?_
    refine lv_goto (tgt := 21) hx hb dX18_of_9 (by decide) ?_
    subst hQe
    exact W.iret hx hb hr (fun t ht hW => ⟨_, rfl, (by first | exact (if_pos c4_b_2).symm | exact (if_neg c4_b_2).symm), ht⟩) (fun _ h => absurd h List.not_mem_nil) dX18_of_21

set_option maxHeartbeats 4000000 in
set_option maxRecDepth 100000 in
theorem met_X2_isCustomer (l : Launch) (D : va_G) (cA : Nat → ClassId) (Z : Nat → Nat) (F : Nat → Prop) (H : Heap) {ad : Nat → Nat} {f : Nat → Int32} {n p' : Nat} {mo : Nat → Int32} {B : Nat}  {c0 : Int32} (hR : CR D cA Z H ad f n p' mo) (hI : tk_ok B f) : Met l yX2_isCustomer (ws_ yX2_isCustomer cX2_isCustomer 2 (some .boolean)) (rmL 2 0 0) (cP D cA Z F H [.ref (ad 0), .int c0]) (vp_Si (fun r => pB r (tk_cus f c0))) 0 0 (fun _ => False) := by
  refine Met.ofW (cc := cX2_isCustomer) (maxL := 2) (ret := (some .boolean)) (by decide) rfl ?_
  intro p e s m args below meth c s₁ Bd hml hv
  obtain ⟨rfl, hh, hK, hE, hZn⟩ := hv
  subst hh
  have hx := Bd.exec
  have hb := Bd.bytes
  have hr := Bd.returns
  have hts := atoms_spec (ws := (ws_ yX2_isCustomer cX2_isCustomer 2 (some .boolean))) Bd.pre
  have hts : ∀ w ∈ lw_all, w.before _ s = true := fun w h => hts w (List.mem_cons_of_mem _ h)
  have hown : s.vm.findClass RX2 = some m.cls := findClass_of_methodNamed Bd.named
  have hlocks := Bd.notSynchronized
  have hS : va_S F s.heap s.heap [] := va_S.rf
  have hl := lv_entry ([.ref (ad 0), .int c0]) (n := 2) (Nat.le_of_ble_eq_true rfl)
  rw [lg_entry_eq]
  generalize (lg_sl ([.ref (ad 0), .int c0]) ++ List.replicate (2 - (lg_sl ([.ref (ad 0), .int c0])).length) Slot.unset).toArray = ls at hl ⊢
  have hl : lv_has ls 2 [(0, .ref (ad 0)), (1, .int c0)] := hl
  refine W.gq fun Q0 hQe => ?_
  refine lv_iload_n hx hb dX2_isCustomer_0 rfl (lv_at hl 1 rfl) ?_
  refine lv_iconst (v := 0) hx hb dX2_isCustomer_1 (by decide) ?_
  refine lv_aload_n hx hb dX2_isCustomer_2 rfl (lv_at hl 0 rfl) ?_
  refine r_get (C := RX2) (T := TX2) (N := 10) hx hb hts in_X2 hown hK hR.obj rfl 8 (by decide) (hts _ q154) (fun _ h => h) (v := .ref (ad 3)) rfl dX2_isCustomer_3 ?_
  refine va_csFi (g_runF (As := []) (rest := [.int (0 : Int32), .int c0]) ⟨hx, hb, hml, hown, hts⟩ (met_J2_size l D cA Z (fun _ => False) s.heap (mo := (mo 0)) (ed := (ad 4)) (n := n) hR.cl.1) (va_cwF 0 hts (g_wsF q582 q585 q587 q65 q589) rfl rfl rfl (hE.2.2.2.1 "java/util/ArrayList" _ _ (by decide) q584 q583 q588 q586 q296) (by decide +kernel) ⟨Nat.le_of_ble_eq_true rfl, Nat.le_of_ble_eq_true rfl⟩) (cP_V hK hE (En.narrow hZn (fun _ h => h.elim)) (rcv hK hR.cl.1 rfl)) rfl rfl hl.1 rfl (lv_room (Nat.le_of_ble_eq_true rfl)) dX2_isCustomer_6 ⟨Nat.le_of_ble_eq_true rfl, Nat.le_of_ble_eq_true rfl⟩) (fun r_1 hr_1 => ?_)
  subst hr_1
  refine lv_iconst (v := 1) hx hb dX2_isCustomer_11 (by decide) ?_
  refine lv_isub hx hb dX2_isCustomer_12 ?_
  refine vp_callSi (toCR (va_runSN (As := [.int c0, .int (0 : Int32), .int ((nI n) - (1 : Int32))]) (rest := []) ⟨hx, hb, hml, hown, hts⟩ (met_X0_isBetween l c0 (0 : Int32) ((nI n) - (1 : Int32))) ⟨va_cnB 3 hts (lw_meth q272) rfl rfl rfl (hE.2.1 _ _ _ _ q270) (hts _ q60) (by decide +kernel) ⟨Nat.le_of_ble_eq_true rfl, Nat.le_of_ble_eq_true rfl⟩, hts _ q271, trivial⟩ ⟨fun a U g mk q => q, fun U hU hW => ⟨rfl, trivial⟩⟩ rfl rfl hl.1 rfl (lv_room (Nat.le_of_ble_eq_true rfl)) dX2_isCustomer_13 ⟨Nat.le_of_ble_eq_true rfl, Nat.le_of_ble_eq_true rfl⟩)) (fun r_2 hr_2 => ?_)
  subst hQe
  exact W.zret hx hb hr (pB_nar hr_2) (fun t ht hW => ⟨_, rfl, (by rw [tk_cus, hR.hn]; exact hr_2), ht⟩) (fun _ h => absurd h List.not_mem_nil) dX2_isCustomer_16

set_option maxHeartbeats 4000000 in
set_option maxRecDepth 100000 in
theorem met_X2_isPrize (l : Launch) (D : va_G) (cA : Nat → ClassId) (Z : Nat → Nat) (F : Nat → Prop) (H : Heap) {ad : Nat → Nat} {f : Nat → Int32} {n p' : Nat} {mo : Nat → Int32} {B : Nat}  {c0 : Int32} (hR : CR D cA Z H ad f n p' mo) (hI : tk_ok B f) : Met l yX2_isPrize (ws_ yX2_isPrize cX2_isPrize 2 (some .boolean)) (rmL 2 0 0) (cP D cA Z F H [.ref (ad 0), .int c0]) (vp_Si (fun r => pB r (tk_pri f c0))) 0 0 (fun _ => False) := by
  refine Met.ofW (cc := cX2_isPrize) (maxL := 2) (ret := (some .boolean)) (by decide) rfl ?_
  intro p e s m args below meth c s₁ Bd hml hv
  obtain ⟨rfl, hh, hK, hE, hZn⟩ := hv
  subst hh
  have hx := Bd.exec
  have hb := Bd.bytes
  have hr := Bd.returns
  have hts := atoms_spec (ws := (ws_ yX2_isPrize cX2_isPrize 2 (some .boolean))) Bd.pre
  have hts : ∀ w ∈ lw_all, w.before _ s = true := fun w h => hts w (List.mem_cons_of_mem _ h)
  have hown : s.vm.findClass RX2 = some m.cls := findClass_of_methodNamed Bd.named
  have hlocks := Bd.notSynchronized
  have hS : va_S F s.heap s.heap [] := va_S.rf
  have hl := lv_entry ([.ref (ad 0), .int c0]) (n := 2) (Nat.le_of_ble_eq_true rfl)
  rw [lg_entry_eq]
  generalize (lg_sl ([.ref (ad 0), .int c0]) ++ List.replicate (2 - (lg_sl ([.ref (ad 0), .int c0])).length) Slot.unset).toArray = ls at hl ⊢
  have hl : lv_has ls 2 [(0, .ref (ad 0)), (1, .int c0)] := hl
  refine W.gq fun Q0 hQe => ?_
  refine lv_iload_n hx hb dX2_isPrize_0 rfl (lv_at hl 1 rfl) ?_
  refine lv_iconst (v := 0) hx hb dX2_isPrize_1 (by decide) ?_
  refine lv_aload_n hx hb dX2_isPrize_2 rfl (lv_at hl 0 rfl) ?_
  refine r_get (C := RX2) (T := TX2) (N := 10) hx hb hts in_X2 hown hK hR.obj rfl 9 (by decide) (hts _ q156) (fun _ h => h) (v := .ref (ad 5)) rfl dX2_isPrize_3 ?_
  refine va_csFi (g_runF (As := []) (rest := [.int (0 : Int32), .int c0]) ⟨hx, hb, hml, hown, hts⟩ (met_J2_size l D cA Z (fun _ => False) s.heap (mo := (mo 1)) (ed := (ad 6)) (n := p') hR.pl.1) (va_cwF 0 hts (g_wsF q582 q585 q587 q65 q589) rfl rfl rfl (hE.2.2.2.1 "java/util/ArrayList" _ _ (by decide) q584 q583 q588 q586 q296) (by decide +kernel) ⟨Nat.le_of_ble_eq_true rfl, Nat.le_of_ble_eq_true rfl⟩) (cP_V hK hE (En.narrow hZn (fun _ h => h.elim)) (rcv hK hR.pl.1 rfl)) rfl rfl hl.1 rfl (lv_room (Nat.le_of_ble_eq_true rfl)) dX2_isPrize_6 ⟨Nat.le_of_ble_eq_true rfl, Nat.le_of_ble_eq_true rfl⟩) (fun r_1 hr_1 => ?_)
  subst hr_1
  refine lv_iconst (v := 1) hx hb dX2_isPrize_11 (by decide) ?_
  refine lv_isub hx hb dX2_isPrize_12 ?_
  refine vp_callSi (toCR (va_runSN (As := [.int c0, .int (0 : Int32), .int ((nI p') - (1 : Int32))]) (rest := []) ⟨hx, hb, hml, hown, hts⟩ (met_X0_isBetween l c0 (0 : Int32) ((nI p') - (1 : Int32))) ⟨va_cnB 3 hts (lw_meth q272) rfl rfl rfl (hE.2.1 _ _ _ _ q270) (hts _ q60) (by decide +kernel) ⟨Nat.le_of_ble_eq_true rfl, Nat.le_of_ble_eq_true rfl⟩, hts _ q271, trivial⟩ ⟨fun a U g mk q => q, fun U hU hW => ⟨rfl, trivial⟩⟩ rfl rfl hl.1 rfl (lv_room (Nat.le_of_ble_eq_true rfl)) dX2_isPrize_13 ⟨Nat.le_of_ble_eq_true rfl, Nat.le_of_ble_eq_true rfl⟩)) (fun r_2 hr_2 => ?_)
  subst hQe
  exact W.zret hx hb hr (pB_nar hr_2) (fun t ht hW => ⟨_, rfl, (by rw [tk_pri, hR.hp]; exact hr_2), ht⟩) (fun _ h => absurd h List.not_mem_nil) dX2_isPrize_16

set_option maxHeartbeats 4000000 in
set_option maxRecDepth 100000 in
theorem met_X2_allowed (l : Launch) (D : va_G) (cA : Nat → ClassId) (Z : Nat → Nat) (H : Heap) {ad : Nat → Nat} {f : Nat → Int32} {n p' : Nat} {mo : Nat → Int32} {B : Nat} {rd : Int32} {j : Nat} (hR : CR D cA Z H ad f n p' mo) (hI : tk_ok B f) (hj : j < 4) (h0 : 0 ≤ rd.toInt) (h1 : rd.toInt ≤ 3000000) : Met l yX2_allowed (ws_ yX2_allowed cX2_allowed 6 (some (.object "TicketScales$Range"))) (rmL 3 1 2) (cP D cA Z (fun q => H.size ≤ q) H [.ref (ad 0), .int rd, .int (nI j)]) (va_Qq (fun (r : Option Nat) (H1 : Heap) => ∃ b : Nat, r = some b ∧ H.size ≤ b ∧ va_at D vwCl (b, .inr (6, [.int (jrl f rd j), .int (jrg f rd j)])) H1) (fun (H1 : Heap) (t : State) => t.heap = H1) (fun q => H.size ≤ q)) 1 2 (fun q => H.size ≤ q) := by
  refine Met.ofW (cc := cX2_allowed) (maxL := 6) (ret := (some (.object "TicketScales$Range"))) (by decide) rfl ?_
  intro p e s m args below meth c s₁ Bd hml hv
  obtain ⟨rfl, hh, hK, hE, hZn⟩ := hv
  subst hh
  have hx := Bd.exec
  have hb := Bd.bytes
  have hr := Bd.returns
  have hts := atoms_spec (ws := (ws_ yX2_allowed cX2_allowed 6 (some (.object "TicketScales$Range")))) Bd.pre
  have hts : ∀ w ∈ lw_all, w.before _ s = true := fun w h => hts w (List.mem_cons_of_mem _ h)
  have hown : s.vm.findClass RX2 = some m.cls := findClass_of_methodNamed Bd.named
  have hlocks := Bd.notSynchronized
  obtain ⟨F, hFe⟩ : ∃ z : Nat → Prop, z = (fun q => s.heap.size ≤ q) := ⟨_, rfl⟩
  rw [← hFe] at hZn
  have hS : va_S F s.heap s.heap [] := va_S.rf
  have hF : ∀ q, s.heap.size ≤ q → F q := fun q h => by rw [hFe]; exact h
  have hl := lv_entry ([.ref (ad 0), .int rd, .int (nI j)]) (n := 6) (Nat.le_of_ble_eq_true rfl)
  rw [lg_entry_eq]
  generalize (lg_sl ([.ref (ad 0), .int rd, .int (nI j)]) ++ List.replicate (6 - (lg_sl ([.ref (ad 0), .int rd, .int (nI j)])).length) Slot.unset).toArray = ls at hl ⊢
  have hl : lv_has ls 6 [(0, .ref (ad 0)), (1, .int rd), (2, .int (nI j))] := hl
  refine W.gq fun Q0 hQe => ?_
  refine lv_iload_n hx hb dX2_allowed_0 rfl (lv_at hl 1 rfl) ?_
  refine lv_aload_n hx hb dX2_allowed_1 rfl (lv_at hl 0 rfl) ?_
  refine r_get (C := RX2) (T := TX2) (N := 10) hx hb hts in_X2 hown hK hR.obj rfl 2 (by decide) (hts _ q142) (fun _ h => h) (v := .int (f 8)) rfl dX2_allowed_2 ?_
  refine lv_irem hx hb dX2_allowed_5 (ok_step hI) ?_
  refine lv_if_eq (tgt := 19) hx hb dX2_allowed_6 (by decide) (fun c6_b_1 => ?_) (fun c6_b_1 => ?_)
  · skip
    refine lv_iconst (v := 2) hx hb dX2_allowed_19 (by decide) ?_
    refine lv_iload_n hx hb dX2_allowed_20 rfl (lv_at hl 1 rfl) ?_
    refine lv_imul hx hb dX2_allowed_21 ?_
    refine lv_aload_n hx hb dX2_allowed_22 rfl (lv_at hl 0 rfl) ?_
    refine r_get (C := RX2) (T := TX2) (N := 10) hx hb hts in_X2 hown hK hR.obj rfl 2 (by decide) (hts _ q142) (fun _ h => h) (v := .int (f 8)) rfl dX2_allowed_23 ?_
    refine lv_isub hx hb dX2_allowed_26 ?_
    refine lv_iconst (v := 2) hx hb dX2_allowed_27 (by decide) ?_
    refine vp_callSi (toCR (va_runSN (As := [.int (((2 : Int32) * rd) - (f 8)), .int (2 : Int32)]) (rest := []) ⟨hx, hb, hml, hown, hts⟩ (met_X0_up l (((2 : Int32) * rd) - (f 8)) (2 : Int32) (by decide)) ⟨va_cnB 2 hts (lw_meth q678) rfl rfl rfl (hE.2.1 _ _ _ _ q676) (hts _ q60) (by decide +kernel) ⟨Nat.le_of_ble_eq_true rfl, Nat.le_of_ble_eq_true rfl⟩, hts _ q677, trivial⟩ ⟨fun a U g mk q => q, fun U hU hW => ⟨rfl, trivial⟩⟩ rfl rfl hl.1 rfl (lv_room (Nat.le_of_ble_eq_true rfl)) dX2_allowed_28 ⟨Nat.le_of_ble_eq_true rfl, Nat.le_of_ble_eq_true rfl⟩)) (fun r_2 hr_2 => ?_)
    subst hr_2
    refine lv_istore_n (lv' := [(3, .int (jup (((2 : Int32) * rd) - (f 8)) (2 : Int32))), (0, .ref (ad 0)), (1, .int rd), (2, .int (nI j))]) hx hb dX2_allowed_31 rfl hl (by decide) rfl (fun ls hl => ?_)
    refine lv_iconst (v := 2) hx hb dX2_allowed_32 (by decide) ?_
    refine lv_iload_n hx hb dX2_allowed_33 rfl (lv_at hl 2 rfl) ?_
    refine lv_imul hx hb dX2_allowed_34 ?_
    refine lv_aload_n hx hb dX2_allowed_35 rfl (lv_at hl 1 rfl) ?_
    refine r_get (C := RX2) (T := TX2) (N := 10) hx hb hts in_X2 hown hK hR.obj rfl 2 (by decide) (hts _ q142) (fun _ h => h) (v := .int (f 8)) rfl dX2_allowed_36 ?_
    refine lv_iadd hx hb dX2_allowed_39 ?_
    refine lv_iconst (v := 1) hx hb dX2_allowed_40 (by decide) ?_
    refine lv_isub hx hb dX2_allowed_41 ?_
    refine lv_iconst (v := 2) hx hb dX2_allowed_42 (by decide) ?_
    refine vp_callSi (W.runS (As := [.int ((((2 : Int32) * rd) + (f 8)) - (1 : Int32)), .int (2 : Int32)]) (rest := []) ⟨hx, hb, hml, hown, hts⟩ (met_J10_floorDiv l ((((2 : Int32) * rd) + (f 8)) - (1 : Int32)) (2 : Int32) (by decide)) (va_cwS 2 hts (lw_S q644 q645 q76 q646) rfl rfl rfl (by decide +kernel) ⟨Nat.le_of_ble_eq_true rfl, Nat.le_of_ble_eq_true rfl⟩) ⟨fun a U g mk q => q, fun U hU hW => ⟨rfl, trivial⟩⟩ rfl rfl hl.1 rfl (lv_room (Nat.le_of_ble_eq_true rfl)) dX2_allowed_43 ⟨Nat.le_of_ble_eq_true rfl, Nat.le_of_ble_eq_true rfl⟩) (fun r_3 hr_3 => ?_)
    subst hr_3
    refine lv_istore (lv' := [(4, .int (jfd ((((2 : Int32) * rd) + (f 8)) - (1 : Int32)) (2 : Int32))), (3, .int (jup (((2 : Int32) * rd) - (f 8)) (2 : Int32))), (0, .ref (ad 0)), (1, .int rd), (2, .int (nI j))]) hx hb dX2_allowed_46 hl (by decide) rfl (fun ls hl => ?_)
    refine lv_iload_n hx hb dX2_allowed_48 rfl (lv_at hl 3 rfl) ?_
    refine lv_if_ne (tgt := 56) hx hb dX2_allowed_49 (by decide) (fun c49_b_4 => ?_) (fun c49_b_4 => ?_)
    · skip
      refine lv_iconst (v := 0) hx hb dX2_allowed_56 (by decide) ?_
      refine lv_iload_n hx hb dX2_allowed_57 rfl (lv_at hl 1 rfl) ?_
      refine lv_aload_n hx hb dX2_allowed_58 rfl (lv_at hl 2 rfl) ?_
      refine r_get (C := RX2) (T := TX2) (N := 10) hx hb hts in_X2 hown hK hR.obj rfl 3 (by decide) (hts _ q144) (fun _ h => h) (v := .int (f 9)) rfl dX2_allowed_59 ?_
      refine lv_isub hx hb dX2_allowed_62 ?_
      refine lv_aload_n hx hb dX2_allowed_63 rfl (lv_at hl 2 rfl) ?_
      refine lv_iload_n hx hb dX2_allowed_64 rfl (lv_at hl 4 rfl) ?_
      refine vp_callSi (W.runV (As := [.int (nI j)]) (rest := [.int ((jup (((2 : Int32) * rd) - (f 8)) (2 : Int32)) - (f 9)), .int (0 : Int32)]) ⟨hx, hb, hml, hown, hts⟩ (met_X2_heaviest l D cA Z (fun _ => False) s.heap (j := j) hR (by first | assumption | omega | decide) (by first | assumption | omega | decide)) (cwV 1 hts (lw_V q680 q681 q682 q62 q683) rfl rfl rfl (by decide +kernel) ⟨Nat.le_of_ble_eq_true rfl, Nat.le_of_ble_eq_true rfl⟩) (cP_V hK hE (En.narrow hZn (fun _ h => h.elim)) (rcv hK hR.obj rfl)) rfl rfl hl.1 rfl (lv_room (Nat.le_of_ble_eq_true rfl)) dX2_allowed_65 ⟨Nat.le_of_ble_eq_true rfl, Nat.le_of_ble_eq_true rfl⟩) (fun r_5 hr_5 => ?_)
      subst hr_5
      refine vp_callSi (toCR (va_runSN (As := [.int ((jup (((2 : Int32) * rd) - (f 8)) (2 : Int32)) - (f 9)), .int (f j + f (4 + j))]) (rest := [.int (0 : Int32)]) ⟨hx, hb, hml, hown, hts⟩ (met_X0_up l ((jup (((2 : Int32) * rd) - (f 8)) (2 : Int32)) - (f 9)) (f j + f (4 + j)) (ok_heavy hI hj)) ⟨va_cnB 2 hts (lw_meth q678) rfl rfl rfl (hE.2.1 _ _ _ _ q676) (hts _ q60) (by decide +kernel) ⟨Nat.le_of_ble_eq_true rfl, Nat.le_of_ble_eq_true rfl⟩, hts _ q677, trivial⟩ ⟨fun a U g mk q => q, fun U hU hW => ⟨rfl, trivial⟩⟩ rfl rfl hl.1 rfl (lv_room (Nat.le_of_ble_eq_true rfl)) dX2_allowed_68 ⟨Nat.le_of_ble_eq_true rfl, Nat.le_of_ble_eq_true rfl⟩)) (fun r_6 hr_6 => ?_)
      subst hr_6
      refine vp_callSi (W.runS (As := [.int (0 : Int32), .int (jup ((jup (((2 : Int32) * rd) - (f 8)) (2 : Int32)) - (f 9)) (f j + f (4 + j)))]) (rest := []) ⟨hx, hb, hml, hown, hts⟩ (met_J10_max l (0 : Int32) (jup ((jup (((2 : Int32) * rd) - (f 8)) (2 : Int32)) - (f 9)) (f j + f (4 + j)))) (va_cwS 2 hts (lw_S q540 q391 q76 q392) rfl rfl rfl (by decide +kernel) ⟨Nat.le_of_ble_eq_true rfl, Nat.le_of_ble_eq_true rfl⟩) ⟨fun a U g mk q => q, fun U hU hW => ⟨rfl, trivial⟩⟩ rfl rfl hl.1 rfl (lv_room (Nat.le_of_ble_eq_true rfl)) dX2_allowed_71 ⟨Nat.le_of_ble_eq_true rfl, Nat.le_of_ble_eq_true rfl⟩) (fun r_7 hr_7 => ?_)
      subst hr_7
      refine lv_istore (lv' := [(5, .int (jmax (0 : Int32) (jup ((jup (((2 : Int32) * rd) - (f 8)) (2 : Int32)) - (f 9)) (f j + f (4 + j))))), (4, .int (jfd ((((2 : Int32) * rd) + (f 8)) - (1 : Int32)) (2 : Int32))), (3, .int (jup (((2 : Int32) * rd) - (f 8)) (2 : Int32))), (0, .ref (ad 0)), (1, .int rd), (2, .int (nI j))]) hx hb dX2_allowed_74 hl (by decide) rfl (fun ls hl => ?_)
      have h0q_10 := hS.1
      refine r_new (C := RX6) (T := TX6) (N := 2) (ci := 6) (fs := [.int (0 : Int32), .int (0 : Int32)]) hx hb hts in_X6 tyX6 tyX6_ok hown (hts _ q657) (hts _ q658) (hts _ q81) hK hS rfl (fun j hj => by match j, hj with | 0, _ => rfl | 1, _ => rfl) (by decide) (by decide) dX2_allowed_76 (fun H_9 hs_8 hS => ?_)
      have zq_10 := hF _ (h0q_10 : s.heap.size ≤ s.heap.size)
      have h_11 := hs_8.1
      have lq_10 : s.heap.size < H_9.size := at_lt h_11
      generalize eq_10 : s.heap.size = q_10 at zq_10 h_11 lq_10 ⊢
      have h0q_10 : s.heap.size ≤ q_10 := Nat.le_of_eq eq_10
      refine lv_dup hx hb dX2_allowed_79 rfl ?_
      refine lv_iload hx hb dX2_allowed_80 (lv_at hl 0 rfl) ?_
      refine lv_iload hx hb dX2_allowed_82 (lv_at hl 1 rfl) ?_
      refine lv_aload_n hx hb dX2_allowed_84 rfl (lv_at hl 3 rfl) ?_
      refine r_get (C := RX2) (T := TX2) (N := 10) hx hb hts in_X2 hown hK (hR.old (by rw [← hFe]; exact hS.c)).obj rfl 3 (by decide) (hts _ q144) (fun _ h => h) (v := .int (f 9)) rfl dX2_allowed_85 ?_
      refine lv_iadd hx hb dX2_allowed_88 ?_
      refine lv_aload_n hx hb dX2_allowed_89 rfl (lv_at hl 3 rfl) ?_
      refine lv_iload_n hx hb dX2_allowed_90 rfl (lv_at hl 5 rfl) ?_
      refine vp_callSi (W.runV (As := [.int (nI j)]) (rest := [.int ((jfd ((((2 : Int32) * rd) + (f 8)) - (1 : Int32)) (2 : Int32)) + (f 9)), .int (jmax (0 : Int32) (jup ((jup (((2 : Int32) * rd) - (f 8)) (2 : Int32)) - (f 9)) (f j + f (4 + j)))), .ref q_10, .ref q_10]) ⟨hx, hb, hml, hown, hts⟩ (met_X2_lightest l D cA Z (fun _ => False) H_9 (j := j) (hR.old (by rw [← hFe]; exact hS.c)) (by first | assumption | omega | decide) (by first | assumption | omega | decide)) (cwV 1 hts (lw_V q684 q685 q686 q62 q687) rfl rfl rfl (by decide +kernel) ⟨Nat.le_of_ble_eq_true rfl, Nat.le_of_ble_eq_true rfl⟩) (cP_V hK hE (En.narrow (hZn.kept hS.c) (fun _ h => h.elim)) (rcv hK (hR.old (by rw [← hFe]; exact hS.c)).obj rfl)) rfl rfl hl.1 rfl (lv_room (Nat.le_of_ble_eq_true rfl)) dX2_allowed_91 ⟨Nat.le_of_ble_eq_true rfl, Nat.le_of_ble_eq_true rfl⟩) (fun r_12 hr_12 => ?_)
      subst hr_12
      refine lv_idiv hx hb dX2_allowed_94 (ok_light hI hj) ?_
      have hSo := hS
      refine va_callv (va_runI (As := [.int (jmax (0 : Int32) (jup ((jup (((2 : Int32) * rd) - (f 8)) (2 : Int32)) - (f 9)) (f j + f (4 + j)))), .int (((jfd ((((2 : Int32) * rd) + (f 8)) - (1 : Int32)) (2 : Int32)) + (f 9)) / (f j - f (4 + j)))]) (rest := [.ref q_10]) ⟨hx, hb, hml, hown, hts⟩ (met_X6_init l D cA Z (fun q => q = q_10) H_9 (x := (0 : Int32)) (y := (0 : Int32)) (lo := (jmax (0 : Int32) (jup ((jup (((2 : Int32) * rd) - (f 8)) (2 : Int32)) - (f 9)) (f j + f (4 + j))))) (hi := (((jfd ((((2 : Int32) * rd) + (f 8)) - (1 : Int32)) (2 : Int32)) + (f 9)) / (f j - f (4 + j)))) h_11 rfl) (cwI 2 hts (lw_meth q661) rfl rfl rfl (hts _ q81) (hts _ q659) (hts _ q660) rfl (by decide +kernel) ⟨Nat.le_of_ble_eq_true rfl, Nat.le_of_ble_eq_true rfl⟩) (cP_S hK hE (En.narrow (hZn.kept hS.c) (fun q h => by subst h; exact zq_10))) rfl rfl hl.1 rfl (lv_room (Nat.le_of_ble_eq_true rfl)) dX2_allowed_95 ⟨Nat.le_of_ble_eq_true rfl, Nat.le_of_ble_eq_true rfl⟩) hS (fun q _ h => (fun q h => by subst h; exact zq_10) q h) (fun q h => by subst h; exact zq_10) (fun H_14 t H_14x locs ht _ hr_13 hB hz hk hS => ?_)
      obtain rfl : H_14x = H_14 := ht.symm.trans hB
      have hz_15 : hC (fun q => q = q_10) H_9 H_14x := ⟨hz, hk⟩
      clear hz hk hB ht
      have h_16 := hr_13
      subst hQe
      refine W.widen (k := 1) (n := 2) (by first | decide | omega) (by first | decide | omega) ?_
      subst hFe
      exact W.aret hx hb hr (Or.inl ⟨_, rfl⟩) (Or.inr ⟨_, rfl⟩) (fun t ht hW => ⟨⟨some q_10, H_14x, rfl, ⟨q_10, rfl, h0q_10, (by rw [jrl_y c6_b_1, jrg_y c6_b_1, ← p_le hI hj h0 h1 c49_b_4, ← p_gr hI]; exact h_16)⟩, ht⟩, hS.F ht⟩) hS.2.2 dX2_allowed_98
    · skip
      refine lv_iconst (v := 0) hx hb dX2_allowed_52 (by decide) ?_
      refine lv_goto (tgt := 74) hx hb dX2_allowed_53 (by decide) ?_
      refine lv_istore (lv' := [(5, .int (0 : Int32)), (4, .int (jfd ((((2 : Int32) * rd) + (f 8)) - (1 : Int32)) (2 : Int32))), (3, .int (jup (((2 : Int32) * rd) - (f 8)) (2 : Int32))), (0, .ref (ad 0)), (1, .int rd), (2, .int (nI j))]) hx hb dX2_allowed_74 hl (by decide) rfl (fun ls hl => ?_)
      have h0q_19 := hS.1
      refine r_new (C := RX6) (T := TX6) (N := 2) (ci := 6) (fs := [.int (0 : Int32), .int (0 : Int32)]) hx hb hts in_X6 tyX6 tyX6_ok hown (hts _ q657) (hts _ q658) (hts _ q81) hK hS rfl (fun j hj => by match j, hj with | 0, _ => rfl | 1, _ => rfl) (by decide) (by decide) dX2_allowed_76 (fun H_18 hs_17 hS => ?_)
      have zq_19 := hF _ (h0q_19 : s.heap.size ≤ s.heap.size)
      have h_20 := hs_17.1
      have lq_19 : s.heap.size < H_18.size := at_lt h_20
      generalize eq_19 : s.heap.size = q_19 at zq_19 h_20 lq_19 ⊢
      have h0q_19 : s.heap.size ≤ q_19 := Nat.le_of_eq eq_19
      refine lv_dup hx hb dX2_allowed_79 rfl ?_
      refine lv_iload hx hb dX2_allowed_80 (lv_at hl 0 rfl) ?_
      refine lv_iload hx hb dX2_allowed_82 (lv_at hl 1 rfl) ?_
      refine lv_aload_n hx hb dX2_allowed_84 rfl (lv_at hl 3 rfl) ?_
      refine r_get (C := RX2) (T := TX2) (N := 10) hx hb hts in_X2 hown hK (hR.old (by rw [← hFe]; exact hS.c)).obj rfl 3 (by decide) (hts _ q144) (fun _ h => h) (v := .int (f 9)) rfl dX2_allowed_85 ?_
      refine lv_iadd hx hb dX2_allowed_88 ?_
      refine lv_aload_n hx hb dX2_allowed_89 rfl (lv_at hl 3 rfl) ?_
      refine lv_iload_n hx hb dX2_allowed_90 rfl (lv_at hl 5 rfl) ?_
      refine vp_callSi (W.runV (As := [.int (nI j)]) (rest := [.int ((jfd ((((2 : Int32) * rd) + (f 8)) - (1 : Int32)) (2 : Int32)) + (f 9)), .int (0 : Int32), .ref q_19, .ref q_19]) ⟨hx, hb, hml, hown, hts⟩ (met_X2_lightest l D cA Z (fun _ => False) H_18 (j := j) (hR.old (by rw [← hFe]; exact hS.c)) (by first | assumption | omega | decide) (by first | assumption | omega | decide)) (cwV 1 hts (lw_V q684 q685 q686 q62 q687) rfl rfl rfl (by decide +kernel) ⟨Nat.le_of_ble_eq_true rfl, Nat.le_of_ble_eq_true rfl⟩) (cP_V hK hE (En.narrow (hZn.kept hS.c) (fun _ h => h.elim)) (rcv hK (hR.old (by rw [← hFe]; exact hS.c)).obj rfl)) rfl rfl hl.1 rfl (lv_room (Nat.le_of_ble_eq_true rfl)) dX2_allowed_91 ⟨Nat.le_of_ble_eq_true rfl, Nat.le_of_ble_eq_true rfl⟩) (fun r_21 hr_21 => ?_)
      subst hr_21
      refine lv_idiv hx hb dX2_allowed_94 (ok_light hI hj) ?_
      have hSo := hS
      refine va_callv (va_runI (As := [.int (0 : Int32), .int (((jfd ((((2 : Int32) * rd) + (f 8)) - (1 : Int32)) (2 : Int32)) + (f 9)) / (f j - f (4 + j)))]) (rest := [.ref q_19]) ⟨hx, hb, hml, hown, hts⟩ (met_X6_init l D cA Z (fun q => q = q_19) H_18 (x := (0 : Int32)) (y := (0 : Int32)) (lo := (0 : Int32)) (hi := (((jfd ((((2 : Int32) * rd) + (f 8)) - (1 : Int32)) (2 : Int32)) + (f 9)) / (f j - f (4 + j)))) h_20 rfl) (cwI 2 hts (lw_meth q661) rfl rfl rfl (hts _ q81) (hts _ q659) (hts _ q660) rfl (by decide +kernel) ⟨Nat.le_of_ble_eq_true rfl, Nat.le_of_ble_eq_true rfl⟩) (cP_S hK hE (En.narrow (hZn.kept hS.c) (fun q h => by subst h; exact zq_19))) rfl rfl hl.1 rfl (lv_room (Nat.le_of_ble_eq_true rfl)) dX2_allowed_95 ⟨Nat.le_of_ble_eq_true rfl, Nat.le_of_ble_eq_true rfl⟩) hS (fun q _ h => (fun q h => by subst h; exact zq_19) q h) (fun q h => by subst h; exact zq_19) (fun H_23 t H_23x locs ht _ hr_22 hB hz hk hS => ?_)
      obtain rfl : H_23x = H_23 := ht.symm.trans hB
      have hz_24 : hC (fun q => q = q_19) H_18 H_23x := ⟨hz, hk⟩
      clear hz hk hB ht
      have h_25 := hr_22
      subst hQe
      refine W.widen (k := 1) (n := 2) (by first | decide | omega) (by first | decide | omega) ?_
      subst hFe
      exact W.aret hx hb hr (Or.inl ⟨_, rfl⟩) (Or.inr ⟨_, rfl⟩) (fun t ht hW => ⟨⟨some q_19, H_23x, rfl, ⟨q_19, rfl, h0q_19, (by rw [jrl_y c6_b_1, jrg_y c6_b_1, p_le0' hI c49_b_4, ← p_gr hI]; exact h_25)⟩, ht⟩, hS.F ht⟩) hS.2.2 dX2_allowed_98
  · skip
    have h0q_28 := hS.1
    refine r_new (C := RX6) (T := TX6) (N := 2) (ci := 6) (fs := [.int (0 : Int32), .int (0 : Int32)]) hx hb hts in_X6 tyX6 tyX6_ok hown (hts _ q657) (hts _ q658) (hts _ q81) hK hS rfl (fun j hj => by match j, hj with | 0, _ => rfl | 1, _ => rfl) (by decide) (by decide) dX2_allowed_9 (fun H_27 hs_26 hS => ?_)
    have zq_28 := hF _ (h0q_28 : s.heap.size ≤ s.heap.size)
    have h_29 := hs_26.1
    have lq_28 : s.heap.size < H_27.size := at_lt h_29
    generalize eq_28 : s.heap.size = q_28 at zq_28 h_29 lq_28 ⊢
    have h0q_28 : s.heap.size ≤ q_28 := Nat.le_of_eq eq_28
    refine lv_dup hx hb dX2_allowed_12 rfl ?_
    refine lv_iconst (v := 1) hx hb dX2_allowed_13 (by decide) ?_
    refine lv_iconst (v := 0) hx hb dX2_allowed_14 (by decide) ?_
    have hSo := hS
    refine va_callv (va_runI (As := [.int (1 : Int32), .int (0 : Int32)]) (rest := [.ref q_28]) ⟨hx, hb, hml, hown, hts⟩ (met_X6_init l D cA Z (fun q => q = q_28) H_27 (x := (0 : Int32)) (y := (0 : Int32)) (lo := (1 : Int32)) (hi := (0 : Int32)) h_29 rfl) (cwI 2 hts (lw_meth q661) rfl rfl rfl (hts _ q81) (hts _ q659) (hts _ q660) rfl (by decide +kernel) ⟨Nat.le_of_ble_eq_true rfl, Nat.le_of_ble_eq_true rfl⟩) (cP_S hK hE (En.narrow (hZn.kept hS.c) (fun q h => by subst h; exact zq_28))) rfl rfl hl.1 rfl (lv_room (Nat.le_of_ble_eq_true rfl)) dX2_allowed_15 ⟨Nat.le_of_ble_eq_true rfl, Nat.le_of_ble_eq_true rfl⟩) hS (fun q _ h => (fun q h => by subst h; exact zq_28) q h) (fun q h => by subst h; exact zq_28) (fun H_31 t H_31x locs ht _ hr_30 hB hz hk hS => ?_)
    obtain rfl : H_31x = H_31 := ht.symm.trans hB
    have hz_32 : hC (fun q => q = q_28) H_27 H_31x := ⟨hz, hk⟩
    clear hz hk hB ht
    have h_33 := hr_30
    subst hQe
    refine W.widen (k := 1) (n := 2) (by first | decide | omega) (by first | decide | omega) ?_
    subst hFe
    exact W.aret hx hb hr (Or.inl ⟨_, rfl⟩) (Or.inr ⟨_, rfl⟩) (fun t ht hW => ⟨⟨some q_28, H_31x, rfl, ⟨q_28, rfl, h0q_28, (by rw [jrl_n c6_b_1, jrg_n c6_b_1]; exact h_33)⟩, ht⟩, hS.F ht⟩) hS.2.2 dX2_allowed_18

set_option maxHeartbeats 4000000 in
set_option maxRecDepth 100000 in
theorem met_X2_guess (l : Launch) (D : va_G) (cA : Nat → ClassId) (Z : Nat → Nat) (H : Heap) {ad : Nat → Nat} {f : Nat → Int32} {n p' : Nat} {mo : Nat → Int32} {B : Nat} {rd : Int32} {j u : Nat} (hR : CR D cA Z H ad f n p' mo) (hI : tk_ok B f) (hj : j < 4) (hu : u < 4) (h0 : 0 ≤ rd.toInt) (h1 : rd.toInt ≤ 3000000) : Met l yX2_guess (ws_ yX2_guess cX2_guess 4 (some .int)) (rmL 5 1 2) (cP D cA Z (fun q => H.size ≤ q) H [.ref (ad 0), .int rd, .int (nI j), .int (nI u)]) (va_Qi (fun (r : Int32) (H1 : Heap) => r = tk_gu f rd j (nI u)) (fun (H1 : Heap) (t : State) => t.heap = H1) (fun q => H.size ≤ q)) 1 2 (fun q => H.size ≤ q) := by
  refine Met.ofW (cc := cX2_guess) (maxL := 4) (ret := (some .int)) (by decide) rfl ?_
  intro p e s m args below meth c s₁ Bd hml hv
  obtain ⟨rfl, hh, hK, hE, hZn⟩ := hv
  subst hh
  have hx := Bd.exec
  have hb := Bd.bytes
  have hr := Bd.returns
  have hts := atoms_spec (ws := (ws_ yX2_guess cX2_guess 4 (some .int))) Bd.pre
  have hts : ∀ w ∈ lw_all, w.before _ s = true := fun w h => hts w (List.mem_cons_of_mem _ h)
  have hown : s.vm.findClass RX2 = some m.cls := findClass_of_methodNamed Bd.named
  have hlocks := Bd.notSynchronized
  obtain ⟨F, hFe⟩ : ∃ z : Nat → Prop, z = (fun q => s.heap.size ≤ q) := ⟨_, rfl⟩
  rw [← hFe] at hZn
  have hS : va_S F s.heap s.heap [] := va_S.rf
  have hF : ∀ q, s.heap.size ≤ q → F q := fun q h => by rw [hFe]; exact h
  have hl := lv_entry ([.ref (ad 0), .int rd, .int (nI j), .int (nI u)]) (n := 4) (Nat.le_of_ble_eq_true rfl)
  rw [lg_entry_eq]
  generalize (lg_sl ([.ref (ad 0), .int rd, .int (nI j), .int (nI u)]) ++ List.replicate (4 - (lg_sl ([.ref (ad 0), .int rd, .int (nI j), .int (nI u)])).length) Slot.unset).toArray = ls at hl ⊢
  have hl : lv_has ls 4 [(0, .ref (ad 0)), (1, .int rd), (2, .int (nI j)), (3, .int (nI u))] := hl
  refine W.gq fun Q0 hQe => ?_
  have hu2 : u = 0 ∨ u = 1 ∨ u = 2 ∨ u = 3 := by omega
  rcases hu2 with rfl | rfl | rfl | rfl
  · skip
    refine va_getsN hx hb hZn.2.2.1.1 hS hown (hE.1 _ _ _ _ _ _ q651) (fun _ h => h) dX2_guess_0 ?_
    refine lv_iload_n hx hb dX2_guess_3 rfl (lv_at hl 3 rfl) ?_
    refine vb_tq hx hb hZn.2.2.1.2 hS (vp_in_nI (n := 0) (by decide) (by decide)) (v := .ref (Z 2)) rfl dX2_guess_4 ?_
    refine lv_aload_n hx hb dX2_guess_5 rfl (lv_at hl 0 rfl) ?_
    refine lv_iload_n hx hb dX2_guess_6 rfl (lv_at hl 1 rfl) ?_
    refine lv_iload_n hx hb dX2_guess_7 rfl (lv_at hl 2 rfl) ?_
    have hSo := hS
    refine va_callq (va_runV (As := [.int rd, .int (nI j)]) (rest := [.ref (Z 2)]) ⟨hx, hb, hml, hown, hts⟩ (met_X2_allowed l D cA Z s.heap (rd := rd) (j := j) hR (by first | assumption | omega | decide) (by first | assumption | omega | decide) (by first | assumption | omega | decide) (by first | assumption | omega | decide)) (cwV 2 hts (lw_V q653 q654 q655 q62 q656) rfl rfl rfl (by decide +kernel) ⟨Nat.le_of_ble_eq_true rfl, Nat.le_of_ble_eq_true rfl⟩) (cP_V hK hE (En.narrow hZn (fun q h => hF q (Nat.le_trans hS.1 h))) (rcv hK hR.obj rfl)) rfl rfl hl.1 rfl (lv_room (Nat.le_of_ble_eq_true rfl)) dX2_guess_8 ⟨(by first | decide | omega), (by first | decide | omega)⟩) hS (fun q _ h => (fun q h => hF q (Nat.le_trans hS.1 h)) q h) (fun q h => hF q (Nat.le_trans hS.1 h)) (fun r_1 H_2 t H_2x locs ht _ hr_1 hB hz hk hS => ?_)
    obtain rfl : H_2x = H_2 := ht.symm.trans hB
    have hz_3 : hC (fun q => s.heap.size ≤ q) s.heap H_2x := ⟨hz, hk⟩
    clear hz hk hB ht
    obtain ⟨q_4, hr_1, z_5, h_6⟩ := hr_1
    have zq_4 : s.heap.size ≤ q_4 := Nat.le_trans hSo.1 z_5
    have mq_4 := hF _ zq_4
    subst hr_1
    refine lv_iload_n hx hb dX2_guess_11 rfl (lv_at hl 1 rfl) ?_
    refine lv_aload_n hx hb dX2_guess_12 rfl (lv_at hl 0 rfl) ?_
    refine r_get (C := RX2) (T := TX2) (N := 10) hx hb hts in_X2 hown hK (hR.old (by rw [← hFe]; exact hS.c)).obj rfl 0 (by decide) (hts _ q138) (fun _ h => h) (v := .ref (ad 1)) rfl dX2_guess_13 ?_
    refine lv_iload_n hx hb dX2_guess_16 rfl (lv_at hl 2 rfl) ?_
    refine r_iald hx hb hK (hR.old (by rw [← hFe]; exact hS.c)).wei 0 rfl j rfl (by omega) (by decide) dX2_guess_17 ?_
    refine va_csFi (g_runD (n := 3) (As := [.ref q_4, .int rd, .int (f j)]) (rest := []) ⟨hx, hb, hml, hown, hts⟩ (met_X18_of0 l D cA Z (fun _ => False) H_2x (lo := (jrl f rd j)) (hi := (jrg f rd j)) (rd := rd) (we := (f j)) h_6 (p_s2n5 hI hj)) (cP_V hK hE (En.narrow (hZn.kept hS.c) (fun _ h => h.elim)) (O_rcv (hZn.kept hS.c).2.2.2.1)) (lw_meth q696) rfl rfl rfl (hts _ q689) (hts _ q694) (hts _ q1938) ⟨q690, q695, q724, q691, q737⟩ hE hE.2.2.2.2.2.1 (by decide +kernel) ⟨Nat.le_of_ble_eq_true rfl, Nat.le_of_ble_eq_true rfl⟩ rfl rfl hl.1 rfl (lv_room (Nat.le_of_ble_eq_true rfl)) dX2_guess_18 ⟨Nat.le_of_ble_eq_true rfl, Nat.le_of_ble_eq_true rfl⟩) (fun r_7 hr_7 => ?_)
    subst hr_7
    subst hQe
    refine W.widen (k := 1) (n := 2) (by first | decide | omega) (by first | decide | omega) ?_
    subst hFe
    exact W.iret hx hb hr (fun t ht hW => ⟨⟨_, H_2x, rfl, (by exact p_gu (u := 0) hI hj hu h0 h1), ht⟩, hS.F ht⟩) hS.2.2 dX2_guess_23
  · skip
    refine va_getsN hx hb hZn.2.2.1.1 hS hown (hE.1 _ _ _ _ _ _ q651) (fun _ h => h) dX2_guess_0 ?_
    refine lv_iload_n hx hb dX2_guess_3 rfl (lv_at hl 3 rfl) ?_
    refine vb_tq hx hb hZn.2.2.1.2 hS (vp_in_nI (n := 1) (by decide) (by decide)) (v := .ref (Z 3)) rfl dX2_guess_4 ?_
    refine lv_aload_n hx hb dX2_guess_5 rfl (lv_at hl 0 rfl) ?_
    refine lv_iload_n hx hb dX2_guess_6 rfl (lv_at hl 1 rfl) ?_
    refine lv_iload_n hx hb dX2_guess_7 rfl (lv_at hl 2 rfl) ?_
    have hSo := hS
    refine va_callq (va_runV (As := [.int rd, .int (nI j)]) (rest := [.ref (Z 3)]) ⟨hx, hb, hml, hown, hts⟩ (met_X2_allowed l D cA Z s.heap (rd := rd) (j := j) hR (by first | assumption | omega | decide) (by first | assumption | omega | decide) (by first | assumption | omega | decide) (by first | assumption | omega | decide)) (cwV 2 hts (lw_V q653 q654 q655 q62 q656) rfl rfl rfl (by decide +kernel) ⟨Nat.le_of_ble_eq_true rfl, Nat.le_of_ble_eq_true rfl⟩) (cP_V hK hE (En.narrow hZn (fun q h => hF q (Nat.le_trans hS.1 h))) (rcv hK hR.obj rfl)) rfl rfl hl.1 rfl (lv_room (Nat.le_of_ble_eq_true rfl)) dX2_guess_8 ⟨(by first | decide | omega), (by first | decide | omega)⟩) hS (fun q _ h => (fun q h => hF q (Nat.le_trans hS.1 h)) q h) (fun q h => hF q (Nat.le_trans hS.1 h)) (fun r_8 H_9 t H_9x locs ht _ hr_8 hB hz hk hS => ?_)
    obtain rfl : H_9x = H_9 := ht.symm.trans hB
    have hz_10 : hC (fun q => s.heap.size ≤ q) s.heap H_9x := ⟨hz, hk⟩
    clear hz hk hB ht
    obtain ⟨q_11, hr_8, z_12, h_13⟩ := hr_8
    have zq_11 : s.heap.size ≤ q_11 := Nat.le_trans hSo.1 z_12
    have mq_11 := hF _ zq_11
    subst hr_8
    refine lv_iload_n hx hb dX2_guess_11 rfl (lv_at hl 1 rfl) ?_
    refine lv_aload_n hx hb dX2_guess_12 rfl (lv_at hl 0 rfl) ?_
    refine r_get (C := RX2) (T := TX2) (N := 10) hx hb hts in_X2 hown hK (hR.old (by rw [← hFe]; exact hS.c)).obj rfl 0 (by decide) (hts _ q138) (fun _ h => h) (v := .ref (ad 1)) rfl dX2_guess_13 ?_
    refine lv_iload_n hx hb dX2_guess_16 rfl (lv_at hl 2 rfl) ?_
    refine r_iald hx hb hK (hR.old (by rw [← hFe]; exact hS.c)).wei 0 rfl j rfl (by omega) (by decide) dX2_guess_17 ?_
    refine va_csFi (g_runD (n := 3) (As := [.ref q_11, .int rd, .int (f j)]) (rest := []) ⟨hx, hb, hml, hown, hts⟩ (met_X18_of1 l D cA Z (fun _ => False) H_9x (lo := (jrl f rd j)) (hi := (jrg f rd j)) (rd := rd) (we := (f j)) h_13 (p_s2n5 hI hj)) (cP_V hK hE (En.narrow (hZn.kept hS.c) (fun _ h => h.elim)) (O_rcv (hZn.kept hS.c).2.2.2.2.1)) (lw_meth q696) rfl rfl rfl (hts _ q689) (hts _ q694) (hts _ q1938) ⟨q690, q695, q712, q691, q735⟩ hE hE.2.2.2.2.2.2.1 (by decide +kernel) ⟨Nat.le_of_ble_eq_true rfl, Nat.le_of_ble_eq_true rfl⟩ rfl rfl hl.1 rfl (lv_room (Nat.le_of_ble_eq_true rfl)) dX2_guess_18 ⟨Nat.le_of_ble_eq_true rfl, Nat.le_of_ble_eq_true rfl⟩) (fun r_14 hr_14 => ?_)
    subst hr_14
    subst hQe
    refine W.widen (k := 1) (n := 2) (by first | decide | omega) (by first | decide | omega) ?_
    subst hFe
    exact W.iret hx hb hr (fun t ht hW => ⟨⟨_, H_9x, rfl, (by exact p_gu (u := 1) hI hj hu h0 h1), ht⟩, hS.F ht⟩) hS.2.2 dX2_guess_23
  · skip
    refine va_getsN hx hb hZn.2.2.1.1 hS hown (hE.1 _ _ _ _ _ _ q651) (fun _ h => h) dX2_guess_0 ?_
    refine lv_iload_n hx hb dX2_guess_3 rfl (lv_at hl 3 rfl) ?_
    refine vb_tq hx hb hZn.2.2.1.2 hS (vp_in_nI (n := 2) (by decide) (by decide)) (v := .ref (Z 4)) rfl dX2_guess_4 ?_
    refine lv_aload_n hx hb dX2_guess_5 rfl (lv_at hl 0 rfl) ?_
    refine lv_iload_n hx hb dX2_guess_6 rfl (lv_at hl 1 rfl) ?_
    refine lv_iload_n hx hb dX2_guess_7 rfl (lv_at hl 2 rfl) ?_
    have hSo := hS
    refine va_callq (va_runV (As := [.int rd, .int (nI j)]) (rest := [.ref (Z 4)]) ⟨hx, hb, hml, hown, hts⟩ (met_X2_allowed l D cA Z s.heap (rd := rd) (j := j) hR (by first | assumption | omega | decide) (by first | assumption | omega | decide) (by first | assumption | omega | decide) (by first | assumption | omega | decide)) (cwV 2 hts (lw_V q653 q654 q655 q62 q656) rfl rfl rfl (by decide +kernel) ⟨Nat.le_of_ble_eq_true rfl, Nat.le_of_ble_eq_true rfl⟩) (cP_V hK hE (En.narrow hZn (fun q h => hF q (Nat.le_trans hS.1 h))) (rcv hK hR.obj rfl)) rfl rfl hl.1 rfl (lv_room (Nat.le_of_ble_eq_true rfl)) dX2_guess_8 ⟨(by first | decide | omega), (by first | decide | omega)⟩) hS (fun q _ h => (fun q h => hF q (Nat.le_trans hS.1 h)) q h) (fun q h => hF q (Nat.le_trans hS.1 h)) (fun r_15 H_16 t H_16x locs ht _ hr_15 hB hz hk hS => ?_)
    obtain rfl : H_16x = H_16 := ht.symm.trans hB
    have hz_17 : hC (fun q => s.heap.size ≤ q) s.heap H_16x := ⟨hz, hk⟩
    clear hz hk hB ht
    obtain ⟨q_18, hr_15, z_19, h_20⟩ := hr_15
    have zq_18 : s.heap.size ≤ q_18 := Nat.le_trans hSo.1 z_19
    have mq_18 := hF _ zq_18
    subst hr_15
    refine lv_iload_n hx hb dX2_guess_11 rfl (lv_at hl 1 rfl) ?_
    refine lv_aload_n hx hb dX2_guess_12 rfl (lv_at hl 0 rfl) ?_
    refine r_get (C := RX2) (T := TX2) (N := 10) hx hb hts in_X2 hown hK (hR.old (by rw [← hFe]; exact hS.c)).obj rfl 0 (by decide) (hts _ q138) (fun _ h => h) (v := .ref (ad 1)) rfl dX2_guess_13 ?_
    refine lv_iload_n hx hb dX2_guess_16 rfl (lv_at hl 2 rfl) ?_
    refine r_iald hx hb hK (hR.old (by rw [← hFe]; exact hS.c)).wei 0 rfl j rfl (by omega) (by decide) dX2_guess_17 ?_
    refine va_csFi (g_runD (n := 3) (As := [.ref q_18, .int rd, .int (f j)]) (rest := []) ⟨hx, hb, hml, hown, hts⟩ (met_X18_of2 l D cA Z (fun _ => False) H_16x (lo := (jrl f rd j)) (hi := (jrg f rd j)) (rd := rd) (we := (f j)) h_20 (p_s2n5 hI hj)) (cP_V hK hE (En.narrow (hZn.kept hS.c) (fun _ h => h.elim)) (O_rcv (hZn.kept hS.c).2.2.2.2.2.1)) (lw_meth q696) rfl rfl rfl (hts _ q689) (hts _ q694) (hts _ q1938) ⟨q690, q695, q692, q691, q693⟩ hE hE.2.2.2.2.2.2.2.1 (by decide +kernel) ⟨Nat.le_of_ble_eq_true rfl, Nat.le_of_ble_eq_true rfl⟩ rfl rfl hl.1 rfl (lv_room (Nat.le_of_ble_eq_true rfl)) dX2_guess_18 ⟨Nat.le_of_ble_eq_true rfl, Nat.le_of_ble_eq_true rfl⟩) (fun r_21 hr_21 => ?_)
    subst hr_21
    subst hQe
    refine W.widen (k := 1) (n := 2) (by first | decide | omega) (by first | decide | omega) ?_
    subst hFe
    exact W.iret hx hb hr (fun t ht hW => ⟨⟨_, H_16x, rfl, (by exact p_gu (u := 2) hI hj hu h0 h1), ht⟩, hS.F ht⟩) hS.2.2 dX2_guess_23
  · skip
    refine va_getsN hx hb hZn.2.2.1.1 hS hown (hE.1 _ _ _ _ _ _ q651) (fun _ h => h) dX2_guess_0 ?_
    refine lv_iload_n hx hb dX2_guess_3 rfl (lv_at hl 3 rfl) ?_
    refine vb_tq hx hb hZn.2.2.1.2 hS (vp_in_nI (n := 3) (by decide) (by decide)) (v := .ref (Z 5)) rfl dX2_guess_4 ?_
    refine lv_aload_n hx hb dX2_guess_5 rfl (lv_at hl 0 rfl) ?_
    refine lv_iload_n hx hb dX2_guess_6 rfl (lv_at hl 1 rfl) ?_
    refine lv_iload_n hx hb dX2_guess_7 rfl (lv_at hl 2 rfl) ?_
    have hSo := hS
    refine va_callq (va_runV (As := [.int rd, .int (nI j)]) (rest := [.ref (Z 5)]) ⟨hx, hb, hml, hown, hts⟩ (met_X2_allowed l D cA Z s.heap (rd := rd) (j := j) hR (by first | assumption | omega | decide) (by first | assumption | omega | decide) (by first | assumption | omega | decide) (by first | assumption | omega | decide)) (cwV 2 hts (lw_V q653 q654 q655 q62 q656) rfl rfl rfl (by decide +kernel) ⟨Nat.le_of_ble_eq_true rfl, Nat.le_of_ble_eq_true rfl⟩) (cP_V hK hE (En.narrow hZn (fun q h => hF q (Nat.le_trans hS.1 h))) (rcv hK hR.obj rfl)) rfl rfl hl.1 rfl (lv_room (Nat.le_of_ble_eq_true rfl)) dX2_guess_8 ⟨(by first | decide | omega), (by first | decide | omega)⟩) hS (fun q _ h => (fun q h => hF q (Nat.le_trans hS.1 h)) q h) (fun q h => hF q (Nat.le_trans hS.1 h)) (fun r_22 H_23 t H_23x locs ht _ hr_22 hB hz hk hS => ?_)
    obtain rfl : H_23x = H_23 := ht.symm.trans hB
    have hz_24 : hC (fun q => s.heap.size ≤ q) s.heap H_23x := ⟨hz, hk⟩
    clear hz hk hB ht
    obtain ⟨q_25, hr_22, z_26, h_27⟩ := hr_22
    have zq_25 : s.heap.size ≤ q_25 := Nat.le_trans hSo.1 z_26
    have mq_25 := hF _ zq_25
    subst hr_22
    refine lv_iload_n hx hb dX2_guess_11 rfl (lv_at hl 1 rfl) ?_
    refine lv_aload_n hx hb dX2_guess_12 rfl (lv_at hl 0 rfl) ?_
    refine r_get (C := RX2) (T := TX2) (N := 10) hx hb hts in_X2 hown hK (hR.old (by rw [← hFe]; exact hS.c)).obj rfl 0 (by decide) (hts _ q138) (fun _ h => h) (v := .ref (ad 1)) rfl dX2_guess_13 ?_
    refine lv_iload_n hx hb dX2_guess_16 rfl (lv_at hl 2 rfl) ?_
    refine r_iald hx hb hK (hR.old (by rw [← hFe]; exact hS.c)).wei 0 rfl j rfl (by omega) (by decide) dX2_guess_17 ?_
    refine va_csFi (g_runD (n := 3) (As := [.ref q_25, .int rd, .int (f j)]) (rest := []) ⟨hx, hb, hml, hown, hts⟩ (met_X18_of3 l D cA Z (fun _ => False) H_23x (lo := (jrl f rd j)) (hi := (jrg f rd j)) (rd := rd) (we := (f j)) h_27 (p_s2n5 hI hj)) (cP_V hK hE (En.narrow (hZn.kept hS.c) (fun _ h => h.elim)) (O_rcv (hZn.kept hS.c).2.2.2.2.2.2)) (lw_meth q696) rfl rfl rfl (hts _ q689) (hts _ q694) (hts _ q1938) ⟨q690, q695, q718, q691, q736⟩ hE hE.2.2.2.2.2.2.2.2 (by decide +kernel) ⟨Nat.le_of_ble_eq_true rfl, Nat.le_of_ble_eq_true rfl⟩ rfl rfl hl.1 rfl (lv_room (Nat.le_of_ble_eq_true rfl)) dX2_guess_18 ⟨Nat.le_of_ble_eq_true rfl, Nat.le_of_ble_eq_true rfl⟩) (fun r_28 hr_28 => ?_)
    subst hr_28
    subst hQe
    refine W.widen (k := 1) (n := 2) (by first | decide | omega) (by first | decide | omega) ?_
    subst hFe
    exact W.iret hx hb hr (fun t ht hW => ⟨⟨_, H_23x, rfl, (by exact p_gu (u := 3) hI hj hu h0 h1), ht⟩, hS.F ht⟩) hS.2.2 dX2_guess_23
