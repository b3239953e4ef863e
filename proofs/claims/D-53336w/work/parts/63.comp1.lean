set_option maxHeartbeats 4000000 in
set_option maxRecDepth 100000 in
theorem met_J10_max (l : Launch) (a : Int32) (b : Int32) : Met l yJ10_max (ws_ yJ10_max cJ10_max 2 (some .int)) (rmL 1 0 0) (va_Pc [.int a, .int b] (fun _ => True)) (vp_Si (fun r => r = jmax a b)) 0 0 (fun _ => False) := by
  refine Met.ofWF (cc := cJ10_max) (maxL := 2) (ret := (some .int)) (by decide +kernel) rfl ?_
  intro p e s m args below meth c s₁ Bd hml hv
  obtain ⟨rfl, -⟩ := hv
  have hx := Bd.exec
  have hb := Bd.bytes
  have hr := Bd.returns
  have hts := atoms_spec (ws := (ws_ yJ10_max cJ10_max 2 (some .int))) Bd.pre
  have hts : ∀ w ∈ lw_all, w.before _ s = true := fun w h => hts w (List.mem_cons_of_mem _ h)
  have hown : s.vm.findClass RJ10 = some m.cls := findClass_of_methodNamed Bd.named
  have hlocks := Bd.notSynchronized
  have hl := lv_entry ([.int a, .int b]) (n := 2) (Nat.le_of_ble_eq_true rfl)
  rw [lg_entry_eq]
  generalize (lg_sl ([.int a, .int b]) ++ List.replicate (2 - (lg_sl ([.int a, .int b])).length) Slot.unset).toArray = ls at hl ⊢
  have hl : lv_has ls 2 [(0, .int a), (1, .int b)] := hl
  refine lv_iload_n hx hb dJ10_max_0 rfl (lv_at hl 0 rfl) ?_
  refine lv_iload_n hx hb dJ10_max_1 rfl (lv_at hl 1 rfl) ?_
  refine lv_icmp_lt (tgt := 9) hx hb dJ10_max_2 (by decide) (fun c2_b_1 => ?_) (fun c2_b_1 => ?_)
  · skip
    refine lv_iload_n hx hb dJ10_max_9 rfl (lv_at hl 1 rfl) ?_
    exact W.iret hx hb hr (fun t ht hW => ⟨_, rfl, (by simp [jmax, ← Int32.not_lt, c2_b_1]), ht⟩) (fun _ h => absurd h List.not_mem_nil) dJ10_max_10
  · skip
    refine lv_iload_n hx hb dJ10_max_5 rfl (lv_at hl 0 rfl) ?_
    refine lv_goto (tgt := 10) hx hb dJ10_max_6 (by decide) ?_
    exact W.iret hx hb hr (fun t ht hW => ⟨_, rfl, (by simp [jmax, ← Int32.not_lt, c2_b_1]), ht⟩) (fun _ h => absurd h List.not_mem_nil) dJ10_max_10

set_option maxHeartbeats 4000000 in
set_option maxRecDepth 100000 in
theorem met_J10_min (l : Launch) (a : Int32) (b : Int32) : Met l yJ10_min (ws_ yJ10_min cJ10_min 2 (some .int)) (rmL 1 0 0) (va_Pc [.int a, .int b] (fun _ => True)) (vp_Si (fun r => r = jmin a b)) 0 0 (fun _ => False) := by
  refine Met.ofWF (cc := cJ10_min) (maxL := 2) (ret := (some .int)) (by decide +kernel) rfl ?_
  intro p e s m args below meth c s₁ Bd hml hv
  obtain ⟨rfl, -⟩ := hv
  have hx := Bd.exec
  have hb := Bd.bytes
  have hr := Bd.returns
  have hts := atoms_spec (ws := (ws_ yJ10_min cJ10_min 2 (some .int))) Bd.pre
  have hts : ∀ w ∈ lw_all, w.before _ s = true := fun w h => hts w (List.mem_cons_of_mem _ h)
  have hown : s.vm.findClass RJ10 = some m.cls := findClass_of_methodNamed Bd.named
  have hlocks := Bd.notSynchronized
  have hl := lv_entry ([.int a, .int b]) (n := 2) (Nat.le_of_ble_eq_true rfl)
  rw [lg_entry_eq]
  generalize (lg_sl ([.int a, .int b]) ++ List.replicate (2 - (lg_sl ([.int a, .int b])).length) Slot.unset).toArray = ls at hl ⊢
  have hl : lv_has ls 2 [(0, .int a), (1, .int b)] := hl
  refine lv_iload_n hx hb dJ10_min_0 rfl (lv_at hl 0 rfl) ?_
  refine lv_iload_n hx hb dJ10_min_1 rfl (lv_at hl 1 rfl) ?_
  refine lv_icmp_gt (tgt := 9) hx hb dJ10_min_2 (by decide) (fun c2_b_1 => ?_) (fun c2_b_1 => ?_)
  · skip
    refine lv_iload_n hx hb dJ10_min_9 rfl (lv_at hl 1 rfl) ?_
    exact W.iret hx hb hr (fun t ht hW => ⟨_, rfl, (by simp [jmin, ← Int32.not_lt, c2_b_1]), ht⟩) (fun _ h => absurd h List.not_mem_nil) dJ10_min_10
  · skip
    refine lv_iload_n hx hb dJ10_min_5 rfl (lv_at hl 0 rfl) ?_
    refine lv_goto (tgt := 10) hx hb dJ10_min_6 (by decide) ?_
    exact W.iret hx hb hr (fun t ht hW => ⟨_, rfl, (by simp [jmin, ← Int32.not_lt, c2_b_1]), ht⟩) (fun _ h => absurd h List.not_mem_nil) dJ10_min_10

set_option maxHeartbeats 4000000 in
set_option maxRecDepth 100000 in
theorem met_J10_abs (l : Launch) (a : Int32) : Met l yJ10_abs (ws_ yJ10_abs cJ10_abs 1 (some .int)) (rmL 1 0 0) (va_Pc [.int a] (fun _ => True)) (vp_Si (fun r => r = jabs a)) 0 0 (fun _ => False) := by
  refine Met.ofWF (cc := cJ10_abs) (maxL := 1) (ret := (some .int)) (by decide +kernel) rfl ?_
  intro p e s m args below meth c s₁ Bd hml hv
  obtain ⟨rfl, -⟩ := hv
  have hx := Bd.exec
  have hb := Bd.bytes
  have hr := Bd.returns
  have hts := atoms_spec (ws := (ws_ yJ10_abs cJ10_abs 1 (some .int))) Bd.pre
  have hts : ∀ w ∈ lw_all, w.before _ s = true := fun w h => hts w (List.mem_cons_of_mem _ h)
  have hown : s.vm.findClass RJ10 = some m.cls := findClass_of_methodNamed Bd.named
  have hlocks := Bd.notSynchronized
  have hl := lv_entry ([.int a]) (n := 1) (Nat.le_of_ble_eq_true rfl)
  rw [lg_entry_eq]
  generalize (lg_sl ([.int a]) ++ List.replicate (1 - (lg_sl ([.int a])).length) Slot.unset).toArray = ls at hl ⊢
  have hl : lv_has ls 1 [(0, .int a)] := hl
  refine lv_iload_n hx hb dJ10_abs_0 rfl (lv_at hl 0 rfl) ?_
  refine lv_if_ge (tgt := 9) hx hb dJ10_abs_1 (by decide) (fun c1_b_1 => ?_) (fun c1_b_1 => ?_)
  · skip
    have c1_b_1 := Int32.not_lt.mpr c1_b_1
    refine lv_iload_n hx hb dJ10_abs_9 rfl (lv_at hl 0 rfl) ?_
    exact W.iret hx hb hr (fun t ht hW => ⟨_, rfl, (by simp [jabs, ← Int32.not_lt, c1_b_1]), ht⟩) (fun _ h => absurd h List.not_mem_nil) dJ10_abs_10
  · skip
    have c1_b_1 := Int32.not_le.mp c1_b_1
    refine lv_iload_n hx hb dJ10_abs_4 rfl (lv_at hl 0 rfl) ?_
    refine lv_ineg hx hb dJ10_abs_5 ?_
    refine lv_goto (tgt := 10) hx hb dJ10_abs_6 (by decide) ?_
    exact W.iret hx hb hr (fun t ht hW => ⟨_, rfl, (by simp [jabs, ← Int32.not_lt, c1_b_1]), ht⟩) (fun _ h => absurd h List.not_mem_nil) dJ10_abs_10

set_option maxHeartbeats 4000000 in
set_option maxRecDepth 100000 in
theorem met_J10_floorDiv (l : Launch) (a : Int32) (b : Int32) (hb0 : ¬ b = 0) : Met l yJ10_floorDiv (ws_ yJ10_floorDiv cJ10_floorDiv 3 (some .int)) (rmL 1 0 0) (va_Pc [.int a, .int b] (fun _ => True)) (vp_Si (fun r => r = jfd a b)) 0 0 (fun _ => False) := by
  refine Met.ofWF (cc := cJ10_floorDiv) (maxL := 3) (ret := (some .int)) (by decide +kernel) rfl ?_
  intro p e s m args below meth c s₁ Bd hml hv
  obtain ⟨rfl, -⟩ := hv
  have hx := Bd.exec
  have hb := Bd.bytes
  have hr := Bd.returns
  have hts := atoms_spec (ws := (ws_ yJ10_floorDiv cJ10_floorDiv 3 (some .int))) Bd.pre
  have hts : ∀ w ∈ lw_all, w.before _ s = true := fun w h => hts w (List.mem_cons_of_mem _ h)
  have hown : s.vm.findClass RJ10 = some m.cls := findClass_of_methodNamed Bd.named
  have hlocks := Bd.notSynchronized
  have hl := lv_entry ([.int a, .int b]) (n := 3) (Nat.le_of_ble_eq_true rfl)
  rw [lg_entry_eq]
  generalize (lg_sl ([.int a, .int b]) ++ List.replicate (3 - (lg_sl ([.int a, .int b])).length) Slot.unset).toArray = ls at hl ⊢
  have hl : lv_has ls 3 [(0, .int a), (1, .int b)] := hl
  refine lv_iload_n hx hb dJ10_floorDiv_0 rfl (lv_at hl 0 rfl) ?_
  refine lv_iload_n hx hb dJ10_floorDiv_1 rfl (lv_at hl 1 rfl) ?_
  refine lv_idiv hx hb dJ10_floorDiv_2 (by assumption) ?_
  refine lv_istore_n (lv' := [(2, .int (a / b)), (0, .int a), (1, .int b)]) hx hb dJ10_floorDiv_3 rfl hl (by decide) rfl (fun ls hl => ?_)
  refine lv_iload_n hx hb dJ10_floorDiv_4 rfl (lv_at hl 1 rfl) ?_
  refine lv_iload_n hx hb dJ10_floorDiv_5 rfl (lv_at hl 2 rfl) ?_
  refine lv_ixor hx hb dJ10_floorDiv_6 ?_
  refine lv_if_ge (tgt := 21) hx hb dJ10_floorDiv_7 (by decide) (fun c7_b_1 => ?_) (fun c7_b_1 => ?_)
  · skip
    have c7_b_1 := Int32.not_lt.mpr c7_b_1
    refine lv_iload_n hx hb dJ10_floorDiv_21 rfl (lv_at hl 0 rfl) ?_
    exact W.iret hx hb hr (fun t ht hW => ⟨_, rfl, (by simp [jfd, ← Int32.not_lt, c7_b_1]), ht⟩) (fun _ h => absurd h List.not_mem_nil) dJ10_floorDiv_22
  · skip
    have c7_b_1 := Int32.not_le.mp c7_b_1
    refine lv_iload_n hx hb dJ10_floorDiv_10 rfl (lv_at hl 0 rfl) ?_
    refine lv_iload_n hx hb dJ10_floorDiv_11 rfl (lv_at hl 2 rfl) ?_
    refine lv_imul hx hb dJ10_floorDiv_12 ?_
    refine lv_iload_n hx hb dJ10_floorDiv_13 rfl (lv_at hl 1 rfl) ?_
    refine lv_icmp_eq (tgt := 21) hx hb dJ10_floorDiv_14 (by decide) (fun c14_b_2 => ?_) (fun c14_b_2 => ?_)
    · skip
      refine lv_iload_n hx hb dJ10_floorDiv_21 rfl (lv_at hl 0 rfl) ?_
      exact W.iret hx hb hr (fun t ht hW => ⟨_, rfl, (by simp [jfd, ← Int32.not_lt, c7_b_1, c14_b_2]), ht⟩) (fun _ h => absurd h List.not_mem_nil) dJ10_floorDiv_22
    · skip
      refine lv_iload_n hx hb dJ10_floorDiv_17 rfl (lv_at hl 0 rfl) ?_
      refine lv_iconst (v := 1) hx hb dJ10_floorDiv_18 (by decide) ?_
      refine lv_isub hx hb dJ10_floorDiv_19 ?_
      exact W.iret hx hb hr (fun t ht hW => ⟨_, rfl, (by simp [jfd, ← Int32.not_lt, c7_b_1, c14_b_2]), ht⟩) (fun _ h => absurd h List.not_mem_nil) dJ10_floorDiv_20

set_option maxHeartbeats 4000000 in
set_option maxRecDepth 100000 in
theorem met_X6_init (l : Launch) (D : va_G) (cA : Nat → ClassId) (Z : Nat → Nat) (F : Nat → Prop) (H : Heap) {a : Nat} {x y : Int32} {lo : Int32} {hi : Int32} (ha : va_at D vwCl (a, .inr (6, [.int x, .int y])) H) (hFa : F a) : Met l yX6_init (ws_ yX6_init cX6_init 3 none) (rmL 1 0 0) (cP D cA Z F H [.ref a, .int lo, .int hi]) (va_Qv (fun (H1 : Heap) => va_at D vwCl (a, .inr (6, [.int lo, .int hi])) H1) (fun (H1 : Heap) (t : State) => t.heap = H1) F) 0 0 F := by
  refine Met.ofW (cc := cX6_init) (maxL := 3) (ret := none) (by decide) rfl ?_
  intro p e s m args below meth c s₁ Bd hml hv
  obtain ⟨rfl, hh, hK, hE, hZn⟩ := hv
  subst hh
  have hx := Bd.exec
  have hb := Bd.bytes
  have hr := Bd.returns
  have hts := atoms_spec (ws := (ws_ yX6_init cX6_init 3 none)) Bd.pre
  have hts : ∀ w ∈ lw_all, w.before _ s = true := fun w h => hts w (List.mem_cons_of_mem _ h)
  have hown : s.vm.findClass RX6 = some m.cls := findClass_of_methodNamed Bd.named
  have hlocks := Bd.notSynchronized
  have hinit : meth.name = "<init>" := (name_of_methodNamed Bd.named Bd.method).1
  have hS : va_S F s.heap s.heap [] := va_S.rf
  have hl := lv_entry ([.ref a, .int lo, .int hi]) (n := 3) (Nat.le_of_ble_eq_true rfl)
  rw [lg_entry_eq]
  generalize (lg_sl ([.ref a, .int lo, .int hi]) ++ List.replicate (3 - (lg_sl ([.ref a, .int lo, .int hi])).length) Slot.unset).toArray = ls at hl ⊢
  have hl : lv_has ls 3 [(0, .ref a), (1, .int lo), (2, .int hi)] := hl
  refine W.gq fun Q0 hQe => ?_
  refine lv_aload_n hx hb dX6_init_0 rfl (lv_at hl 0 rfl) ?_
  refine W.objInit hx hb hown (hts _ q662) (hts _ q98) (hts _ q99) rfl (hl.1.trans hml.symm) rfl dX6_init_1 (Nat.le_of_ble_eq_true rfl) (Nat.le_of_ble_eq_true rfl) ?_
  refine lv_aload_n hx hb dX6_init_4 rfl (lv_at hl 0 rfl) ?_
  refine lv_iload_n hx hb dX6_init_5 rfl (lv_at hl 1 rfl) ?_
  refine r_putF (C := RX6) (T := TX6) (N := 2) hx hb hts in_X6 tyX6 tyX6_ok nmX6 hown hK hS ha hFa rfl 0 (by decide) (hts _ q663) (fun _ h => h) rfl hinit rfl rfl rfl (Nat.le_of_ble_eq_true rfl) dX6_init_6 (fun H_2 locs hs_1 hS => ?_)
  have h_3 : va_at D vwCl (a, .inr (6, [.int lo, .int y])) H_2 := hs_1.1
  refine lv_aload_n hx hb dX6_init_9 rfl (lv_at hl 0 rfl) ?_
  refine lv_iload_n hx hb dX6_init_10 rfl (lv_at hl 2 rfl) ?_
  refine r_putF (C := RX6) (T := TX6) (N := 2) hx hb hts in_X6 tyX6 tyX6_ok nmX6 hown hK hS h_3 hFa rfl 1 (by decide) (hts _ q667) (fun _ h => h) rfl hinit rfl rfl rfl (Nat.le_of_ble_eq_true rfl) dX6_init_11 (fun H_5 locs hs_4 hS => ?_)
  have h_6 : va_at D vwCl (a, .inr (6, [.int lo, .int hi])) H_5 := hs_4.1
  subst hQe
  refine W.widen (k := 0) (n := 0) (by first | decide | omega) (by first | decide | omega) ?_
  exact W.vret hx hb hr (fun t ht hW => ⟨⟨H_5, rfl, h_6, ht⟩, hS.F ht⟩) hS.2.2 dX6_init_14

set_option maxHeartbeats 4000000 in
set_option maxRecDepth 100000 in
theorem met_X6_size (l : Launch) (D : va_G) (cA : Nat → ClassId) (Z : Nat → Nat) (F : Nat → Prop) (H : Heap) {a : Nat} {lo hi : Int32} (ha : va_at D vwCl (a, .inr (6, [.int lo, .int hi])) H) : Met l yX6_size (ws_ yX6_size cX6_size 1 (some .int)) (rmL 2 0 0) (cP D cA Z F H [.ref a]) (vp_Si (fun r => r = jmax 0 (hi - lo + 1))) 0 0 (fun _ => False) := by
  refine Met.ofW (cc := cX6_size) (maxL := 1) (ret := (some .int)) (by decide) rfl ?_
  intro p e s m args below meth c s₁ Bd hml hv
  obtain ⟨rfl, hh, hK, hE, hZn⟩ := hv
  subst hh
  have hx := Bd.exec
  have hb := Bd.bytes
  have hr := Bd.returns
  have hts := atoms_spec (ws := (ws_ yX6_size cX6_size 1 (some .int))) Bd.pre
  have hts : ∀ w ∈ lw_all, w.before _ s = true := fun w h => hts w (List.mem_cons_of_mem _ h)
  have hown : s.vm.findClass RX6 = some m.cls := findClass_of_methodNamed Bd.named
  have hlocks := Bd.notSynchronized
  have hS : va_S F s.heap s.heap [] := va_S.rf
  have hl := lv_entry ([.ref a]) (n := 1) (Nat.le_of_ble_eq_true rfl)
  rw [lg_entry_eq]
  generalize (lg_sl ([.ref a]) ++ List.replicate (1 - (lg_sl ([.ref a])).length) Slot.unset).toArray = ls at hl ⊢
  have hl : lv_has ls 1 [(0, .ref a)] := hl
  refine W.gq fun Q0 hQe => ?_
  refine lv_iconst (v := 0) hx hb dX6_size_0 (by decide) ?_
  refine lv_aload_n hx hb dX6_size_1 rfl (lv_at hl 0 rfl) ?_
  refine r_get (C := RX6) (T := TX6) (N := 2) hx hb hts in_X6 hown hK ha rfl 1 (by decide) (hts _ q667) (fun _ h => h) (v := .int hi) rfl dX6_size_2 ?_
  refine lv_aload_n hx hb dX6_size_5 rfl (lv_at hl 0 rfl) ?_
  refine r_get (C := RX6) (T := TX6) (N := 2) hx hb hts in_X6 hown hK ha rfl 0 (by decide) (hts _ q663) (fun _ h => h) (v := .int lo) rfl dX6_size_6 ?_
  refine lv_isub hx hb dX6_size_9 ?_
  refine lv_iconst (v := 1) hx hb dX6_size_10 (by decide) ?_
  refine lv_iadd hx hb dX6_size_11 ?_
  refine vp_callSi (W.runS (As := [.int (0 : Int32), .int ((hi - lo) + (1 : Int32))]) (rest := []) ⟨hx, hb, hml, hown, hts⟩ (met_J10_max l (0 : Int32) ((hi - lo) + (1 : Int32))) (va_cwS 2 hts (lw_S q701 q391 q76 q392) rfl rfl rfl (by decide +kernel) ⟨Nat.le_of_ble_eq_true rfl, Nat.le_of_ble_eq_true rfl⟩) ⟨fun a U g mk q => q, fun U hU hW => ⟨rfl, trivial⟩⟩ rfl rfl hl.1 rfl (lv_room (Nat.le_of_ble_eq_true rfl)) dX6_size_12 ⟨Nat.le_of_ble_eq_true rfl, Nat.le_of_ble_eq_true rfl⟩) (fun r_1 hr_1 => ?_)
  subst hr_1
  subst hQe
  exact W.iret hx hb hr (fun t ht hW => ⟨_, rfl, rfl, ht⟩) (fun _ h => absurd h List.not_mem_nil) dX6_size_15

set_option maxHeartbeats 4000000 in
set_option maxRecDepth 100000 in
theorem met_X6_nearestTo (l : Launch) (D : va_G) (cA : Nat → ClassId) (Z : Nat → Nat) (F : Nat → Prop) (H : Heap) {a : Nat} {lo hi n : Int32} (ha : va_at D vwCl (a, .inr (6, [.int lo, .int hi])) H) : Met l yX6_nearestTo (ws_ yX6_nearestTo cX6_nearestTo 2 (some .int)) (rmL 2 0 0) (cP D cA Z F H [.ref a, .int n]) (vp_Si (fun r => r = jmax lo (jmin hi n))) 0 0 (fun _ => False) := by
  refine Met.ofW (cc := cX6_nearestTo) (maxL := 2) (ret := (some .int)) (by decide) rfl ?_
  intro p e s m args below meth c s₁ Bd hml hv
  obtain ⟨rfl, hh, hK, hE, hZn⟩ := hv
  subst hh
  have hx := Bd.exec
  have hb := Bd.bytes
  have hr := Bd.returns
  have hts := atoms_spec (ws := (ws_ yX6_nearestTo cX6_nearestTo 2 (some .int))) Bd.pre
  have hts : ∀ w ∈ lw_all, w.before _ s = true := fun w h => hts w (List.mem_cons_of_mem _ h)
  have hown : s.vm.findClass RX6 = some m.cls := findClass_of_methodNamed Bd.named
  have hlocks := Bd.notSynchronized
  have hS : va_S F s.heap s.heap [] := va_S.rf
  have hl := lv_entry ([.ref a, .int n]) (n := 2) (Nat.le_of_ble_eq_true rfl)
  rw [lg_entry_eq]
  generalize (lg_sl ([.ref a, .int n]) ++ List.replicate (2 - (lg_sl ([.ref a, .int n])).length) Slot.unset).toArray = ls at hl ⊢
  have hl : lv_has ls 2 [(0, .ref a), (1, .int n)] := hl
  refine W.gq fun Q0 hQe => ?_
  refine lv_aload_n hx hb dX6_nearestTo_0 rfl (lv_at hl 0 rfl) ?_
  refine r_get (C := RX6) (T := TX6) (N := 2) hx hb hts in_X6 hown hK ha rfl 0 (by decide) (hts _ q663) (fun _ h => h) (v := .int lo) rfl dX6_nearestTo_1 ?_
  refine lv_aload_n hx hb dX6_nearestTo_4 rfl (lv_at hl 0 rfl) ?_
  refine r_get (C := RX6) (T := TX6) (N := 2) hx hb hts in_X6 hown hK ha rfl 1 (by decide) (hts _ q667) (fun _ h => h) (v := .int hi) rfl dX6_nearestTo_5 ?_
  refine lv_iload_n hx hb dX6_nearestTo_8 rfl (lv_at hl 1 rfl) ?_
  refine vp_callSi (W.runS (As := [.int hi, .int n]) (rest := [.int lo]) ⟨hx, hb, hml, hown, hts⟩ (met_J10_min l hi n) (va_cwS 2 hts (lw_S q734 q433 q76 q434) rfl rfl rfl (by decide +kernel) ⟨Nat.le_of_ble_eq_true rfl, Nat.le_of_ble_eq_true rfl⟩) ⟨fun a U g mk q => q, fun U hU hW => ⟨rfl, trivial⟩⟩ rfl rfl hl.1 rfl (lv_room (Nat.le_of_ble_eq_true rfl)) dX6_nearestTo_9 ⟨Nat.le_of_ble_eq_true rfl, Nat.le_of_ble_eq_true rfl⟩) (fun r_1 hr_1 => ?_)
  subst hr_1
  refine vp_callSi (W.runS (As := [.int lo, .int (jmin hi n)]) (rest := []) ⟨hx, hb, hml, hown, hts⟩ (met_J10_max l lo (jmin hi n)) (va_cwS 2 hts (lw_S q701 q391 q76 q392) rfl rfl rfl (by decide +kernel) ⟨Nat.le_of_ble_eq_true rfl, Nat.le_of_ble_eq_true rfl⟩) ⟨fun a U g mk q => q, fun U hU hW => ⟨rfl, trivial⟩⟩ rfl rfl hl.1 rfl (lv_room (Nat.le_of_ble_eq_true rfl)) dX6_nearestTo_12 ⟨Nat.le_of_ble_eq_true rfl, Nat.le_of_ble_eq_true rfl⟩) (fun r_2 hr_2 => ?_)
  subst hr_2
  subst hQe
  exact W.iret hx hb hr (fun t ht hW => ⟨_, rfl, rfl, ht⟩) (fun _ h => absurd h List.not_mem_nil) dX6_nearestTo_15

set_option maxHeartbeats 4000000 in
set_option maxRecDepth 100000 in
theorem met_X7_init (l : Launch) (D : va_G) (cA : Nat → ClassId) (Z : Nat → Nat) (F : Nat → Prop) (H : Heap) {a : Nat} {x y z u k n rd g : Int32} (ha : va_at D vwCl (a, .inr (7, [.int x, .int y, .int z, .int u])) H) (hFa : F a) : Met l yX7_init (ws_ yX7_init cX7_init 5 none) (rmL 1 0 0) (cP D cA Z F H [.ref a, .int k, .int n, .int rd, .int g]) (va_Qv (fun (H1 : Heap) => va_at D vwCl (a, .inr (7, [.int k, .int n, .int rd, .int g])) H1) (fun (H1 : Heap) (t : State) => t.heap = H1) F) 0 0 F := by
  refine Met.ofW (cc := cX7_init) (maxL := 5) (ret := none) (by decide) rfl ?_
  intro p e s m args below meth c s₁ Bd hml hv
  obtain ⟨rfl, hh, hK, hE, hZn⟩ := hv
  subst hh
  have hx := Bd.exec
  have hb := Bd.bytes
  have hr := Bd.returns
  have hts := atoms_spec (ws := (ws_ yX7_init cX7_init 5 none)) Bd.pre
  have hts : ∀ w ∈ lw_all, w.before _ s = true := fun w h => hts w (List.mem_cons_of_mem _ h)
  have hown : s.vm.findClass RX7 = some m.cls := findClass_of_methodNamed Bd.named
  have hlocks := Bd.notSynchronized
  have hinit : meth.name = "<init>" := (name_of_methodNamed Bd.named Bd.method).1
  have hS : va_S F s.heap s.heap [] := va_S.rf
  have hl := lv_entry ([.ref a, .int k, .int n, .int rd, .int g]) (n := 5) (Nat.le_of_ble_eq_true rfl)
  rw [lg_entry_eq]
  generalize (lg_sl ([.ref a, .int k, .int n, .int rd, .int g]) ++ List.replicate (5 - (lg_sl ([.ref a, .int k, .int n, .int rd, .int g])).length) Slot.unset).toArray = ls at hl ⊢
  have hl : lv_has ls 5 [(0, .ref a), (1, .int k), (2, .int n), (3, .int rd), (4, .int g)] := hl
  refine W.gq fun Q0 hQe => ?_
  refine lv_aload_n hx hb dX7_init_0 rfl (lv_at hl 0 rfl) ?_
  refine W.objInit hx hb hown (hts _ q756) (hts _ q98) (hts _ q99) rfl (hl.1.trans hml.symm) rfl dX7_init_1 (Nat.le_of_ble_eq_true rfl) (Nat.le_of_ble_eq_true rfl) ?_
  refine lv_aload_n hx hb dX7_init_4 rfl (lv_at hl 0 rfl) ?_
  refine lv_iload_n hx hb dX7_init_5 rfl (lv_at hl 1 rfl) ?_
  refine r_putF (C := RX7) (T := TX7) (N := 4) hx hb hts in_X7 tyX7 tyX7_ok nmX7 hown hK hS ha hFa rfl 0 (by decide) (hts _ q757) (fun _ h => h) rfl hinit rfl rfl rfl (Nat.le_of_ble_eq_true rfl) dX7_init_6 (fun H_2 locs hs_1 hS => ?_)
  have h_3 : va_at D vwCl (a, .inr (7, [.int k, .int y, .int z, .int u])) H_2 := hs_1.1
  refine lv_aload_n hx hb dX7_init_9 rfl (lv_at hl 0 rfl) ?_
  refine lv_iload_n hx hb dX7_init_10 rfl (lv_at hl 2 rfl) ?_
  refine r_putF (C := RX7) (T := TX7) (N := 4) hx hb hts in_X7 tyX7 tyX7_ok nmX7 hown hK hS h_3 hFa rfl 1 (by decide) (hts _ q759) (fun _ h => h) rfl hinit rfl rfl rfl (Nat.le_of_ble_eq_true rfl) dX7_init_11 (fun H_5 locs hs_4 hS => ?_)
  have h_6 : va_at D vwCl (a, .inr (7, [.int k, .int n, .int z, .int u])) H_5 := hs_4.1
  refine lv_aload_n hx hb dX7_init_14 rfl (lv_at hl 0 rfl) ?_
  refine lv_iload_n hx hb dX7_init_15 rfl (lv_at hl 3 rfl) ?_
  refine r_putF (C := RX7) (T := TX7) (N := 4) hx hb hts in_X7 tyX7 tyX7_ok nmX7 hown hK hS h_6 hFa rfl 2 (by decide) (hts _ q761) (fun _ h => h) rfl hinit rfl rfl rfl (Nat.le_of_ble_eq_true rfl) dX7_init_16 (fun H_8 locs hs_7 hS => ?_)
  have h_9 : va_at D vwCl (a, .inr (7, [.int k, .int n, .int rd, .int u])) H_8 := hs_7.1
  refine lv_aload_n hx hb dX7_init_19 rfl (lv_at hl 0 rfl) ?_
  refine lv_iload hx hb dX7_init_20 (lv_at hl 4 rfl) ?_
  refine r_putF (C := RX7) (T := TX7) (N := 4) hx hb hts in_X7 tyX7 tyX7_ok nmX7 hown hK hS h_9 hFa rfl 3 (by decide) (hts _ q763) (fun _ h => h) rfl hinit rfl rfl rfl (Nat.le_of_ble_eq_true rfl) dX7_init_22 (fun H_11 locs hs_10 hS => ?_)
  have h_12 : va_at D vwCl (a, .inr (7, [.int k, .int n, .int rd, .int g])) H_11 := hs_10.1
  subst hQe
  refine W.widen (k := 0) (n := 0) (by first | decide | omega) (by first | decide | omega) ?_
  exact W.vret hx hb hr (fun t ht hW => ⟨⟨H_11, rfl, h_12, ht⟩, hS.F ht⟩) hS.2.2 dX7_init_25

set_option maxHeartbeats 4000000 in
set_option maxRecDepth 100000 in
theorem met_X7_part (l : Launch) (D : va_G) (cA : Nat → ClassId) (Z : Nat → Nat) (F : Nat → Prop) (H : Heap) {a : Nat} {k n rd g w : Int32} (ha : va_at D vwCl (a, .inr (7, [.int k, .int n, .int rd, .int g])) H) : Met l yX7_part (ws_ yX7_part cX7_part 2 (some .int)) (rmL 1 0 0) (cP D cA Z F H [.ref a, .int w]) (vp_Si (fun r => r = if w = 1 then k else if w = 2 then n else if w = 3 then rd else g)) 0 0 (fun _ => False) := by
  refine Met.ofW (cc := cX7_part) (maxL := 2) (ret := (some .int)) (by decide) rfl ?_
  intro p e s m args below meth c s₁ Bd hml hv
  obtain ⟨rfl, hh, hK, hE, hZn⟩ := hv
  subst hh
  have hx := Bd.exec
  have hb := Bd.bytes
  have hr := Bd.returns
  have hts := atoms_spec (ws := (ws_ yX7_part cX7_part 2 (some .int))) Bd.pre
  have hts : ∀ w ∈ lw_all, w.before _ s = true := fun w h => hts w (List.mem_cons_of_mem _ h)
  have hown : s.vm.findClass RX7 = some m.cls := findClass_of_methodNamed Bd.named
  have hlocks := Bd.notSynchronized
  have hS : va_S F s.heap s.heap [] := va_S.rf
  have hl := lv_entry ([.ref a, .int w]) (n := 2) (Nat.le_of_ble_eq_true rfl)
  rw [lg_entry_eq]
  generalize (lg_sl ([.ref a, .int w]) ++ List.replicate (2 - (lg_sl ([.ref a, .int w])).length) Slot.unset).toArray = ls at hl ⊢
  have hl : lv_has ls 2 [(0, .ref a), (1, .int w)] := hl
  refine W.gq fun Q0 hQe => ?_
  refine lv_iload_n hx hb dX7_part_0 rfl (lv_at hl 1 rfl) ?_
  by_cases hs_1 : w = (1 : Int32)
  · skip
    subst hs_1
    refine lv_tableIn (tgt := 28) (off := 27) hx hb dX7_part_1 (by decide) (by decide) (by decide) (by decide) ?_
    refine lv_aload_n hx hb dX7_part_28 rfl (lv_at hl 0 rfl) ?_
    refine r_get (C := RX7) (T := TX7) (N := 4) hx hb hts in_X7 hown hK ha rfl 0 (by decide) (hts _ q757) (fun _ h => h) (v := .int k) rfl dX7_part_29 ?_
    refine lv_goto (tgt := 53) hx hb dX7_part_32 (by decide) ?_
    subst hQe
    exact W.iret hx hb hr (fun t ht hW => ⟨_, rfl, (by simp []), ht⟩) (fun _ h => absurd h List.not_mem_nil) dX7_part_53
  by_cases hs_2 : w = (2 : Int32)
  · skip
    subst hs_2
    refine lv_tableIn (tgt := 35) (off := 34) hx hb dX7_part_1 (by decide) (by decide) (by decide) (by decide) ?_
    refine lv_aload_n hx hb dX7_part_35 rfl (lv_at hl 0 rfl) ?_
    refine r_get (C := RX7) (T := TX7) (N := 4) hx hb hts in_X7 hown hK ha rfl 1 (by decide) (hts _ q759) (fun _ h => h) (v := .int n) rfl dX7_part_36 ?_
    refine lv_goto (tgt := 53) hx hb dX7_part_39 (by decide) ?_
    subst hQe
    exact W.iret hx hb hr (fun t ht hW => ⟨_, rfl, (by simp [hs_1]), ht⟩) (fun _ h => absurd h List.not_mem_nil) dX7_part_53
  by_cases hs_3 : w = (3 : Int32)
  · skip
    subst hs_3
    refine lv_tableIn (tgt := 42) (off := 41) hx hb dX7_part_1 (by decide) (by decide) (by decide) (by decide) ?_
    refine lv_aload_n hx hb dX7_part_42 rfl (lv_at hl 0 rfl) ?_
    refine r_get (C := RX7) (T := TX7) (N := 4) hx hb hts in_X7 hown hK ha rfl 2 (by decide) (hts _ q761) (fun _ h => h) (v := .int rd) rfl dX7_part_43 ?_
    refine lv_goto (tgt := 53) hx hb dX7_part_46 (by decide) ?_
    subst hQe
    exact W.iret hx hb hr (fun t ht hW => ⟨_, rfl, (by simp [hs_1, hs_2]), ht⟩) (fun _ h => absurd h List.not_mem_nil) dX7_part_53
  refine lv_tableOut (tgt := 49) hx hb dX7_part_1 (by have := lv_neT hs_1 (show (1 : Int32).toInt = 1 by decide); have := lv_neT hs_2 (show (2 : Int32).toInt = 2 by decide); have := lv_neT hs_3 (show (3 : Int32).toInt = 3 by decide); omega) (by decide) ?_
  refine lv_aload_n hx hb dX7_part_49 rfl (lv_at hl 0 rfl) ?_
  refine r_get (C := RX7) (T := TX7) (N := 4) hx hb hts in_X7 hown hK ha rfl 3 (by decide) (hts _ q763) (fun _ h => h) (v := .int g) rfl dX7_part_50 ?_
  subst hQe
  exact W.iret hx hb hr (fun t ht hW => ⟨_, rfl, (by simp [hs_1, hs_2, hs_3]), ht⟩) (fun _ h => absurd h List.not_mem_nil) dX7_part_53

set_option maxHeartbeats 4000000 in
set_option maxRecDepth 100000 in
theorem met_X4_init (l : Launch) (D : va_G) (cA : Nat → ClassId) (Z : Nat → Nat) (F : Nat → Prop) (H : Heap) {a : Nat} {x n : Int32} {kv : Option Nat} (ha : va_at D vwCl (a, .inr (4, [.int x, va_rf kv])) H) (hFa : F a) : Met l yX4_init (ws_ yX4_init cX4_init 2 none) (rmL 1 0 0) (cP D cA Z F H [.ref a, .int n]) (va_Qv (fun (H1 : Heap) => va_at D vwCl (a, .inr (4, [.int n, va_rf kv])) H1) (fun (H1 : Heap) (t : State) => t.heap = H1) F) 0 0 F := by
  refine Met.ofW (cc := cX4_init) (maxL := 2) (ret := none) (by decide) rfl ?_
  intro p e s m args below meth c s₁ Bd hml hv
  obtain ⟨rfl, hh, hK, hE, hZn⟩ := hv
  subst hh
  have hx := Bd.exec
  have hb := Bd.bytes
  have hr := Bd.returns
  have hts := atoms_spec (ws := (ws_ yX4_init cX4_init 2 none)) Bd.pre
  have hts : ∀ w ∈ lw_all, w.before _ s = true := fun w h => hts w (List.mem_cons_of_mem _ h)
  have hown : s.vm.findClass RX4 = some m.cls := findClass_of_methodNamed Bd.named
  have hlocks := Bd.notSynchronized
  have hinit : meth.name = "<init>" := (name_of_methodNamed Bd.named Bd.method).1
  have hS : va_S F s.heap s.heap [] := va_S.rf
  have hl := lv_entry ([.ref a, .int n]) (n := 2) (Nat.le_of_ble_eq_true rfl)
  rw [lg_entry_eq]
  generalize (lg_sl ([.ref a, .int n]) ++ List.replicate (2 - (lg_sl ([.ref a, .int n])).length) Slot.unset).toArray = ls at hl ⊢
  have hl : lv_has ls 2 [(0, .ref a), (1, .int n)] := hl
  refine W.gq fun Q0 hQe => ?_
  refine lv_aload_n hx hb dX4_init_0 rfl (lv_at hl 0 rfl) ?_
  refine W.objInit hx hb hown (hts _ q354) (hts _ q98) (hts _ q99) rfl (hl.1.trans hml.symm) rfl dX4_init_1 (Nat.le_of_ble_eq_true rfl) (Nat.le_of_ble_eq_true rfl) ?_
  refine lv_aload_n hx hb dX4_init_4 rfl (lv_at hl 0 rfl) ?_
  refine lv_iload_n hx hb dX4_init_5 rfl (lv_at hl 1 rfl) ?_
  refine r_put (C := RX4) (T := TX4) (N := 2) hx hb hts in_X4 tyX4 tyX4_ok nmX4 hown hK hS ha hFa rfl 0 (by decide) (hts _ q355) (fun _ h => h) rfl rfl rfl (Nat.le_of_ble_eq_true rfl) dX4_init_6 (fun H_2 locs hs_1 hS => ?_)
  have h_3 : va_at D vwCl (a, .inr (4, [.int n, va_rf kv])) H_2 := hs_1.1
  subst hQe
  refine W.widen (k := 0) (n := 0) (by first | decide | omega) (by first | decide | omega) ?_
  exact W.vret hx hb hr (fun t ht hW => ⟨⟨H_2, rfl, h_3, ht⟩, hS.F ht⟩) hS.2.2 dX4_init_9

set_option maxHeartbeats 4000000 in
set_option maxRecDepth 100000 in
theorem met_X4_get (l : Launch) (D : va_G) (cA : Nat → ClassId) (Z : Nat → Nat) (F : Nat → Prop) (H : Heap) {a : Nat} {x n : Int32} {kv : Option Nat} (ha : va_at D vwCl (a, .inr (4, [.int x, va_rf kv])) H) (hFa : F a) : Met l yX4_get (ws_ yX4_get cX4_get 2 none) (rmL 2 0 0) (cP D cA Z F H [.ref a, .int n]) (va_Qv (fun (H1 : Heap) => va_at D vwCl (a, .inr (4, [.int (jmax 0 (x + n)), va_rf kv])) H1) (fun (H1 : Heap) (t : State) => t.heap = H1) F) 0 0 F := by
  refine Met.ofW (cc := cX4_get) (maxL := 2) (ret := none) (by decide) rfl ?_
  intro p e s m args below meth c s₁ Bd hml hv
  obtain ⟨rfl, hh, hK, hE, hZn⟩ := hv
  subst hh
  have hx := Bd.exec
  have hb := Bd.bytes
  have hr := Bd.returns
  have hts := atoms_spec (ws := (ws_ yX4_get cX4_get 2 none)) Bd.pre
  have hts : ∀ w ∈ lw_all, w.before _ s = true := fun w h => hts w (List.mem_cons_of_mem _ h)
  have hown : s.vm.findClass RX4 = some m.cls := findClass_of_methodNamed Bd.named
  have hlocks := Bd.notSynchronized
  have hS : va_S F s.heap s.heap [] := va_S.rf
  have hl := lv_entry ([.ref a, .int n]) (n := 2) (Nat.le_of_ble_eq_true rfl)
  rw [lg_entry_eq]
  generalize (lg_sl ([.ref a, .int n]) ++ List.replicate (2 - (lg_sl ([.ref a, .int n])).length) Slot.unset).toArray = ls at hl ⊢
  have hl : lv_has ls 2 [(0, .ref a), (1, .int n)] := hl
  refine W.gq fun Q0 hQe => ?_
  refine lv_aload_n hx hb dX4_get_0 rfl (lv_at hl 0 rfl) ?_
  refine lv_iconst (v := 0) hx hb dX4_get_1 (by decide) ?_
  refine lv_aload_n hx hb dX4_get_2 rfl (lv_at hl 0 rfl) ?_
  refine r_get (C := RX4) (T := TX4) (N := 2) hx hb hts in_X4 hown hK ha rfl 0 (by decide) (hts _ q355) (fun _ h => h) (v := .int x) rfl dX4_get_3 ?_
  refine lv_iload_n hx hb dX4_get_6 rfl (lv_at hl 1 rfl) ?_
  refine lv_iadd hx hb dX4_get_7 ?_
  refine vp_callSi (W.runS (As := [.int (0 : Int32), .int (x + n)]) (rest := [.ref a]) ⟨hx, hb, hml, hown, hts⟩ (met_J10_max l (0 : Int32) (x + n)) (va_cwS 2 hts (lw_S q778 q391 q76 q392) rfl rfl rfl (by decide +kernel) ⟨Nat.le_of_ble_eq_true rfl, Nat.le_of_ble_eq_true rfl⟩) ⟨fun a U g mk q => q, fun U hU hW => ⟨rfl, trivial⟩⟩ rfl rfl hl.1 rfl (lv_room (Nat.le_of_ble_eq_true rfl)) dX4_get_8 ⟨Nat.le_of_ble_eq_true rfl, Nat.le_of_ble_eq_true rfl⟩) (fun r_1 hr_1 => ?_)
  subst hr_1
  refine r_put (C := RX4) (T := TX4) (N := 2) hx hb hts in_X4 tyX4 tyX4_ok nmX4 hown hK hS ha hFa rfl 0 (by decide) (hts _ q355) (fun _ h => h) rfl rfl rfl (Nat.le_of_ble_eq_true rfl) dX4_get_11 (fun H_3 locs hs_2 hS => ?_)
  have h_4 : va_at D vwCl (a, .inr (4, [.int (jmax (0 : Int32) (x + n)), va_rf kv])) H_3 := hs_2.1
  subst hQe
  refine W.widen (k := 0) (n := 0) (by first | decide | omega) (by first | decide | omega) ?_
  exact W.vret hx hb hr (fun t ht hW => ⟨⟨H_3, rfl, h_4, ht⟩, hS.F ht⟩) hS.2.2 dX4_get_14

set_option maxHeartbeats 4000000 in
set_option maxRecDepth 100000 in
theorem met_X4_copy (l : Launch) (D : va_G) (cA : Nat → ClassId) (Z : Nat → Nat) (F : Nat → Prop) (H : Heap) {a : Nat} {x : Int32} {kv : Option Nat} (ha : va_at D vwCl (a, .inr (4, [.int x, va_rf kv])) H) (hF : ∀ q, H.size ≤ q → F q) : Met l yX4_copy (ws_ yX4_copy cX4_copy 2 (some (.object "TicketScales$Customer"))) (rmL 2 1 2) (cP D cA Z F H [.ref a]) (va_Qq (fun (r : Option Nat) (H1 : Heap) => ∃ b : Nat, r = some b ∧ H.size ≤ b ∧ va_at D vwCl (b, .inr (4, [.int x, va_rf kv])) H1) (fun (H1 : Heap) (t : State) => t.heap = H1) F) 1 2 F := by
  refine Met.ofW (cc := cX4_copy) (maxL := 2) (ret := (some (.object "TicketScales$Customer"))) (by decide) rfl ?_
  intro p e s m args below meth c s₁ Bd hml hv
  obtain ⟨rfl, hh, hK, hE, hZn⟩ := hv
  subst hh
  have hx := Bd.exec
  have hb := Bd.bytes
  have hr := Bd.returns
  have hts := atoms_spec (ws := (ws_ yX4_copy cX4_copy 2 (some (.object "TicketScales$Customer")))) Bd.pre
  have hts : ∀ w ∈ lw_all, w.before _ s = true := fun w h => hts w (List.mem_cons_of_mem _ h)
  have hown : s.vm.findClass RX4 = some m.cls := findClass_of_methodNamed Bd.named
  have hlocks := Bd.notSynchronized
  have hS : va_S F s.heap s.heap [] := va_S.rf
  have hl := lv_entry ([.ref a]) (n := 2) (Nat.le_of_ble_eq_true rfl)
  rw [lg_entry_eq]
  generalize (lg_sl ([.ref a]) ++ List.replicate (2 - (lg_sl ([.ref a])).length) Slot.unset).toArray = ls at hl ⊢
  have hl : lv_has ls 2 [(0, .ref a)] := hl
  refine W.gq fun Q0 hQe => ?_
  have h0q_3 := hS.1
  refine r_new (C := RX4) (T := TX4) (N := 2) (ci := 4) (fs := [.int (0 : Int32), .null]) hx hb hts in_X4 tyX4 tyX4_ok hown (hts _ q349) (hts _ q350) (hts _ q74) hK hS rfl (fun j hj => by match j, hj with | 0, _ => rfl | 1, _ => rfl) (by decide) (by decide) dX4_copy_0 (fun H_2 hs_1 hS => ?_)
  have zq_3 := hF _ (h0q_3 : s.heap.size ≤ s.heap.size)
  have h_5 := atN ha hs_1
  have h_4 := hs_1.1
  have nq_3_x_6 := Nat.ne_of_lt (at_lt ha)
  have nq_3_x_7 := Nat.ne_of_lt (Nat.lt_of_lt_of_le (at_lt ha) h0q_3)
  have lq_3 : s.heap.size < H_2.size := at_lt h_4
  generalize eq_3 : s.heap.size = q_3 at zq_3 h_4 lq_3 nq_3_x_7 ⊢
  have h0q_3 : s.heap.size ≤ q_3 := Nat.le_of_eq eq_3
  refine lv_dup hx hb dX4_copy_3 rfl ?_
  refine lv_aload_n hx hb dX4_copy_4 rfl (lv_at hl 0 rfl) ?_
  refine r_get (C := RX4) (T := TX4) (N := 2) hx hb hts in_X4 hown hK h_5 rfl 0 (by decide) (hts _ q355) (fun _ h => h) (v := .int x) rfl dX4_copy_5 ?_
  have hSo := hS
  refine va_callv (va_runI (As := [.int x]) (rest := [.ref q_3]) ⟨hx, hb, hml, hown, hts⟩ (met_X4_init l D cA Z (fun q => q = q_3) H_2 (x := (0 : Int32)) (n := x) (kv := none) h_4 rfl) (cwI 1 hts (lw_meth q353) rfl rfl rfl (hts _ q74) (hts _ q351) (hts _ q352) rfl (by decide +kernel) ⟨Nat.le_of_ble_eq_true rfl, Nat.le_of_ble_eq_true rfl⟩) (cP_S hK hE (En.narrow (hZn.kept hS.c) (fun q h => by subst h; exact zq_3))) rfl rfl hl.1 rfl (lv_room (Nat.le_of_ble_eq_true rfl)) dX4_copy_8 ⟨Nat.le_of_ble_eq_true rfl, Nat.le_of_ble_eq_true rfl⟩) hS (fun q _ h => (fun q h => by subst h; exact zq_3) q h) (fun q h => by subst h; exact zq_3) (fun H_9 t H_9x locs ht _ hr_8 hB hz hk hS => ?_)
  obtain rfl : H_9x = H_9 := ht.symm.trans hB
  have hz_10 : hC (fun q => q = q_3) H_2 H_9x := ⟨hz, hk⟩
  clear hz hk hB ht
  have h_11 := atC h_5 hz_10 (fun h => absurd h nq_3_x_7)
  have h_12 := hr_8
  refine lv_astore_n (lv' := [(1, .ref q_3), (0, .ref a)]) hx hb dX4_copy_11 rfl hl (by decide) rfl (fun ls hl => ?_)
  refine lv_aload_n hx hb dX4_copy_12 rfl (lv_at hl 0 rfl) ?_
  refine lv_aload_n hx hb dX4_copy_13 rfl (lv_at hl 1 rfl) ?_
  refine r_get (C := RX4) (T := TX4) (N := 2) hx hb hts in_X4 hown hK h_11 rfl 1 (by decide) (hts _ q358) (fun _ h => h) (v := va_rf kv) rfl dX4_copy_14 ?_
  refine r_put (C := RX4) (T := TX4) (N := 2) hx hb hts in_X4 tyX4 tyX4_ok nmX4 hown hK hS h_12 zq_3 rfl 1 (by decide) (hts _ q358) (fun _ h => h) rfl (nar_q _) (fit_q _) (Nat.le_of_ble_eq_true rfl) dX4_copy_17 (fun H_14 locs hs_13 hS => ?_)
  have h_15 := atK h_11 hs_13 nq_3_x_7
  have h_16 : va_at D vwCl (q_3, .inr (4, [.int x, va_rf kv])) H_14 := hs_13.1
  refine lv_aload_n hx hb dX4_copy_20 rfl (lv_at hl 0 rfl) ?_
  subst hQe
  refine W.widen (k := 1) (n := 2) (by first | decide | omega) (by first | decide | omega) ?_
  exact W.aret hx hb hr (Or.inl ⟨_, rfl⟩) (Or.inr ⟨_, rfl⟩) (fun t ht hW => ⟨⟨some q_3, H_14, rfl, ⟨q_3, rfl, h0q_3, h_16⟩, ht⟩, hS.F ht⟩) hS.2.2 dX4_copy_21

set_option maxHeartbeats 4000000 in
set_option maxRecDepth 100000 in
theorem met_X5_init (l : Launch) (D : va_G) (cA : Nat → ClassId) (Z : Nat → Nat) (F : Nat → Prop) (H : Heap) {a : Nat} {u0 u1 u2 u3 u4 so bo : Int32} {pr : Int32} {we : Int32} {stk : Int32} {mk : Int32} {bx : Int32} (ha : va_at D vwCl (a, .inr (5, [.int u0, .int u1, .int u2, .int u3, .int u4, .int so, .int bo])) H) (hFa : F a) : Met l yX5_init (ws_ yX5_init cX5_init 6 none) (rmL 1 0 0) (cP D cA Z F H [.ref a, .int pr, .int we, .int stk, .int mk, .int bx]) (va_Qv (fun (H1 : Heap) => va_at D vwCl (a, .inr (5, [.int pr, .int we, .int stk, .int mk, .int bx, .int so, .int bo])) H1) (fun (H1 : Heap) (t : State) => t.heap = H1) F) 0 0 F := by
  refine Met.ofW (cc := cX5_init) (maxL := 6) (ret := none) (by decide) rfl ?_
  intro p e s m args below meth c s₁ Bd hml hv
  obtain ⟨rfl, hh, hK, hE, hZn⟩ := hv
  subst hh
  have hx := Bd.exec
  have hb := Bd.bytes
  have hr := Bd.returns
  have hts := atoms_spec (ws := (ws_ yX5_init cX5_init 6 none)) Bd.pre
  have hts : ∀ w ∈ lw_all, w.before _ s = true := fun w h => hts w (List.mem_cons_of_mem _ h)
  have hown : s.vm.findClass RX5 = some m.cls := findClass_of_methodNamed Bd.named
  have hlocks := Bd.notSynchronized
  have hinit : meth.name = "<init>" := (name_of_methodNamed Bd.named Bd.method).1
  have hS : va_S F s.heap s.heap [] := va_S.rf
  have hl := lv_entry ([.ref a, .int pr, .int we, .int stk, .int mk, .int bx]) (n := 6) (Nat.le_of_ble_eq_true rfl)
  rw [lg_entry_eq]
  generalize (lg_sl ([.ref a, .int pr, .int we, .int stk, .int mk, .int bx]) ++ List.replicate (6 - (lg_sl ([.ref a, .int pr, .int we, .int stk, .int mk, .int bx])).length) Slot.unset).toArray = ls at hl ⊢
  have hl : lv_has ls 6 [(0, .ref a), (1, .int pr), (2, .int we), (3, .int stk), (4, .int mk), (5, .int bx)] := hl
  refine W.gq fun Q0 hQe => ?_
  refine lv_aload_n hx hb dX5_init_0 rfl (lv_at hl 0 rfl) ?_
  refine W.objInit hx hb hown (hts _ q448) (hts _ q98) (hts _ q99) rfl (hl.1.trans hml.symm) rfl dX5_init_1 (Nat.le_of_ble_eq_true rfl) (Nat.le_of_ble_eq_true rfl) ?_
  refine lv_aload_n hx hb dX5_init_4 rfl (lv_at hl 0 rfl) ?_
  refine lv_iload_n hx hb dX5_init_5 rfl (lv_at hl 1 rfl) ?_
  refine r_put (C := RX5) (T := TX5) (N := 7) hx hb hts in_X5 tyX5 tyX5_ok nmX5 hown hK hS ha hFa rfl 0 (by decide) (hts _ q449) (fun _ h => h) rfl rfl rfl (Nat.le_of_ble_eq_true rfl) dX5_init_6 (fun H_2 locs hs_1 hS => ?_)
  have h_3 : va_at D vwCl (a, .inr (5, [.int pr, .int u1, .int u2, .int u3, .int u4, .int so, .int bo])) H_2 := hs_1.1
  refine lv_aload_n hx hb dX5_init_9 rfl (lv_at hl 0 rfl) ?_
  refine lv_iload_n hx hb dX5_init_10 rfl (lv_at hl 2 rfl) ?_
  refine r_putF (C := RX5) (T := TX5) (N := 7) hx hb hts in_X5 tyX5 tyX5_ok nmX5 hown hK hS h_3 hFa rfl 1 (by decide) (hts _ q452) (fun _ h => h) rfl hinit rfl rfl rfl (Nat.le_of_ble_eq_true rfl) dX5_init_11 (fun H_5 locs hs_4 hS => ?_)
  have h_6 : va_at D vwCl (a, .inr (5, [.int pr, .int we, .int u2, .int u3, .int u4, .int so, .int bo])) H_5 := hs_4.1
  refine lv_aload_n hx hb dX5_init_14 rfl (lv_at hl 0 rfl) ?_
  refine lv_iload_n hx hb dX5_init_15 rfl (lv_at hl 3 rfl) ?_
  refine r_put (C := RX5) (T := TX5) (N := 7) hx hb hts in_X5 tyX5 tyX5_ok nmX5 hown hK hS h_6 hFa rfl 2 (by decide) (hts _ q454) (fun _ h => h) rfl rfl rfl (Nat.le_of_ble_eq_true rfl) dX5_init_16 (fun H_8 locs hs_7 hS => ?_)
  have h_9 : va_at D vwCl (a, .inr (5, [.int pr, .int we, .int stk, .int u3, .int u4, .int so, .int bo])) H_8 := hs_7.1
  refine lv_aload_n hx hb dX5_init_19 rfl (lv_at hl 0 rfl) ?_
  refine lv_iload hx hb dX5_init_20 (lv_at hl 4 rfl) ?_
  refine r_putF (C := RX5) (T := TX5) (N := 7) hx hb hts in_X5 tyX5 tyX5_ok nmX5 hown hK hS h_9 hFa rfl 3 (by decide) (hts _ q457) (fun _ h => h) rfl hinit rfl rfl rfl (Nat.le_of_ble_eq_true rfl) dX5_init_22 (fun H_11 locs hs_10 hS => ?_)
  have h_12 : va_at D vwCl (a, .inr (5, [.int pr, .int we, .int stk, .int mk, .int u4, .int so, .int bo])) H_11 := hs_10.1
  refine lv_aload_n hx hb dX5_init_25 rfl (lv_at hl 0 rfl) ?_
  refine lv_iload hx hb dX5_init_26 (lv_at hl 5 rfl) ?_
  refine r_putF (C := RX5) (T := TX5) (N := 7) hx hb hts in_X5 tyX5 tyX5_ok nmX5 hown hK hS h_12 hFa rfl 4 (by decide) (hts _ q458) (fun _ h => h) rfl hinit rfl rfl rfl (Nat.le_of_ble_eq_true rfl) dX5_init_28 (fun H_14 locs hs_13 hS => ?_)
  have h_15 : va_at D vwCl (a, .inr (5, [.int pr, .int we, .int stk, .int mk, .int bx, .int so, .int bo])) H_14 := hs_13.1
  subst hQe
  refine W.widen (k := 0) (n := 0) (by first | decide | omega) (by first | decide | omega) ?_
  exact W.vret hx hb hr (fun t ht hW => ⟨⟨H_14, rfl, h_15, ht⟩, hS.F ht⟩) hS.2.2 dX5_init_31

set_option maxHeartbeats 4000000 in
set_option maxRecDepth 100000 in
theorem met_X5_copy (l : Launch) (D : va_G) (cA : Nat → ClassId) (Z : Nat → Nat) (F : Nat → Prop) (H : Heap) {a : Nat} {pr we stk mk bx so bo : Int32} (ha : va_at D vwCl (a, .inr (5, [.int pr, .int we, .int stk, .int mk, .int bx, .int so, .int bo])) H) (hF : ∀ q, H.size ≤ q → F q) : Met l yX5_copy (ws_ yX5_copy cX5_copy 2 (some (.object "TicketScales$Prize"))) (rmL 2 1 7) (cP D cA Z F H [.ref a]) (va_Qq (fun (r : Option Nat) (H1 : Heap) => ∃ b : Nat, r = some b ∧ H.size ≤ b ∧ va_at D vwCl (b, .inr (5, [.int pr, .int we, .int stk, .int mk, .int bx, .int so, .int bo])) H1) (fun (H1 : Heap) (t : State) => t.heap = H1) F) 1 7 F := by
  refine Met.ofW (cc := cX5_copy) (maxL := 2) (ret := (some (.object "TicketScales$Prize"))) (by decide) rfl ?_
  intro p e s m args below meth c s₁ Bd hml hv
  obtain ⟨rfl, hh, hK, hE, hZn⟩ := hv
  subst hh
  have hx := Bd.exec
  have hb := Bd.bytes
  have hr := Bd.returns
  have hts := atoms_spec (ws := (ws_ yX5_copy cX5_copy 2 (some (.object "TicketScales$Prize")))) Bd.pre
  have hts : ∀ w ∈ lw_all, w.before _ s = true := fun w h => hts w (List.mem_cons_of_mem _ h)
  have hown : s.vm.findClass RX5 = some m.cls := findClass_of_methodNamed Bd.named
  have hlocks := Bd.notSynchronized
  have hS : va_S F s.heap s.heap [] := va_S.rf
  have hl := lv_entry ([.ref a]) (n := 2) (Nat.le_of_ble_eq_true rfl)
  rw [lg_entry_eq]
  generalize (lg_sl ([.ref a]) ++ List.replicate (2 - (lg_sl ([.ref a])).length) Slot.unset).toArray = ls at hl ⊢
  have hl : lv_has ls 2 [(0, .ref a)] := hl
  refine W.gq fun Q0 hQe => ?_
  have h0q_3 := hS.1
  refine r_new (C := RX5) (T := TX5) (N := 7) (ci := 5) (fs := [.int (0 : Int32), .int (0 : Int32), .int (0 : Int32), .int (0 : Int32), .int (0 : Int32), .int (0 : Int32), .int (0 : Int32)]) hx hb hts in_X5 tyX5 tyX5_ok hown (hts _ q443) (hts _ q444) (hts _ q78) hK hS rfl (fun j hj => by match j, hj with | 0, _ => rfl | 1, _ => rfl | 2, _ => rfl | 3, _ => rfl | 4, _ => rfl | 5, _ => rfl | 6, _ => rfl) (by decide) (by decide) dX5_copy_0 (fun H_2 hs_1 hS => ?_)
  have zq_3 := hF _ (h0q_3 : s.heap.size ≤ s.heap.size)
  have h_5 := atN ha hs_1
  have h_4 := hs_1.1
  have nq_3_x_6 := Nat.ne_of_lt (at_lt ha)
  have nq_3_x_7 := Nat.ne_of_lt (Nat.lt_of_lt_of_le (at_lt ha) h0q_3)
  have lq_3 : s.heap.size < H_2.size := at_lt h_4
  generalize eq_3 : s.heap.size = q_3 at zq_3 h_4 lq_3 nq_3_x_7 ⊢
  have h0q_3 : s.heap.size ≤ q_3 := Nat.le_of_eq eq_3
  refine lv_dup hx hb dX5_copy_3 rfl ?_
  refine lv_aload_n hx hb dX5_copy_4 rfl (lv_at hl 0 rfl) ?_
  refine r_get (C := RX5) (T := TX5) (N := 7) hx hb hts in_X5 hown hK h_5 rfl 0 (by decide) (hts _ q449) (fun _ h => h) (v := .int pr) rfl dX5_copy_5 ?_
  refine lv_aload_n hx hb dX5_copy_8 rfl (lv_at hl 0 rfl) ?_
  refine r_get (C := RX5) (T := TX5) (N := 7) hx hb hts in_X5 hown hK h_5 rfl 1 (by decide) (hts _ q452) (fun _ h => h) (v := .int we) rfl dX5_copy_9 ?_
  refine lv_aload_n hx hb dX5_copy_12 rfl (lv_at hl 0 rfl) ?_
  refine r_get (C := RX5) (T := TX5) (N := 7) hx hb hts in_X5 hown hK h_5 rfl 2 (by decide) (hts _ q454) (fun _ h => h) (v := .int stk) rfl dX5_copy_13 ?_
  refine lv_aload_n hx hb dX5_copy_16 rfl (lv_at hl 0 rfl) ?_
  refine r_get (C := RX5) (T := TX5) (N := 7) hx hb hts in_X5 hown hK h_5 rfl 3 (by decide) (hts _ q457) (fun _ h => h) (v := .int mk) rfl dX5_copy_17 ?_
  refine lv_aload_n hx hb dX5_copy_20 rfl (lv_at hl 0 rfl) ?_
  refine r_get (C := RX5) (T := TX5) (N := 7) hx hb hts in_X5 hown hK h_5 rfl 4 (by decide) (hts _ q458) (fun _ h => h) (v := .int bx) rfl dX5_copy_21 ?_
  have hSo := hS
  refine va_callv (va_runI (As := [.int pr, .int we, .int stk, .int mk, .int bx]) (rest := [.ref q_3]) ⟨hx, hb, hml, hown, hts⟩ (met_X5_init l D cA Z (fun q => q = q_3) H_2 (u0 := (0 : Int32)) (u1 := (0 : Int32)) (u2 := (0 : Int32)) (u3 := (0 : Int32)) (u4 := (0 : Int32)) (so := (0 : Int32)) (bo := (0 : Int32)) (pr := pr) (we := we) (stk := stk) (mk := mk) (bx := bx) h_4 rfl) (cwI 5 hts (lw_meth q447) rfl rfl rfl (hts _ q78) (hts _ q445) (hts _ q446) rfl (by decide +kernel) ⟨Nat.le_of_ble_eq_true rfl, Nat.le_of_ble_eq_true rfl⟩) (cP_S hK hE (En.narrow (hZn.kept hS.c) (fun q h => by subst h; exact zq_3))) rfl rfl hl.1 rfl (lv_room (Nat.le_of_ble_eq_true rfl)) dX5_copy_24 ⟨Nat.le_of_ble_eq_true rfl, Nat.le_of_ble_eq_true rfl⟩) hS (fun q _ h => (fun q h => by subst h; exact zq_3) q h) (fun q h => by subst h; exact zq_3) (fun H_9 t H_9x locs ht _ hr_8 hB hz hk hS => ?_)
  obtain rfl : H_9x = H_9 := ht.symm.trans hB
  have hz_10 : hC (fun q => q = q_3) H_2 H_9x := ⟨hz, hk⟩
  clear hz hk hB ht
  have h_11 := atC h_5 hz_10 (fun h => absurd h nq_3_x_7)
  have h_12 := hr_8
  refine lv_astore_n (lv' := [(1, .ref q_3), (0, .ref a)]) hx hb dX5_copy_27 rfl hl (by decide) rfl (fun ls hl => ?_)
  refine lv_aload_n hx hb dX5_copy_28 rfl (lv_at hl 0 rfl) ?_
  refine lv_aload_n hx hb dX5_copy_29 rfl (lv_at hl 1 rfl) ?_
  refine r_get (C := RX5) (T := TX5) (N := 7) hx hb hts in_X5 hown hK h_11 rfl 5 (by decide) (hts _ q459) (fun _ h => h) (v := .int so) rfl dX5_copy_30 ?_
  refine r_put (C := RX5) (T := TX5) (N := 7) hx hb hts in_X5 tyX5 tyX5_ok nmX5 hown hK hS h_12 zq_3 rfl 5 (by decide) (hts _ q459) (fun _ h => h) rfl rfl rfl (Nat.le_of_ble_eq_true rfl) dX5_copy_33 (fun H_14 locs hs_13 hS => ?_)
  have h_15 := atK h_11 hs_13 nq_3_x_7
  have h_16 : va_at D vwCl (q_3, .inr (5, [.int pr, .int we, .int stk, .int mk, .int bx, .int so, .int (0 : Int32)])) H_14 := hs_13.1
  refine lv_aload_n hx hb dX5_copy_36 rfl (lv_at hl 0 rfl) ?_
  refine lv_aload_n hx hb dX5_copy_37 rfl (lv_at hl 1 rfl) ?_
  refine r_get (C := RX5) (T := TX5) (N := 7) hx hb hts in_X5 hown hK h_15 rfl 6 (by decide) (hts _ q460) (fun _ h => h) (v := .int bo) rfl dX5_copy_38 ?_
  refine r_put (C := RX5) (T := TX5) (N := 7) hx hb hts in_X5 tyX5 tyX5_ok nmX5 hown hK hS h_16 zq_3 rfl 6 (by decide) (hts _ q460) (fun _ h => h) rfl rfl rfl (Nat.le_of_ble_eq_true rfl) dX5_copy_41 (fun H_18 locs hs_17 hS => ?_)
  have h_19 := atK h_15 hs_17 nq_3_x_7
  have h_20 : va_at D vwCl (q_3, .inr (5, [.int pr, .int we, .int stk, .int mk, .int bx, .int so, .int bo])) H_18 := hs_17.1
  refine lv_aload_n hx hb dX5_copy_44 rfl (lv_at hl 0 rfl) ?_
  subst hQe
  refine W.widen (k := 1) (n := 7) (by first | decide | omega) (by first | decide | omega) ?_
  exact W.aret hx hb hr (Or.inl ⟨_, rfl⟩) (Or.inr ⟨_, rfl⟩) (fun t ht hW => ⟨⟨some q_3, H_18, rfl, ⟨q_3, rfl, h0q_3, h_20⟩, ht⟩, hS.F ht⟩) hS.2.2 dX5_copy_45

set_option maxHeartbeats 4000000 in
set_option maxRecDepth 100000 in
theorem met_X5_part (l : Launch) (D : va_G) (cA : Nat → ClassId) (Z : Nat → Nat) (F : Nat → Prop) (H : Heap) {a : Nat} {pr we stk mk bx so bo : Int32} {w : Int32} (ha : va_at D vwCl (a, .inr (5, [.int pr, .int we, .int stk, .int mk, .int bx, .int so, .int bo])) H) : Met l yX5_part (ws_ yX5_part cX5_part 2 (some .int)) (rmL 1 0 0) (cP D cA Z F H [.ref a, .int w]) (vp_Si (fun r => r = if w = 0 then pr else if w = 1 then we else if w = 2 then stk else if w = 3 then mk else if w = 4 then bx else if w = 5 then so else if w = 6 then bo else (-100001))) 0 0 (fun _ => False) := by
  refine Met.ofW (cc := cX5_part) (maxL := 2) (ret := (some .int)) (by decide) rfl ?_
  intro p e s m args below meth c s₁ Bd hml hv
  obtain ⟨rfl, hh, hK, hE, hZn⟩ := hv
  subst hh
  have hx := Bd.exec
  have hb := Bd.bytes
  have hr := Bd.returns
  have hts := atoms_spec (ws := (ws_ yX5_part cX5_part 2 (some .int))) Bd.pre
  have hts : ∀ w ∈ lw_all, w.before _ s = true := fun w h => hts w (List.mem_cons_of_mem _ h)
  have hown : s.vm.findClass RX5 = some m.cls := findClass_of_methodNamed Bd.named
  have hlocks := Bd.notSynchronized
  have hS : va_S F s.heap s.heap [] := va_S.rf
  have hl := lv_entry ([.ref a, .int w]) (n := 2) (Nat.le_of_ble_eq_true rfl)
  rw [lg_entry_eq]
  generalize (lg_sl ([.ref a, .int w]) ++ List.replicate (2 - (lg_sl ([.ref a, .int w])).length) Slot.unset).toArray = ls at hl ⊢
  have hl : lv_has ls 2 [(0, .ref a), (1, .int w)] := hl
  refine W.gq fun Q0 hQe => ?_
  refine lv_iload_n hx hb dX5_part_0 rfl (lv_at hl 1 rfl) ?_
  by_cases hs_1 : w = (0 : Int32)
  · skip
    subst hs_1
    refine lv_tableIn (tgt := 44) (off := 43) hx hb dX5_part_1 (by decide) (by decide) (by decide) (by decide) ?_
    refine lv_aload_n hx hb dX5_part_44 rfl (lv_at hl 0 rfl) ?_
    refine r_get (C := RX5) (T := TX5) (N := 7) hx hb hts in_X5 hown hK ha rfl 0 (by decide) (hts _ q449) (fun _ h => h) (v := .int pr) rfl dX5_part_45 ?_
    refine lv_goto (tgt := 95) hx hb dX5_part_48 (by decide) ?_
    subst hQe
    exact W.iret hx hb hr (fun t ht hW => ⟨_, rfl, (by simp []), ht⟩) (fun _ h => absurd h List.not_mem_nil) dX5_part_95
  by_cases hs_2 : w = (1 : Int32)
  · skip
    subst hs_2
    refine lv_tableIn (tgt := 51) (off := 50) hx hb dX5_part_1 (by decide) (by decide) (by decide) (by decide) ?_
    refine lv_aload_n hx hb dX5_part_51 rfl (lv_at hl 0 rfl) ?_
    refine r_get (C := RX5) (T := TX5) (N := 7) hx hb hts in_X5 hown hK ha rfl 1 (by decide) (hts _ q452) (fun _ h => h) (v := .int we) rfl dX5_part_52 ?_
    refine lv_goto (tgt := 95) hx hb dX5_part_55 (by decide) ?_
    subst hQe
    exact W.iret hx hb hr (fun t ht hW => ⟨_, rfl, (by simp [hs_1]), ht⟩) (fun _ h => absurd h List.not_mem_nil) dX5_part_95
  by_cases hs_3 : w = (2 : Int32)
  · skip
    subst hs_3
    refine lv_tableIn (tgt := 58) (off := 57) hx hb dX5_part_1 (by decide) (by decide) (by decide) (by decide) ?_
    refine lv_aload_n hx hb dX5_part_58 rfl (lv_at hl 0 rfl) ?_
    refine r_get (C := RX5) (T := TX5) (N := 7) hx hb hts in_X5 hown hK ha rfl 2 (by decide) (hts _ q454) (fun _ h => h) (v := .int stk) rfl dX5_part_59 ?_
    refine lv_goto (tgt := 95) hx hb dX5_part_62 (by decide) ?_
    subst hQe
    exact W.iret hx hb hr (fun t ht hW => ⟨_, rfl, (by simp [hs_1, hs_2]), ht⟩) (fun _ h => absurd h List.not_mem_nil) dX5_part_95
  by_cases hs_4 : w = (3 : Int32)
  · skip
    subst hs_4
    refine lv_tableIn (tgt := 65) (off := 64) hx hb dX5_part_1 (by decide) (by decide) (by decide) (by decide) ?_
    refine lv_aload_n hx hb dX5_part_65 rfl (lv_at hl 0 rfl) ?_
    refine r_get (C := RX5) (T := TX5) (N := 7) hx hb hts in_X5 hown hK ha rfl 3 (by decide) (hts _ q457) (fun _ h => h) (v := .int mk) rfl dX5_part_66 ?_
    refine lv_goto (tgt := 95) hx hb dX5_part_69 (by decide) ?_
    subst hQe
    exact W.iret hx hb hr (fun t ht hW => ⟨_, rfl, (by simp [hs_1, hs_2, hs_3]), ht⟩) (fun _ h => absurd h List.not_mem_nil) dX5_part_95
  by_cases hs_5 : w = (4 : Int32)
  · skip
    subst hs_5
    refine lv_tableIn (tgt := 72) (off := 71) hx hb dX5_part_1 (by decide) (by decide) (by decide) (by decide) ?_
    refine lv_aload_n hx hb dX5_part_72 rfl (lv_at hl 0 rfl) ?_
    refine r_get (C := RX5) (T := TX5) (N := 7) hx hb hts in_X5 hown hK ha rfl 4 (by decide) (hts _ q458) (fun _ h => h) (v := .int bx) rfl dX5_part_73 ?_
    refine lv_goto (tgt := 95) hx hb dX5_part_76 (by decide) ?_
    subst hQe
    exact W.iret hx hb hr (fun t ht hW => ⟨_, rfl, (by simp [hs_1, hs_2, hs_3, hs_4]), ht⟩) (fun _ h => absurd h List.not_mem_nil) dX5_part_95
  by_cases hs_6 : w = (5 : Int32)
  · skip
    subst hs_6
    refine lv_tableIn (tgt := 79) (off := 78) hx hb dX5_part_1 (by decide) (by decide) (by decide) (by decide) ?_
    refine lv_aload_n hx hb dX5_part_79 rfl (lv_at hl 0 rfl) ?_
    refine r_get (C := RX5) (T := TX5) (N := 7) hx hb hts in_X5 hown hK ha rfl 5 (by decide) (hts _ q459) (fun _ h => h) (v := .int so) rfl dX5_part_80 ?_
    refine lv_goto (tgt := 95) hx hb dX5_part_83 (by decide) ?_
    subst hQe
    exact W.iret hx hb hr (fun t ht hW => ⟨_, rfl, (by simp [hs_1, hs_2, hs_3, hs_4, hs_5]), ht⟩) (fun _ h => absurd h List.not_mem_nil) dX5_part_95
  by_cases hs_7 : w = (6 : Int32)
  · skip
    subst hs_7
    refine lv_tableIn (tgt := 86) (off := 85) hx hb dX5_part_1 (by decide) (by decide) (by decide) (by decide) ?_
    refine lv_aload_n hx hb dX5_part_86 rfl (lv_at hl 0 rfl) ?_
    refine r_get (C := RX5) (T := TX5) (N := 7) hx hb hts in_X5 hown hK ha rfl 6 (by decide) (hts _ q460) (fun _ h => h) (v := .int bo) rfl dX5_part_87 ?_
    refine lv_goto (tgt := 95) hx hb dX5_part_90 (by decide) ?_
    subst hQe
    exact W.iret hx hb hr (fun t ht hW => ⟨_, rfl, (by simp [hs_1, hs_2, hs_3, hs_4, hs_5, hs_6]), ht⟩) (fun _ h => absurd h List.not_mem_nil) dX5_part_95
  refine lv_tableOut (tgt := 93) hx hb dX5_part_1 (by have := lv_neT hs_1 (show (0 : Int32).toInt = 0 by decide); have := lv_neT hs_2 (show (1 : Int32).toInt = 1 by decide); have := lv_neT hs_3 (show (2 : Int32).toInt = 2 by decide); have := lv_neT hs_4 (show (3 : Int32).toInt = 3 by decide); have := lv_neT hs_5 (show (4 : Int32).toInt = 4 by decide); have := lv_neT hs_6 (show (5 : Int32).toInt = 5 by decide); have := lv_neT hs_7 (show (6 : Int32).toInt = 6 by decide); omega) (by decide) ?_
  refine lv_ldc (v := -100001) hx hb hown (hts _ q1482) dX5_part_93 ?_
  subst hQe
  exact W.iret hx hb hr (fun t ht hW => ⟨_, rfl, (by simp [hs_1, hs_2, hs_3, hs_4, hs_5, hs_6, hs_7]), ht⟩) (fun _ h => absurd h List.not_mem_nil) dX5_part_95
