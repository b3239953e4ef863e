set_option maxHeartbeats 4000000 in
set_option maxRecDepth 100000 in
theorem met_X2_setBias (l : Launch) (D : va_G) (cA : Nat → ClassId) (Z : Nat → Nat) (H : Heap) {ad : Nat → Nat} {f : Nat → Int32} {n p' : Nat} {mo : Nat → Int32} {B : Nat}  {v : Int32} (hR : CR D cA Z H ad f n p' mo) (hI : tk_ok B f) : Met l yX2_setBias (ws_ yX2_setBias cX2_setBias 3 (some .int)) (rmL 2 0 0) (cP D cA Z (fun q => q = ad 0) H [.ref (ad 0), .int v]) (va_Qi (fun (r : Int32) (H1 : Heap) => r = (tk_sets f 10 v (-f 9) (f 9)).1 ∧ CR D cA Z H1 ad (tk_sets f 10 v (-f 9) (f 9)).2 n p' mo) (fun (H1 : Heap) (t : State) => t.heap = H1) (fun q => q = ad 0)) 0 0 (fun q => q = ad 0) := by
  refine Met.ofW (cc := cX2_setBias) (maxL := 3) (ret := (some .int)) (by decide) rfl ?_
  intro p e s m args below meth c s₁ Bd hml hv
  obtain ⟨rfl, hh, hK, hE, hZn⟩ := hv
  subst hh
  have hx := Bd.exec
  have hb := Bd.bytes
  have hr := Bd.returns
  have hts := atoms_spec (ws := (ws_ yX2_setBias cX2_setBias 3 (some .int))) Bd.pre
  have hts : ∀ w ∈ lw_all, w.before _ s = true := fun w h => hts w (List.mem_cons_of_mem _ h)
  have hown : s.vm.findClass RX2 = some m.cls := findClass_of_methodNamed Bd.named
  have hlocks := Bd.notSynchronized
  obtain ⟨F, hFe⟩ : ∃ z : Nat → Prop, z = (fun q => q = ad 0) := ⟨_, rfl⟩
  rw [← hFe] at hZn
  have hS : va_S F s.heap s.heap [] := va_S.rf
  have hl := lv_entry ([.ref (ad 0), .int v]) (n := 3) (Nat.le_of_ble_eq_true rfl)
  rw [lg_entry_eq]
  generalize (lg_sl ([.ref (ad 0), .int v]) ++ List.replicate (3 - (lg_sl ([.ref (ad 0), .int v])).length) Slot.unset).toArray = ls at hl ⊢
  have hl : lv_has ls 3 [(0, .ref (ad 0)), (1, .int v)] := hl
  refine W.gq fun Q0 hQe => ?_
  refine lv_aload_n hx hb dX2_setBias_0 rfl (lv_at hl 0 rfl) ?_
  refine r_get (C := RX2) (T := TX2) (N := 10) hx hb hts in_X2 hown hK hR.obj rfl 4 (by decide) (hts _ q146) (fun _ h => h) (v := .int (f 10)) rfl dX2_setBias_1 ?_
  refine lv_istore_n (lv' := [(2, .int (f 10)), (0, .ref (ad 0)), (1, .int v)]) hx hb dX2_setBias_4 rfl hl (by decide) rfl (fun ls hl => ?_)
  refine lv_iload_n hx hb dX2_setBias_5 rfl (lv_at hl 2 rfl) ?_
  refine lv_aload_n hx hb dX2_setBias_6 rfl (lv_at hl 1 rfl) ?_
  refine r_get (C := RX2) (T := TX2) (N := 10) hx hb hts in_X2 hown hK hR.obj rfl 3 (by decide) (hts _ q144) (fun _ h => h) (v := .int (f 9)) rfl dX2_setBias_7 ?_
  refine lv_ineg hx hb dX2_setBias_10 ?_
  refine lv_aload_n hx hb dX2_setBias_11 rfl (lv_at hl 1 rfl) ?_
  refine r_get (C := RX2) (T := TX2) (N := 10) hx hb hts in_X2 hown hK hR.obj rfl 3 (by decide) (hts _ q144) (fun _ h => h) (v := .int (f 9)) rfl dX2_setBias_12 ?_
  refine vp_callSi (toCR (va_runSN (As := [.int v, .int (-(f 9)), .int (f 9)]) (rest := []) ⟨hx, hb, hml, hown, hts⟩ (met_X0_isBetween l v (-(f 9)) (f 9)) ⟨va_cnB 3 hts (lw_meth q272) rfl rfl rfl (hE.2.1 _ _ _ _ q270) (hts _ q60) (by decide +kernel) ⟨Nat.le_of_ble_eq_true rfl, Nat.le_of_ble_eq_true rfl⟩, hts _ q271, trivial⟩ ⟨fun a U g mk q => q, fun U hU hW => ⟨rfl, trivial⟩⟩ rfl rfl hl.1 rfl (lv_room (Nat.le_of_ble_eq_true rfl)) dX2_setBias_15 ⟨Nat.le_of_ble_eq_true rfl, Nat.le_of_ble_eq_true rfl⟩)) (fun r_1 hr_1 => ?_)
  rcases hr_1 with ⟨er_hr_1, hr_1⟩ | ⟨er_hr_1, hr_1⟩
  · subst er_hr_1
    refine lv_if_ne (tgt := 24) hx hb dX2_setBias_18 (by decide) (fun _ => ?_) (fun c_ => absurd c_ (by decide))
    refine lv_aload_n hx hb dX2_setBias_24 rfl (lv_at hl 1 rfl) ?_
    refine lv_iload_n hx hb dX2_setBias_25 rfl (lv_at hl 2 rfl) ?_
    refine r_put (C := RX2) (T := TX2) (N := 10) hx hb hts in_X2 tyX2 tyX2_ok nmX2 hown hK hS hR.obj (Eq.mpr (congrFun hFe _) rfl) rfl 4 (by decide) (hts _ q146) (fun _ h => h) rfl rfl rfl (Nat.le_of_ble_eq_true rfl) dX2_setBias_26 (fun H_3 locs hs_2 hS => ?_)
    have h_4 : va_at D vwCl ((ad 0), .inr (2, [.ref (ad 1), .ref (ad 2), .int (f 8), .int (f 9), .int v, .int (f 11), .int (f 12), .int (f 13), .ref (ad 3), .ref (ad 5)])) H_3 := hs_2.1
    refine lv_iload_n hx hb dX2_setBias_29 rfl (lv_at hl 0 rfl) ?_
    subst hQe
    refine W.widen (k := 0) (n := 0) (by first | decide | omega) (by first | decide | omega) ?_
    subst hFe
    exact W.iret hx hb hr (fun t ht hW => ⟨⟨_, H_3, rfl, (by rw [tk_sets, if_neg (by rw [hr_1]; decide)]; exact ⟨rfl, hR.actO hK hS.c (by intro j hj; exact if_neg (by omega)) h_4⟩), ht⟩, hS.F ht⟩) hS.2.2 dX2_setBias_30
  · subst er_hr_1
    refine lv_if_ne (tgt := 24) hx hb dX2_setBias_18 (by decide) (fun c_ => absurd (by decide) c_) (fun _ => ?_)
    refine lv_ldc (v := -100001) hx hb hown (hts _ q273) dX2_setBias_21 ?_
    subst hQe
    refine W.widen (k := 0) (n := 0) (by first | decide | omega) (by first | decide | omega) ?_
    subst hFe
    exact W.iret hx hb hr (fun t ht hW => ⟨⟨_, s.heap, rfl, (by rw [tk_sets, if_pos hr_1]; exact ⟨rfl, hR⟩), ht⟩, hS.F ht⟩) hS.2.2 dX2_setBias_23

set_option maxHeartbeats 4000000 in
set_option maxRecDepth 100000 in
theorem met_X2_setRule (l : Launch) (D : va_G) (cA : Nat → ClassId) (Z : Nat → Nat) (H : Heap) {ad : Nat → Nat} {f : Nat → Int32} {n p' : Nat} {mo : Nat → Int32} {B : Nat}  {v : Int32} (hR : CR D cA Z H ad f n p' mo) (hI : tk_ok B f) : Met l yX2_setRule (ws_ yX2_setRule cX2_setRule 3 (some .int)) (rmL 2 0 0) (cP D cA Z (fun q => q = ad 0) H [.ref (ad 0), .int v]) (va_Qi (fun (r : Int32) (H1 : Heap) => r = (tk_sets f 11 v 0 3).1 ∧ CR D cA Z H1 ad (tk_sets f 11 v 0 3).2 n p' mo) (fun (H1 : Heap) (t : State) => t.heap = H1) (fun q => q = ad 0)) 0 0 (fun q => q = ad 0) := by
  refine Met.ofW (cc := cX2_setRule) (maxL := 3) (ret := (some .int)) (by decide) rfl ?_
  intro p e s m args below meth c s₁ Bd hml hv
  obtain ⟨rfl, hh, hK, hE, hZn⟩ := hv
  subst hh
  have hx := Bd.exec
  have hb := Bd.bytes
  have hr := Bd.returns
  have hts := atoms_spec (ws := (ws_ yX2_setRule cX2_setRule 3 (some .int))) Bd.pre
  have hts : ∀ w ∈ lw_all, w.before _ s = true := fun w h => hts w (List.mem_cons_of_mem _ h)
  have hown : s.vm.findClass RX2 = some m.cls := findClass_of_methodNamed Bd.named
  have hlocks := Bd.notSynchronized
  obtain ⟨F, hFe⟩ : ∃ z : Nat → Prop, z = (fun q => q = ad 0) := ⟨_, rfl⟩
  rw [← hFe] at hZn
  have hS : va_S F s.heap s.heap [] := va_S.rf
  have hl := lv_entry ([.ref (ad 0), .int v]) (n := 3) (Nat.le_of_ble_eq_true rfl)
  rw [lg_entry_eq]
  generalize (lg_sl ([.ref (ad 0), .int v]) ++ List.replicate (3 - (lg_sl ([.ref (ad 0), .int v])).length) Slot.unset).toArray = ls at hl ⊢
  have hl : lv_has ls 3 [(0, .ref (ad 0)), (1, .int v)] := hl
  refine W.gq fun Q0 hQe => ?_
  refine lv_aload_n hx hb dX2_setRule_0 rfl (lv_at hl 0 rfl) ?_
  refine r_get (C := RX2) (T := TX2) (N := 10) hx hb hts in_X2 hown hK hR.obj rfl 5 (by decide) (hts _ q148) (fun _ h => h) (v := .int (f 11)) rfl dX2_setRule_1 ?_
  refine lv_istore_n (lv' := [(2, .int (f 11)), (0, .ref (ad 0)), (1, .int v)]) hx hb dX2_setRule_4 rfl hl (by decide) rfl (fun ls hl => ?_)
  refine lv_iload_n hx hb dX2_setRule_5 rfl (lv_at hl 2 rfl) ?_
  refine lv_iconst (v := 0) hx hb dX2_setRule_6 (by decide) ?_
  refine lv_iconst (v := 3) hx hb dX2_setRule_7 (by decide) ?_
  refine vp_callSi (toCR (va_runSN (As := [.int v, .int (0 : Int32), .int (3 : Int32)]) (rest := []) ⟨hx, hb, hml, hown, hts⟩ (met_X0_isBetween l v (0 : Int32) (3 : Int32)) ⟨va_cnB 3 hts (lw_meth q272) rfl rfl rfl (hE.2.1 _ _ _ _ q270) (hts _ q60) (by decide +kernel) ⟨Nat.le_of_ble_eq_true rfl, Nat.le_of_ble_eq_true rfl⟩, hts _ q271, trivial⟩ ⟨fun a U g mk q => q, fun U hU hW => ⟨rfl, trivial⟩⟩ rfl rfl hl.1 rfl (lv_room (Nat.le_of_ble_eq_true rfl)) dX2_setRule_8 ⟨Nat.le_of_ble_eq_true rfl, Nat.le_of_ble_eq_true rfl⟩)) (fun r_1 hr_1 => ?_)
  rcases hr_1 with ⟨er_hr_1, hr_1⟩ | ⟨er_hr_1, hr_1⟩
  · subst er_hr_1
    refine lv_if_ne (tgt := 17) hx hb dX2_setRule_11 (by decide) (fun _ => ?_) (fun c_ => absurd c_ (by decide))
    refine lv_aload_n hx hb dX2_setRule_17 rfl (lv_at hl 1 rfl) ?_
    refine lv_iload_n hx hb dX2_setRule_18 rfl (lv_at hl 2 rfl) ?_
    refine r_put (C := RX2) (T := TX2) (N := 10) hx hb hts in_X2 tyX2 tyX2_ok nmX2 hown hK hS hR.obj (Eq.mpr (congrFun hFe _) rfl) rfl 5 (by decide) (hts _ q148) (fun _ h => h) rfl rfl rfl (Nat.le_of_ble_eq_true rfl) dX2_setRule_19 (fun H_3 locs hs_2 hS => ?_)
    have h_4 : va_at D vwCl ((ad 0), .inr (2, [.ref (ad 1), .ref (ad 2), .int (f 8), .int (f 9), .int (f 10), .int v, .int (f 12), .int (f 13), .ref (ad 3), .ref (ad 5)])) H_3 := hs_2.1
    refine lv_iload_n hx hb dX2_setRule_22 rfl (lv_at hl 0 rfl) ?_
    subst hQe
    refine W.widen (k := 0) (n := 0) (by first | decide | omega) (by first | decide | omega) ?_
    subst hFe
    exact W.iret hx hb hr (fun t ht hW => ⟨⟨_, H_3, rfl, (by rw [tk_sets, if_neg (by rw [hr_1]; decide)]; exact ⟨rfl, hR.actO hK hS.c (by intro j hj; exact if_neg (by omega)) h_4⟩), ht⟩, hS.F ht⟩) hS.2.2 dX2_setRule_23
  · subst er_hr_1
    refine lv_if_ne (tgt := 17) hx hb dX2_setRule_11 (by decide) (fun c_ => absurd (by decide) c_) (fun _ => ?_)
    refine lv_ldc (v := -100001) hx hb hown (hts _ q273) dX2_setRule_14 ?_
    subst hQe
    refine W.widen (k := 0) (n := 0) (by first | decide | omega) (by first | decide | omega) ?_
    subst hFe
    exact W.iret hx hb hr (fun t ht hW => ⟨⟨_, s.heap, rfl, (by rw [tk_sets, if_pos hr_1]; exact ⟨rfl, hR⟩), ht⟩, hS.F ht⟩) hS.2.2 dX2_setRule_16

set_option maxHeartbeats 4000000 in
set_option maxRecDepth 100000 in
theorem met_X2_setFee (l : Launch) (D : va_G) (cA : Nat → ClassId) (Z : Nat → Nat) (H : Heap) {ad : Nat → Nat} {f : Nat → Int32} {n p' : Nat} {mo : Nat → Int32} {B : Nat}  {v : Int32} (hR : CR D cA Z H ad f n p' mo) (hI : tk_ok B f) : Met l yX2_setFee (ws_ yX2_setFee cX2_setFee 3 (some .int)) (rmL 2 0 0) (cP D cA Z (fun q => q = ad 0) H [.ref (ad 0), .int v]) (va_Qi (fun (r : Int32) (H1 : Heap) => r = (tk_sets f 12 v 0 100).1 ∧ CR D cA Z H1 ad (tk_sets f 12 v 0 100).2 n p' mo) (fun (H1 : Heap) (t : State) => t.heap = H1) (fun q => q = ad 0)) 0 0 (fun q => q = ad 0) := by
  refine Met.ofW (cc := cX2_setFee) (maxL := 3) (ret := (some .int)) (by decide) rfl ?_
  intro p e s m args below meth c s₁ Bd hml hv
  obtain ⟨rfl, hh, hK, hE, hZn⟩ := hv
  subst hh
  have hx := Bd.exec
  have hb := Bd.bytes
  have hr := Bd.returns
  have hts := atoms_spec (ws := (ws_ yX2_setFee cX2_setFee 3 (some .int))) Bd.pre
  have hts : ∀ w ∈ lw_all, w.before _ s = true := fun w h => hts w (List.mem_cons_of_mem _ h)
  have hown : s.vm.findClass RX2 = some m.cls := findClass_of_methodNamed Bd.named
  have hlocks := Bd.notSynchronized
  obtain ⟨F, hFe⟩ : ∃ z : Nat → Prop, z = (fun q => q = ad 0) := ⟨_, rfl⟩
  rw [← hFe] at hZn
  have hS : va_S F s.heap s.heap [] := va_S.rf
  have hl := lv_entry ([.ref (ad 0), .int v]) (n := 3) (Nat.le_of_ble_eq_true rfl)
  rw [lg_entry_eq]
  generalize (lg_sl ([.ref (ad 0), .int v]) ++ List.replicate (3 - (lg_sl ([.ref (ad 0), .int v])).length) Slot.unset).toArray = ls at hl ⊢
  have hl : lv_has ls 3 [(0, .ref (ad 0)), (1, .int v)] := hl
  refine W.gq fun Q0 hQe => ?_
  refine lv_aload_n hx hb dX2_setFee_0 rfl (lv_at hl 0 rfl) ?_
  refine r_get (C := RX2) (T := TX2) (N := 10) hx hb hts in_X2 hown hK hR.obj rfl 6 (by decide) (hts _ q150) (fun _ h => h) (v := .int (f 12)) rfl dX2_setFee_1 ?_
  refine lv_istore_n (lv' := [(2, .int (f 12)), (0, .ref (ad 0)), (1, .int v)]) hx hb dX2_setFee_4 rfl hl (by decide) rfl (fun ls hl => ?_)
  refine lv_iload_n hx hb dX2_setFee_5 rfl (lv_at hl 2 rfl) ?_
  refine lv_iconst (v := 0) hx hb dX2_setFee_6 (by decide) ?_
  refine lv_bipush (v := 100) hx hb dX2_setFee_7 (by decide) ?_
  refine vp_callSi (toCR (va_runSN (As := [.int v, .int (0 : Int32), .int (100 : Int32)]) (rest := []) ⟨hx, hb, hml, hown, hts⟩ (met_X0_isBetween l v (0 : Int32) (100 : Int32)) ⟨va_cnB 3 hts (lw_meth q272) rfl rfl rfl (hE.2.1 _ _ _ _ q270) (hts _ q60) (by decide +kernel) ⟨Nat.le_of_ble_eq_true rfl, Nat.le_of_ble_eq_true rfl⟩, hts _ q271, trivial⟩ ⟨fun a U g mk q => q, fun U hU hW => ⟨rfl, trivial⟩⟩ rfl rfl hl.1 rfl (lv_room (Nat.le_of_ble_eq_true rfl)) dX2_setFee_9 ⟨Nat.le_of_ble_eq_true rfl, Nat.le_of_ble_eq_true rfl⟩)) (fun r_1 hr_1 => ?_)
  rcases hr_1 with ⟨er_hr_1, hr_1⟩ | ⟨er_hr_1, hr_1⟩
  · subst er_hr_1
    refine lv_if_ne (tgt := 18) hx hb dX2_setFee_12 (by decide) (fun _ => ?_) (fun c_ => absurd c_ (by decide))
    refine lv_aload_n hx hb dX2_setFee_18 rfl (lv_at hl 1 rfl) ?_
    refine lv_iload_n hx hb dX2_setFee_19 rfl (lv_at hl 2 rfl) ?_
    refine r_put (C := RX2) (T := TX2) (N := 10) hx hb hts in_X2 tyX2 tyX2_ok nmX2 hown hK hS hR.obj (Eq.mpr (congrFun hFe _) rfl) rfl 6 (by decide) (hts _ q150) (fun _ h => h) rfl rfl rfl (Nat.le_of_ble_eq_true rfl) dX2_setFee_20 (fun H_3 locs hs_2 hS => ?_)
    have h_4 : va_at D vwCl ((ad 0), .inr (2, [.ref (ad 1), .ref (ad 2), .int (f 8), .int (f 9), .int (f 10), .int (f 11), .int v, .int (f 13), .ref (ad 3), .ref (ad 5)])) H_3 := hs_2.1
    refine lv_iload_n hx hb dX2_setFee_23 rfl (lv_at hl 0 rfl) ?_
    subst hQe
    refine W.widen (k := 0) (n := 0) (by first | decide | omega) (by first | decide | omega) ?_
    subst hFe
    exact W.iret hx hb hr (fun t ht hW => ⟨⟨_, H_3, rfl, (by rw [tk_sets, if_neg (by rw [hr_1]; decide)]; exact ⟨rfl, hR.actO hK hS.c (by intro j hj; exact if_neg (by omega)) h_4⟩), ht⟩, hS.F ht⟩) hS.2.2 dX2_setFee_24
  · subst er_hr_1
    refine lv_if_ne (tgt := 18) hx hb dX2_setFee_12 (by decide) (fun c_ => absurd (by decide) c_) (fun _ => ?_)
    refine lv_ldc (v := -100001) hx hb hown (hts _ q273) dX2_setFee_15 ?_
    subst hQe
    refine W.widen (k := 0) (n := 0) (by first | decide | omega) (by first | decide | omega) ?_
    subst hFe
    exact W.iret hx hb hr (fun t ht hW => ⟨⟨_, s.heap, rfl, (by rw [tk_sets, if_pos hr_1]; exact ⟨rfl, hR⟩), ht⟩, hS.F ht⟩) hS.2.2 dX2_setFee_17

set_option maxHeartbeats 4000000 in
set_option maxRecDepth 100000 in
theorem met_X2_setScale (l : Launch) (D : va_G) (cA : Nat → ClassId) (Z : Nat → Nat) (H : Heap) {ad : Nat → Nat} {f : Nat → Int32} {n p' : Nat} {mo : Nat → Int32} {B : Nat}  {v : Int32} {li : Int32} (hR : CR D cA Z H ad f n p' mo) (hI : tk_ok B f) : Met l yX2_setScale (ws_ yX2_setScale cX2_setScale 3 (some .int)) (rmL 2 0 0) (cP D cA Z (fun q => q = ad 0) H [.ref (ad 0), .int v, .int li]) (va_Qi (fun (r : Int32) (H1 : Heap) => r = (tk_scales f v li).1 ∧ CR D cA Z H1 ad (tk_scales f v li).2 n p' mo) (fun (H1 : Heap) (t : State) => t.heap = H1) (fun q => q = ad 0)) 0 0 (fun q => q = ad 0) := by
  refine Met.ofW (cc := cX2_setScale) (maxL := 3) (ret := (some .int)) (by decide) rfl ?_
  intro p e s m args below meth c s₁ Bd hml hv
  obtain ⟨rfl, hh, hK, hE, hZn⟩ := hv
  subst hh
  have hx := Bd.exec
  have hb := Bd.bytes
  have hr := Bd.returns
  have hts := atoms_spec (ws := (ws_ yX2_setScale cX2_setScale 3 (some .int))) Bd.pre
  have hts : ∀ w ∈ lw_all, w.before _ s = true := fun w h => hts w (List.mem_cons_of_mem _ h)
  have hown : s.vm.findClass RX2 = some m.cls := findClass_of_methodNamed Bd.named
  have hlocks := Bd.notSynchronized
  obtain ⟨F, hFe⟩ : ∃ z : Nat → Prop, z = (fun q => q = ad 0) := ⟨_, rfl⟩
  rw [← hFe] at hZn
  have hS : va_S F s.heap s.heap [] := va_S.rf
  have hl := lv_entry ([.ref (ad 0), .int v, .int li]) (n := 3) (Nat.le_of_ble_eq_true rfl)
  rw [lg_entry_eq]
  generalize (lg_sl ([.ref (ad 0), .int v, .int li]) ++ List.replicate (3 - (lg_sl ([.ref (ad 0), .int v, .int li])).length) Slot.unset).toArray = ls at hl ⊢
  have hl : lv_has ls 3 [(0, .ref (ad 0)), (1, .int v), (2, .int li)] := hl
  refine W.gq fun Q0 hQe => ?_
  refine lv_iload_n hx hb dX2_setScale_0 rfl (lv_at hl 1 rfl) ?_
  refine lv_iconst (v := 1) hx hb dX2_setScale_1 (by decide) ?_
  refine lv_sipush (v := 1000) hx hb dX2_setScale_2 (by decide) ?_
  refine vp_callSi (toCR (va_runSN (As := [.int v, .int (1 : Int32), .int (1000 : Int32)]) (rest := []) ⟨hx, hb, hml, hown, hts⟩ (met_X0_isBetween l v (1 : Int32) (1000 : Int32)) ⟨va_cnB 3 hts (lw_meth q272) rfl rfl rfl (hE.2.1 _ _ _ _ q270) (hts _ q60) (by decide +kernel) ⟨Nat.le_of_ble_eq_true rfl, Nat.le_of_ble_eq_true rfl⟩, hts _ q271, trivial⟩ ⟨fun a U g mk q => q, fun U hU hW => ⟨rfl, trivial⟩⟩ rfl rfl hl.1 rfl (lv_room (Nat.le_of_ble_eq_true rfl)) dX2_setScale_5 ⟨Nat.le_of_ble_eq_true rfl, Nat.le_of_ble_eq_true rfl⟩)) (fun r_1 hr_1 => ?_)
  rcases hr_1 with ⟨er_hr_1, hr_1⟩ | ⟨er_hr_1, hr_1⟩
  · subst er_hr_1
    refine lv_if_eq (tgt := 22) hx hb dX2_setScale_8 (by decide) (fun c_ => absurd c_ (by decide)) (fun _ => ?_)
    refine lv_iload_n hx hb dX2_setScale_11 rfl (lv_at hl 2 rfl) ?_
    refine lv_iconst (v := 0) hx hb dX2_setScale_12 (by decide) ?_
    refine lv_sipush (v := 2000) hx hb dX2_setScale_13 (by decide) ?_
    refine vp_callSi (toCR (va_runSN (As := [.int li, .int (0 : Int32), .int (2000 : Int32)]) (rest := []) ⟨hx, hb, hml, hown, hts⟩ (met_X0_isBetween l li (0 : Int32) (2000 : Int32)) ⟨va_cnB 3 hts (lw_meth q272) rfl rfl rfl (hE.2.1 _ _ _ _ q270) (hts _ q60) (by decide +kernel) ⟨Nat.le_of_ble_eq_true rfl, Nat.le_of_ble_eq_true rfl⟩, hts _ q271, trivial⟩ ⟨fun a U g mk q => q, fun U hU hW => ⟨rfl, trivial⟩⟩ rfl rfl hl.1 rfl (lv_room (Nat.le_of_ble_eq_true rfl)) dX2_setScale_16 ⟨Nat.le_of_ble_eq_true rfl, Nat.le_of_ble_eq_true rfl⟩)) (fun r_2 hr_2 => ?_)
    rcases hr_2 with ⟨er_hr_2, hr_2⟩ | ⟨er_hr_2, hr_2⟩
    · subst er_hr_2
      refine lv_if_ne (tgt := 25) hx hb dX2_setScale_19 (by decide) (fun _ => ?_) (fun c_ => absurd c_ (by decide))
      refine lv_aload_n hx hb dX2_setScale_25 rfl (lv_at hl 0 rfl) ?_
      refine lv_iload_n hx hb dX2_setScale_26 rfl (lv_at hl 1 rfl) ?_
      refine r_put (C := RX2) (T := TX2) (N := 10) hx hb hts in_X2 tyX2 tyX2_ok nmX2 hown hK hS hR.obj (Eq.mpr (congrFun hFe _) rfl) rfl 2 (by decide) (hts _ q142) (fun _ h => h) rfl rfl rfl (Nat.le_of_ble_eq_true rfl) dX2_setScale_27 (fun H_4 locs hs_3 hS => ?_)
      have h_5 : va_at D vwCl ((ad 0), .inr (2, [.ref (ad 1), .ref (ad 2), .int v, .int (f 9), .int (f 10), .int (f 11), .int (f 12), .int (f 13), .ref (ad 3), .ref (ad 5)])) H_4 := hs_3.1
      refine lv_aload_n hx hb dX2_setScale_30 rfl (lv_at hl 0 rfl) ?_
      refine lv_iload_n hx hb dX2_setScale_31 rfl (lv_at hl 2 rfl) ?_
      refine r_put (C := RX2) (T := TX2) (N := 10) hx hb hts in_X2 tyX2 tyX2_ok nmX2 hown hK hS h_5 (Eq.mpr (congrFun hFe _) rfl) rfl 3 (by decide) (hts _ q144) (fun _ h => h) rfl rfl rfl (Nat.le_of_ble_eq_true rfl) dX2_setScale_32 (fun H_7 locs hs_6 hS => ?_)
      have h_8 : va_at D vwCl ((ad 0), .inr (2, [.ref (ad 1), .ref (ad 2), .int v, .int li, .int (f 10), .int (f 11), .int (f 12), .int (f 13), .ref (ad 3), .ref (ad 5)])) H_7 := hs_6.1
      refine lv_aload_n hx hb dX2_setScale_35 rfl (lv_at hl 0 rfl) ?_
      refine lv_aload_n hx hb dX2_setScale_36 rfl (lv_at hl 0 rfl) ?_
      refine r_get (C := RX2) (T := TX2) (N := 10) hx hb hts in_X2 hown hK h_8 rfl 3 (by decide) (hts _ q144) (fun _ h => h) (v := .int li) rfl dX2_setScale_37 ?_
      refine lv_ineg hx hb dX2_setScale_40 ?_
      refine lv_aload_n hx hb dX2_setScale_41 rfl (lv_at hl 0 rfl) ?_
      refine r_get (C := RX2) (T := TX2) (N := 10) hx hb hts in_X2 hown hK h_8 rfl 3 (by decide) (hts _ q144) (fun _ h => h) (v := .int li) rfl dX2_setScale_42 ?_
      refine lv_aload_n hx hb dX2_setScale_45 rfl (lv_at hl 0 rfl) ?_
      refine r_get (C := RX2) (T := TX2) (N := 10) hx hb hts in_X2 hown hK h_8 rfl 4 (by decide) (hts _ q146) (fun _ h => h) (v := .int (f 10)) rfl dX2_setScale_46 ?_
      refine vp_callSi (W.runS (As := [.int li, .int (f 10)]) (rest := [.int (-li), .ref (ad 0)]) ⟨hx, hb, hml, hown, hts⟩ (met_J10_min l li (f 10)) (va_cwS 2 hts (lw_S q539 q433 q76 q434) rfl rfl rfl (by decide +kernel) ⟨Nat.le_of_ble_eq_true rfl, Nat.le_of_ble_eq_true rfl⟩) ⟨fun a U g mk q => q, fun U hU hW => ⟨rfl, trivial⟩⟩ rfl rfl hl.1 rfl (lv_room (Nat.le_of_ble_eq_true rfl)) dX2_setScale_49 ⟨Nat.le_of_ble_eq_true rfl, Nat.le_of_ble_eq_true rfl⟩) (fun r_9 hr_9 => ?_)
      subst hr_9
      refine vp_callSi (W.runS (As := [.int (-li), .int (jmin li (f 10))]) (rest := [.ref (ad 0)]) ⟨hx, hb, hml, hown, hts⟩ (met_J10_max l (-li) (jmin li (f 10))) (va_cwS 2 hts (lw_S q540 q391 q76 q392) rfl rfl rfl (by decide +kernel) ⟨Nat.le_of_ble_eq_true rfl, Nat.le_of_ble_eq_true rfl⟩) ⟨fun a U g mk q => q, fun U hU hW => ⟨rfl, trivial⟩⟩ rfl rfl hl.1 rfl (lv_room (Nat.le_of_ble_eq_true rfl)) dX2_setScale_52 ⟨Nat.le_of_ble_eq_true rfl, Nat.le_of_ble_eq_true rfl⟩) (fun r_10 hr_10 => ?_)
      subst hr_10
      refine r_put (C := RX2) (T := TX2) (N := 10) hx hb hts in_X2 tyX2 tyX2_ok nmX2 hown hK hS h_8 (Eq.mpr (congrFun hFe _) rfl) rfl 4 (by decide) (hts _ q146) (fun _ h => h) rfl rfl rfl (Nat.le_of_ble_eq_true rfl) dX2_setScale_55 (fun H_12 locs hs_11 hS => ?_)
      have h_13 : va_at D vwCl ((ad 0), .inr (2, [.ref (ad 1), .ref (ad 2), .int v, .int li, .int (jmax (-li) (jmin li (f 10))), .int (f 11), .int (f 12), .int (f 13), .ref (ad 3), .ref (ad 5)])) H_12 := hs_11.1
      refine lv_aload_n hx hb dX2_setScale_58 rfl (lv_at hl 0 rfl) ?_
      refine r_get (C := RX2) (T := TX2) (N := 10) hx hb hts in_X2 hown hK h_13 rfl 4 (by decide) (hts _ q146) (fun _ h => h) (v := .int (jmax (-li) (jmin li (f 10)))) rfl dX2_setScale_59 ?_
      subst hQe
      refine W.widen (k := 0) (n := 0) (by first | decide | omega) (by first | decide | omega) ?_
      subst hFe
      exact W.iret hx hb hr (fun t ht hW => ⟨⟨_, H_12, rfl, (by rw [tk_scales, if_neg (by simp [hr_1, hr_2]), ← p_bias hr_2]; exact ⟨rfl, hR.actO hK hS.c (by intro j hj; simp only [upd]; rw [if_neg (by omega), if_neg (by omega), if_neg (by omega)]) h_13⟩), ht⟩, hS.F ht⟩) hS.2.2 dX2_setScale_62
    · subst er_hr_2
      refine lv_if_ne (tgt := 25) hx hb dX2_setScale_19 (by decide) (fun c_ => absurd (by decide) c_) (fun _ => ?_)
      refine lv_ldc (v := -100001) hx hb hown (hts _ q273) dX2_setScale_22 ?_
      subst hQe
      refine W.widen (k := 0) (n := 0) (by first | decide | omega) (by first | decide | omega) ?_
      subst hFe
      exact W.iret hx hb hr (fun t ht hW => ⟨⟨_, s.heap, rfl, (by rw [tk_scales, if_pos (by simp [hr_1, hr_2])]; exact ⟨rfl, hR⟩), ht⟩, hS.F ht⟩) hS.2.2 dX2_setScale_24
  · subst er_hr_1
    refine lv_if_eq (tgt := 22) hx hb dX2_setScale_8 (by decide) (fun _ => ?_) (fun c_ => absurd (by decide) c_)
    refine lv_ldc (v := -100001) hx hb hown (hts _ q273) dX2_setScale_22 ?_
    subst hQe
    refine W.widen (k := 0) (n := 0) (by first | decide | omega) (by first | decide | omega) ?_
    subst hFe
    exact W.iret hx hb hr (fun t ht hW => ⟨⟨_, s.heap, rfl, (by rw [tk_scales, if_pos (by simp [hr_1])]; exact ⟨rfl, hR⟩), ht⟩, hS.F ht⟩) hS.2.2 dX2_setScale_24

set_option maxHeartbeats 4000000 in
set_option maxRecDepth 100000 in
theorem met_X2_setKind (l : Launch) (D : va_G) (cA : Nat → ClassId) (Z : Nat → Nat) (H : Heap) {ad : Nat → Nat} {f : Nat → Int32} {n p' : Nat} {mo : Nat → Int32} {B : Nat}  {k0 : Int32} {we : Int32} {sp : Int32} (hR : CR D cA Z H ad f n p' mo) (hI : tk_ok B f) : Met l yX2_setKind (ws_ yX2_setKind cX2_setKind 5 (some .int)) (rmL 2 0 0) (cP D cA Z (fun q => q = ad 1 ∨ q = ad 2) H [.ref (ad 0), .int k0, .int we, .int sp]) (va_Qi (fun (r : Int32) (H1 : Heap) => r = (tk_kinds f k0 we sp).1 ∧ CR D cA Z H1 ad (tk_kinds f k0 we sp).2 n p' mo) (fun (H1 : Heap) (t : State) => t.heap = H1) (fun q => q = ad 1 ∨ q = ad 2)) 0 0 (fun q => q = ad 1 ∨ q = ad 2) := by
  refine Met.ofW (cc := cX2_setKind) (maxL := 5) (ret := (some .int)) (by decide) rfl ?_
  intro p e s m args below meth c s₁ Bd hml hv
  obtain ⟨rfl, hh, hK, hE, hZn⟩ := hv
  subst hh
  have hx := Bd.exec
  have hb := Bd.bytes
  have hr := Bd.returns
  have hts := atoms_spec (ws := (ws_ yX2_setKind cX2_setKind 5 (some .int))) Bd.pre
  have hts : ∀ w ∈ lw_all, w.before _ s = true := fun w h => hts w (List.mem_cons_of_mem _ h)
  have hown : s.vm.findClass RX2 = some m.cls := findClass_of_methodNamed Bd.named
  have hlocks := Bd.notSynchronized
  obtain ⟨F, hFe⟩ : ∃ z : Nat → Prop, z = (fun q => q = ad 1 ∨ q = ad 2) := ⟨_, rfl⟩
  rw [← hFe] at hZn
  have hS : va_S F s.heap s.heap [] := va_S.rf
  have hl := lv_entry ([.ref (ad 0), .int k0, .int we, .int sp]) (n := 5) (Nat.le_of_ble_eq_true rfl)
  rw [lg_entry_eq]
  generalize (lg_sl ([.ref (ad 0), .int k0, .int we, .int sp]) ++ List.replicate (5 - (lg_sl ([.ref (ad 0), .int k0, .int we, .int sp])).length) Slot.unset).toArray = ls at hl ⊢
  have hl : lv_has ls 5 [(0, .ref (ad 0)), (1, .int k0), (2, .int we), (3, .int sp)] := hl
  refine W.gq fun Q0 hQe => ?_
  refine lv_iload_n hx hb dX2_setKind_0 rfl (lv_at hl 1 rfl) ?_
  refine lv_iconst (v := 0) hx hb dX2_setKind_1 (by decide) ?_
  refine lv_iconst (v := 3) hx hb dX2_setKind_2 (by decide) ?_
  refine vp_callSi (toCR (va_runSN (As := [.int k0, .int (0 : Int32), .int (3 : Int32)]) (rest := []) ⟨hx, hb, hml, hown, hts⟩ (met_X0_isBetween l k0 (0 : Int32) (3 : Int32)) ⟨va_cnB 3 hts (lw_meth q272) rfl rfl rfl (hE.2.1 _ _ _ _ q270) (hts _ q60) (by decide +kernel) ⟨Nat.le_of_ble_eq_true rfl, Nat.le_of_ble_eq_true rfl⟩, hts _ q271, trivial⟩ ⟨fun a U g mk q => q, fun U hU hW => ⟨rfl, trivial⟩⟩ rfl rfl hl.1 rfl (lv_room (Nat.le_of_ble_eq_true rfl)) dX2_setKind_3 ⟨Nat.le_of_ble_eq_true rfl, Nat.le_of_ble_eq_true rfl⟩)) (fun r_1 hr_1 => ?_)
  rcases hr_1 with ⟨er_hr_1, hr_1⟩ | ⟨er_hr_1, hr_1⟩
  · subst er_hr_1
    have hq0 := hr_1
    obtain ⟨j0, hj0, e0⟩ := tk_k4 hq0
    subst e0
    refine lv_if_eq (tgt := 31) hx hb dX2_setKind_6 (by decide) (fun c_ => absurd c_ (by decide)) (fun _ => ?_)
    refine lv_iload_n hx hb dX2_setKind_9 rfl (lv_at hl 2 rfl) ?_
    refine lv_bipush (v := 100) hx hb dX2_setKind_10 (by decide) ?_
    refine lv_sipush (v := 5000) hx hb dX2_setKind_12 (by decide) ?_
    refine vp_callSi (toCR (va_runSN (As := [.int we, .int (100 : Int32), .int (5000 : Int32)]) (rest := []) ⟨hx, hb, hml, hown, hts⟩ (met_X0_isBetween l we (100 : Int32) (5000 : Int32)) ⟨va_cnB 3 hts (lw_meth q272) rfl rfl rfl (hE.2.1 _ _ _ _ q270) (hts _ q60) (by decide +kernel) ⟨Nat.le_of_ble_eq_true rfl, Nat.le_of_ble_eq_true rfl⟩, hts _ q271, trivial⟩ ⟨fun a U g mk q => q, fun U hU hW => ⟨rfl, trivial⟩⟩ rfl rfl hl.1 rfl (lv_room (Nat.le_of_ble_eq_true rfl)) dX2_setKind_15 ⟨Nat.le_of_ble_eq_true rfl, Nat.le_of_ble_eq_true rfl⟩)) (fun r_2 hr_2 => ?_)
    rcases hr_2 with ⟨er_hr_2, hr_2⟩ | ⟨er_hr_2, hr_2⟩
    · subst er_hr_2
      refine lv_if_eq (tgt := 31) hx hb dX2_setKind_18 (by decide) (fun c_ => absurd c_ (by decide)) (fun _ => ?_)
      refine lv_iload_n hx hb dX2_setKind_21 rfl (lv_at hl 3 rfl) ?_
      refine lv_iconst (v := 0) hx hb dX2_setKind_22 (by decide) ?_
      refine lv_bipush (v := 50) hx hb dX2_setKind_23 (by decide) ?_
      refine vp_callSi (toCR (va_runSN (As := [.int sp, .int (0 : Int32), .int (50 : Int32)]) (rest := []) ⟨hx, hb, hml, hown, hts⟩ (met_X0_isBetween l sp (0 : Int32) (50 : Int32)) ⟨va_cnB 3 hts (lw_meth q272) rfl rfl rfl (hE.2.1 _ _ _ _ q270) (hts _ q60) (by decide +kernel) ⟨Nat.le_of_ble_eq_true rfl, Nat.le_of_ble_eq_true rfl⟩, hts _ q271, trivial⟩ ⟨fun a U g mk q => q, fun U hU hW => ⟨rfl, trivial⟩⟩ rfl rfl hl.1 rfl (lv_room (Nat.le_of_ble_eq_true rfl)) dX2_setKind_25 ⟨Nat.le_of_ble_eq_true rfl, Nat.le_of_ble_eq_true rfl⟩)) (fun r_3 hr_3 => ?_)
      rcases hr_3 with ⟨er_hr_3, hr_3⟩ | ⟨er_hr_3, hr_3⟩
      · subst er_hr_3
        refine lv_if_ne (tgt := 34) hx hb dX2_setKind_28 (by decide) (fun _ => ?_) (fun c_ => absurd c_ (by decide))
        refine lv_aload_n hx hb dX2_setKind_34 rfl (lv_at hl 0 rfl) ?_
        refine r_get (C := RX2) (T := TX2) (N := 10) hx hb hts in_X2 hown hK hR.obj rfl 0 (by decide) (hts _ q138) (fun _ h => h) (v := .ref (ad 1)) rfl dX2_setKind_35 ?_
        refine lv_iload_n hx hb dX2_setKind_38 rfl (lv_at hl 1 rfl) ?_
        refine r_iald hx hb hK hR.wei 0 rfl j0 rfl (by omega) (by decide) dX2_setKind_39 ?_
        refine lv_istore (lv' := [(4, .int (f j0)), (0, .ref (ad 0)), (1, .int (nI j0)), (2, .int we), (3, .int sp)]) hx hb dX2_setKind_40 hl (by decide) rfl (fun ls hl => ?_)
        refine lv_aload_n hx hb dX2_setKind_42 rfl (lv_at hl 1 rfl) ?_
        refine r_get (C := RX2) (T := TX2) (N := 10) hx hb hts in_X2 hown hK hR.obj rfl 0 (by decide) (hts _ q138) (fun _ h => h) (v := .ref (ad 1)) rfl dX2_setKind_43 ?_
        refine lv_iload_n hx hb dX2_setKind_46 rfl (lv_at hl 2 rfl) ?_
        refine lv_iload_n hx hb dX2_setKind_47 rfl (lv_at hl 3 rfl) ?_
        refine r_iast hx hb hK hS hR.wei (Eq.mpr (congrFun hFe _) (Or.inl rfl)) 0 rfl j0 rfl (by omega) (by decide) dX2_setKind_48 (fun H_5 locs hs_4 hS => ?_)
        have h_7 := atK hR.obj hs_4 (at_ne hR.obj hR.wei (K_ca hK (i := 2) 0 rfl rfl (by decide)))
        have h_8 := atK hR.spr hs_4 (Ne.symm hR.i12)
        have h_6 := hs_4.1
        refine lv_aload_n hx hb dX2_setKind_49 rfl (lv_at hl 1 rfl) ?_
        refine r_get (C := RX2) (T := TX2) (N := 10) hx hb hts in_X2 hown hK h_7 rfl 1 (by decide) (hts _ q140) (fun _ h => h) (v := .ref (ad 2)) rfl dX2_setKind_50 ?_
        refine lv_iload_n hx hb dX2_setKind_53 rfl (lv_at hl 2 rfl) ?_
        refine lv_iload_n hx hb dX2_setKind_54 rfl (lv_at hl 4 rfl) ?_
        refine r_iast hx hb hK hS h_8 (Eq.mpr (congrFun hFe _) (Or.inr rfl)) 0 rfl j0 rfl (by omega) (by decide) dX2_setKind_55 (fun H_10 locs hs_9 hS => ?_)
        have h_12 := atK h_7 hs_9 (at_ne h_7 h_8 (K_ca hK (i := 2) 0 rfl rfl (by decide)))
        have h_13 := atK h_6 hs_9 hR.i12
        have h_11 := hs_9.1
        refine lv_iload hx hb dX2_setKind_56 (lv_at hl 0 rfl) ?_
        subst hQe
        refine W.widen (k := 0) (n := 0) (by first | decide | omega) (by first | decide | omega) ?_
        subst hFe
        exact W.iret hx hb hr (fun t ht hW => ⟨⟨_, H_10, rfl, (by rw [tk_kinds, if_neg (by simp [hr_1, hr_2, hr_3]), nI_clamp (by omega)]; exact ⟨rfl, hR.actW hK hS.c (by intro j hj; simp only [upd]; rw [if_neg (by omega), if_neg (by omega)]) (at_arr h_13 (by intro i hi; simp only [upd]; rw [if_neg (show ¬ i = 4 + j0 by omega)])) (at_arr h_11 (by intro i hi; simp only [upd]; exact if hz : i = j0 then (by rw [if_pos hz, if_pos (by omega)]) else (by rw [if_neg hz, if_neg (by omega), if_neg (by omega)])))⟩), ht⟩, hS.F ht⟩) hS.2.2 dX2_setKind_58
      · subst er_hr_3
        refine lv_if_ne (tgt := 34) hx hb dX2_setKind_28 (by decide) (fun c_ => absurd (by decide) c_) (fun _ => ?_)
        refine lv_ldc (v := -100001) hx hb hown (hts _ q273) dX2_setKind_31 ?_
        subst hQe
        refine W.widen (k := 0) (n := 0) (by first | decide | omega) (by first | decide | omega) ?_
        subst hFe
        exact W.iret hx hb hr (fun t ht hW => ⟨⟨_, s.heap, rfl, (by rw [tk_kinds, if_pos (by simp [hr_1, hr_2, hr_3])]; exact ⟨rfl, hR⟩), ht⟩, hS.F ht⟩) hS.2.2 dX2_setKind_33
    · subst er_hr_2
      refine lv_if_eq (tgt := 31) hx hb dX2_setKind_18 (by decide) (fun _ => ?_) (fun c_ => absurd (by decide) c_)
      refine lv_ldc (v := -100001) hx hb hown (hts _ q273) dX2_setKind_31 ?_
      subst hQe
      refine W.widen (k := 0) (n := 0) (by first | decide | omega) (by first | decide | omega) ?_
      subst hFe
      exact W.iret hx hb hr (fun t ht hW => ⟨⟨_, s.heap, rfl, (by rw [tk_kinds, if_pos (by simp [hr_1, hr_2])]; exact ⟨rfl, hR⟩), ht⟩, hS.F ht⟩) hS.2.2 dX2_setKind_33
  · subst er_hr_1
    refine lv_if_eq (tgt := 31) hx hb dX2_setKind_6 (by decide) (fun _ => ?_) (fun c_ => absurd (by decide) c_)
    refine lv_ldc (v := -100001) hx hb hown (hts _ q273) dX2_setKind_31 ?_
    subst hQe
    refine W.widen (k := 0) (n := 0) (by first | decide | omega) (by first | decide | omega) ?_
    subst hFe
    exact W.iret hx hb hr (fun t ht hW => ⟨⟨_, s.heap, rfl, (by rw [tk_kinds, if_pos (by simp [hr_1])]; exact ⟨rfl, hR⟩), ht⟩, hS.F ht⟩) hS.2.2 dX2_setKind_33
