set_option maxHeartbeats 4000000 in
set_option maxRecDepth 100000 in
theorem met_J2_grow_2 (l : Launch) (D : va_G) (cA : Nat → ClassId) (Z : Nat → Nat) (F : Nat → Prop) (H : Heap) {a : Nat} {mo : Int32} (ha : va_at D vwCl (a, .inr (10, [.int mo, .ref (Z 0), .int (nI 0)])) H) (hFa : F a) (hF : ∀ q, H.size ≤ q → F q) : Met l yJ2_grow_2 (ws_ yJ2_grow_2 cJ2_grow_2 4 (some (.array (.object "java/lang/Object")))) (rmL 2 1 10) (cP D cA Z F H [.ref a, .int (1 : Int32)]) (va_Qq (fun (r : Option Nat) (H1 : Heap) => ∃ b : Nat, r = some b ∧ H.size ≤ b ∧ va_at D vwCl (b, .inl (cA 3, 10, .inr (.inr (.inr (.inr (fun _ => none)))))) H1 ∧ va_at D vwCl (a, .inr (10, [.int mo, .ref b, .int (nI 0)])) H1) (fun (H1 : Heap) (t : State) => t.heap = H1) F) 1 10 F := by
  refine Met.ofW (cc := cJ2_grow_2) (maxL := 4) (ret := (some (.array (.object "java/lang/Object")))) (by decide) rfl ?_
  intro p e s m args below meth c s₁ Bd hml hv
  obtain ⟨rfl, hh, hK, hE, hZn⟩ := hv
  subst hh
  have hx := Bd.exec
  have hb := Bd.bytes
  have hr := Bd.returns
  have hts := atoms_spec (ws := (ws_ yJ2_grow_2 cJ2_grow_2 4 (some (.array (.object "java/lang/Object"))))) Bd.pre
  have hts : ∀ w ∈ lw_all, w.before _ s = true := fun w h => hts w (List.mem_cons_of_mem _ h)
  have hown : s.vm.findClass RJ2 = some m.cls := findClass_of_methodNamed Bd.named
  have hlocks := Bd.notSynchronized
  have hS : va_S F s.heap s.heap [] := va_S.rf
  have hl := lv_entry ([.ref a, .int (1 : Int32)]) (n := 4) (Nat.le_of_ble_eq_true rfl)
  rw [lg_entry_eq]
  generalize (lg_sl ([.ref a, .int (1 : Int32)]) ++ List.replicate (4 - (lg_sl ([.ref a, .int (1 : Int32)])).length) Slot.unset).toArray = ls at hl ⊢
  have hl : lv_has ls 4 [(0, .ref a), (1, .int (1 : Int32))] := hl
  refine W.gq fun Q0 hQe => ?_
  refine lv_aload_n hx hb dJ2_grow_2_0 rfl (lv_at hl 0 rfl) ?_
  refine r_get (C := RJ2) (T := TJ2) (N := 3) hx hb hts in_J2 hown hK ha rfl 1 (by decide) (hts _ q122) (fun _ h => h) (v := .ref (Z 0)) rfl dJ2_grow_2_1 ?_
  refine va_tlen hx hb hZn.1.2 hS (v := (0 : Int32)) rfl dJ2_grow_2_4 ?_
  refine lv_istore_n (lv' := [(2, .int (0 : Int32)), (0, .ref a), (1, .int (1 : Int32))]) hx hb dJ2_grow_2_5 rfl hl (by decide) rfl (fun ls hl => ?_)
  refine lv_iload_n hx hb dJ2_grow_2_6 rfl (lv_at hl 0 rfl) ?_
  refine lv_if_gt (tgt := 20) hx hb dJ2_grow_2_7 (by decide) (fun c7_b_1 => absurd c7_b_1 (by decide)) (fun c7_b_1 => ?_)
  refine lv_aload_n hx hb dJ2_grow_2_10 rfl (lv_at hl 1 rfl) ?_
  refine r_get (C := RJ2) (T := TJ2) (N := 3) hx hb hts in_J2 hown hK ha rfl 1 (by decide) (hts _ q122) (fun _ h => h) (v := .ref (Z 0)) rfl dJ2_grow_2_11 ?_
  refine va_gets hx hb hZn.1.1 hS hown (hts _ q120) (fun _ h => h) dJ2_grow_2_14 ?_
  refine lv_acmp_eq (tgt := 45) (rx := (some (Z 0))) (ry := (some (Z 0))) hx hb dJ2_grow_2_17 (by decide) (fun _ => ?_) (fun c_ => absurd rfl c_)
  refine lv_aload_n hx hb dJ2_grow_2_45 rfl (lv_at hl 1 rfl) ?_
  refine lv_bipush (v := 10) hx hb dJ2_grow_2_46 (by decide) ?_
  refine lv_iload_n hx hb dJ2_grow_2_48 rfl (lv_at hl 2 rfl) ?_
  refine vp_callSi (W.runS (As := [.int (10 : Int32), .int (1 : Int32)]) (rest := [.ref a]) ⟨hx, hb, hml, hown, hts⟩ (met_J10_max l (10 : Int32) (1 : Int32)) (va_cwS 2 hts (lw_S q436 q391 q76 q392) rfl rfl rfl (by decide +kernel) ⟨Nat.le_of_ble_eq_true rfl, Nat.le_of_ble_eq_true rfl⟩) ⟨fun a U g mk q => q, fun U hU hW => ⟨rfl, trivial⟩⟩ rfl rfl hl.1 rfl (lv_room (Nat.le_of_ble_eq_true rfl)) dJ2_grow_2_49 ⟨Nat.le_of_ble_eq_true rfl, Nat.le_of_ble_eq_true rfl⟩) (fun r_2 hr_2 => ?_)
  subst hr_2
  rw [show (jmax (10 : Int32) (1 : Int32)) = nI 10 from by first | rfl | decide]
  have h0q_5 := hS.1
  refine r_newq hx hb hown (hts _ q437) (hE.2.2.2.2.1 _ q201) hK hS 3 rfl (N' := 10) (by decide) (by decide) (by decide) (by decide) (by decide) dJ2_grow_2_52 (fun H_4 hs_3 hS => ?_)
  have zq_5 := hF _ (h0q_5 : s.heap.size ≤ s.heap.size)
  have h_7 := atN ha hs_3
  have h_6 := hs_3.1
  have nq_5_x_8 := Nat.ne_of_lt (at_lt ha)
  have nq_5_x_9 := Nat.ne_of_lt (Nat.lt_of_lt_of_le (at_lt ha) h0q_5)
  have lq_5 : s.heap.size < H_4.size := at_lt h_6
  generalize eq_5 : s.heap.size = q_5 at zq_5 h_6 lq_5 nq_5_x_9 ⊢
  have h0q_5 : s.heap.size ≤ q_5 := Nat.le_of_eq eq_5
  refine lv_dup_x1 hx hb dJ2_grow_2_55 rfl rfl ?_
  refine r_put (C := RJ2) (T := TJ2) (N := 3) hx hb hts in_J2 tyJ2 tyJ2_ok nmJ2 hown hK hS h_7 hFa rfl 1 (by decide) (hts _ q122) (fun _ h => h) rfl rfl rfl (Nat.le_of_ble_eq_true rfl) dJ2_grow_2_56 (fun H_11 locs hs_10 hS => ?_)
  have h_12 := atK h_6 hs_10 (Ne.symm nq_5_x_9)
  have h_13 : va_at D vwCl (a, .inr (10, [.int mo, .ref q_5, .int (nI 0)])) H_11 := hs_10.1
  subst hQe
  refine W.widen (k := 1) (n := 10) (by first | decide | omega) (by first | decide | omega) ?_
  exact W.aret hx hb hr (Or.inr ⟨_, rfl⟩) (Or.inr ⟨_, rfl⟩) (fun t ht hW => ⟨⟨some q_5, H_11, rfl, ⟨q_5, rfl, h0q_5, h_12, h_13⟩, ht⟩, hS.F ht⟩) hS.2.2 dJ2_grow_2_59

set_option maxHeartbeats 4000000 in
set_option maxRecDepth 100000 in
theorem met_J2_grow (l : Launch) (D : va_G) (cA : Nat → ClassId) (Z : Nat → Nat) (F : Nat → Prop) (H : Heap) {a : Nat} {mo : Int32} (ha : va_at D vwCl (a, .inr (10, [.int mo, .ref (Z 0), .int (nI 0)])) H) (hFa : F a) (hF : ∀ q, H.size ≤ q → F q) : Met l yJ2_grow (ws_ yJ2_grow cJ2_grow 1 (some (.array (.object "java/lang/Object")))) (rmL 3 1 10) (cP D cA Z F H [.ref a]) (va_Qq (fun (r : Option Nat) (H1 : Heap) => ∃ b : Nat, r = some b ∧ H.size ≤ b ∧ va_at D vwCl (b, .inl (cA 3, 10, .inr (.inr (.inr (.inr (fun _ => none)))))) H1 ∧ va_at D vwCl (a, .inr (10, [.int mo, .ref b, .int (nI 0)])) H1) (fun (H1 : Heap) (t : State) => t.heap = H1) F) 1 10 F := by
  refine Met.ofW (cc := cJ2_grow) (maxL := 1) (ret := (some (.array (.object "java/lang/Object")))) (by decide) rfl ?_
  intro p e s m args below meth c s₁ Bd hml hv
  obtain ⟨rfl, hh, hK, hE, hZn⟩ := hv
  subst hh
  have hx := Bd.exec
  have hb := Bd.bytes
  have hr := Bd.returns
  have hts := atoms_spec (ws := (ws_ yJ2_grow cJ2_grow 1 (some (.array (.object "java/lang/Object"))))) Bd.pre
  have hts : ∀ w ∈ lw_all, w.before _ s = true := fun w h => hts w (List.mem_cons_of_mem _ h)
  have hown : s.vm.findClass RJ2 = some m.cls := findClass_of_methodNamed Bd.named
  have hlocks := Bd.notSynchronized
  have hS : va_S F s.heap s.heap [] := va_S.rf
  have hl := lv_entry ([.ref a]) (n := 1) (Nat.le_of_ble_eq_true rfl)
  rw [lg_entry_eq]
  generalize (lg_sl ([.ref a]) ++ List.replicate (1 - (lg_sl ([.ref a])).length) Slot.unset).toArray = ls at hl ⊢
  have hl : lv_has ls 1 [(0, .ref a)] := hl
  refine W.gq fun Q0 hQe => ?_
  refine lv_aload_n hx hb dJ2_grow_0 rfl (lv_at hl 0 rfl) ?_
  refine lv_aload_n hx hb dJ2_grow_1 rfl (lv_at hl 0 rfl) ?_
  refine r_get (C := RJ2) (T := TJ2) (N := 3) hx hb hts in_J2 hown hK ha rfl 2 (by decide) (hts _ q125) (fun _ h => h) (v := .int (nI 0)) rfl dJ2_grow_2 ?_
  refine lv_iconst (v := 1) hx hb dJ2_grow_5 (by decide) ?_
  refine lv_iadd hx hb dJ2_grow_6 ?_
  rw [show ((nI 0) + (1 : Int32)) = nI (0 + 1) from (ixA rfl rfl)]
  have hSo := hS
  refine va_callq (va_runV (As := [.int (nI (0 + 1))]) (rest := []) ⟨hx, hb, hml, hown, hts⟩ (met_J2_grow_2 l D cA Z (fun q => q = a ∨ s.heap.size ≤ q) s.heap (mo := mo) ha (Or.inl rfl) (fun q h => (Or.inr h))) (cwV 1 hts (lw_V q383 q385 qs3 q65 q386) rfl rfl rfl (by decide +kernel) ⟨Nat.le_of_ble_eq_true rfl, Nat.le_of_ble_eq_true rfl⟩) (cP_V hK hE (En.narrow hZn (fun q h => by rcases h with rfl | hq <;> first | exact hFa | exact hF _ (Nat.le_trans hS.1 hq))) (rcv hK ha rfl)) rfl rfl hl.1 rfl (lv_room (Nat.le_of_ble_eq_true rfl)) dJ2_grow_7 ⟨(by first | decide | omega), (by first | decide | omega)⟩) hS (fun q _ h => (fun q h => by rcases h with rfl | hq <;> first | exact hFa | exact hF _ (Nat.le_trans hS.1 hq)) q h) (fun q h => by rcases h with rfl | hq <;> first | exact hFa | exact hF _ (Nat.le_trans hS.1 hq)) (fun r_1 H_2 t H_2x locs ht _ hr_1 hB hz hk hS => ?_)
  obtain rfl : H_2x = H_2 := ht.symm.trans hB
  have hz_3 : hC (fun q => q = a ∨ s.heap.size ≤ q) s.heap H_2x := ⟨hz, hk⟩
  clear hz hk hB ht
  obtain ⟨q_4, hr_1, z_5, h_6, h_7⟩ := hr_1
  have n_8 : a ≠ q_4 := Nat.ne_of_lt (Nat.lt_of_lt_of_le (at_lt ha) z_5)
  have zq_4 : s.heap.size ≤ q_4 := Nat.le_trans hSo.1 z_5
  have mq_4 := hF _ zq_4
  subst hr_1
  subst hQe
  refine W.widen (k := 1) (n := 10) (by first | decide | omega) (by first | decide | omega) ?_
  exact W.aret hx hb hr (Or.inr ⟨_, rfl⟩) (Or.inr ⟨_, rfl⟩) (fun t ht hW => ⟨⟨some q_4, H_2x, rfl, ⟨q_4, rfl, zq_4, h_6, h_7⟩, ht⟩, hS.F ht⟩) hS.2.2 dJ2_grow_10

set_option maxHeartbeats 4000000 in
set_option maxRecDepth 100000 in
theorem met_J2_add_2E (l : Launch) (D : va_G) (cA : Nat → ClassId) (Z : Nat → Nat) (F : Nat → Prop) (H : Heap) {a v : Nat} {mo : Int32} (ha : va_at D vwCl (a, .inr (10, [.int mo, .ref (Z 0), .int (nI 0)])) H) (hv : lobj D cA Z H v) (hFa : F a) (hF : ∀ q, H.size ≤ q → F q) (hva : v ≠ a) : Met l yJ2_add_2 (ws_ yJ2_add_2 cJ2_add_2 4 none) (rmL 4 1 10) (cP D cA Z F H [.ref a, .ref v, .ref (Z 0), .int (0 : Int32)]) (va_Qv (fun (H1 : Heap) => ∃ b : Nat, H.size ≤ b ∧ va_at D vwCl (b, .inl (cA 3, 10, .inr (.inr (.inr (.inr (va_up (fun _ => none) 0 (some v))))))) H1 ∧ va_at D vwCl (a, .inr (10, [.int mo, .ref b, .int (nI 1)])) H1) (fun (H1 : Heap) (t : State) => t.heap = H1) F) 1 10 F := by
  refine Met.ofW (cc := cJ2_add_2) (maxL := 4) (ret := none) (by decide) rfl ?_
  intro p e s m args below meth c s₁ Bd hml hv
  obtain ⟨rfl, hh, hK, hE, hZn⟩ := hv
  subst hh
  have hx := Bd.exec
  have hb := Bd.bytes
  have hr := Bd.returns
  have hts := atoms_spec (ws := (ws_ yJ2_add_2 cJ2_add_2 4 none)) Bd.pre
  have hts : ∀ w ∈ lw_all, w.before _ s = true := fun w h => hts w (List.mem_cons_of_mem _ h)
  have hown : s.vm.findClass RJ2 = some m.cls := findClass_of_methodNamed Bd.named
  have hlocks := Bd.notSynchronized
  have hS : va_S F s.heap s.heap [] := va_S.rf
  have hl := lv_entry ([.ref a, .ref v, .ref (Z 0), .int (0 : Int32)]) (n := 4) (Nat.le_of_ble_eq_true rfl)
  rw [lg_entry_eq]
  generalize (lg_sl ([.ref a, .ref v, .ref (Z 0), .int (0 : Int32)]) ++ List.replicate (4 - (lg_sl ([.ref a, .ref v, .ref (Z 0), .int (0 : Int32)])).length) Slot.unset).toArray = ls at hl ⊢
  have hl : lv_has ls 4 [(0, .ref a), (1, .ref v), (2, .ref (Z 0)), (3, .int (0 : Int32))] := hl
  refine W.gq fun Q0 hQe => ?_
  refine lv_iload_n hx hb dJ2_add_2_0 rfl (lv_at hl 3 rfl) ?_
  refine lv_aload_n hx hb dJ2_add_2_1 rfl (lv_at hl 2 rfl) ?_
  refine va_tlen hx hb hZn.1.2 hS (v := (0 : Int32)) rfl dJ2_add_2_2 ?_
  refine lv_icmp_ne (tgt := 11) hx hb dJ2_add_2_3 (by decide) (fun c_ => absurd (by decide) c_) (fun _ => ?_)
  refine lv_aload_n hx hb dJ2_add_2_6 rfl (lv_at hl 0 rfl) ?_
  have hSo := hS
  refine va_callq (va_runV (As := []) (rest := []) ⟨hx, hb, hml, hown, hts⟩ (met_J2_grow l D cA Z (fun q => q = a ∨ s.heap.size ≤ q) s.heap (mo := mo) ha (Or.inl rfl) (fun q h => (Or.inr h))) (cwV 0 hts (lw_V q379 q381 qs2 q65 q382) rfl rfl rfl (by decide +kernel) ⟨Nat.le_of_ble_eq_true rfl, Nat.le_of_ble_eq_true rfl⟩) (cP_V hK hE (En.narrow hZn (fun q h => by rcases h with rfl | hq <;> first | exact hFa | exact hF _ (Nat.le_trans hS.1 hq))) (rcv hK ha rfl)) rfl rfl hl.1 rfl (lv_room (Nat.le_of_ble_eq_true rfl)) dJ2_add_2_7 ⟨(by first | decide | omega), (by first | decide | omega)⟩) hS (fun q _ h => (fun q h => by rcases h with rfl | hq <;> first | exact hFa | exact hF _ (Nat.le_trans hS.1 hq)) q h) (fun q h => by rcases h with rfl | hq <;> first | exact hFa | exact hF _ (Nat.le_trans hS.1 hq)) (fun r_1 H_2 t H_2x locs ht _ hr_1 hB hz hk hS => ?_)
  obtain rfl : H_2x = H_2 := ht.symm.trans hB
  have hz_3 : hC (fun q => q = a ∨ s.heap.size ≤ q) s.heap H_2x := ⟨hz, hk⟩
  clear hz hk hB ht
  have h_4 := lobj.C hv hz_3 (fun h => Or.elim h (fun h => absurd h hva) (fun h => absurd (lobj.lt hv) (Nat.not_lt.mpr h)))
  obtain ⟨q_5, hr_1, z_6, h_7, h_8⟩ := hr_1
  have n_9 : a ≠ q_5 := Nat.ne_of_lt (Nat.lt_of_lt_of_le (at_lt ha) z_6)
  have n_10 : v ≠ q_5 := Nat.ne_of_lt (Nat.lt_of_lt_of_le (lobj.lt hv) z_6)
  have zq_5 : s.heap.size ≤ q_5 := Nat.le_trans hSo.1 z_6
  have mq_5 := hF _ zq_5
  subst hr_1
  refine lv_astore_n (lv' := [(2, .ref q_5), (0, .ref a), (1, .ref v), (3, .int (0 : Int32))]) hx hb dJ2_add_2_10 rfl hl (by decide) rfl (fun ls hl => ?_)
  refine lv_aload_n hx hb dJ2_add_2_11 rfl (lv_at hl 0 rfl) ?_
  refine lv_iload_n hx hb dJ2_add_2_12 rfl (lv_at hl 3 rfl) ?_
  refine lv_aload_n hx hb dJ2_add_2_13 rfl (lv_at hl 2 rfl) ?_
  have o_140 := h_4
  obtain ⟨o_14c, o_14r, o_14v, o_141, o_142, o_143⟩ := o_140
  refine r_aast hx hb hK hS h_7 mq_5 3 rfl (cast_asg (hE.2.2.1 _ _ o_143)) o_141 o_142 0 rfl (by omega) (by decide) dJ2_add_2_14 (fun H_12 locs hs_11 hS => ?_)
  have h_15 := lobj.S h_4 hs_11 n_10
  have h_16 := atK h_8 hs_11 n_9
  have h_13 := hs_11.1
  refine lv_aload_n hx hb dJ2_add_2_15 rfl (lv_at hl 1 rfl) ?_
  refine lv_iload_n hx hb dJ2_add_2_16 rfl (lv_at hl 3 rfl) ?_
  refine lv_iconst (v := 1) hx hb dJ2_add_2_17 (by decide) ?_
  refine lv_iadd hx hb dJ2_add_2_18 ?_
  rw [show ((0 : Int32) + (1 : Int32)) = nI (0 + 1) from (ixA rfl rfl)]
  refine r_put (C := RJ2) (T := TJ2) (N := 3) hx hb hts in_J2 tyJ2 tyJ2_ok nmJ2 hown hK hS h_16 hFa rfl 2 (by decide) (hts _ q125) (fun _ h => h) rfl rfl rfl (Nat.le_of_ble_eq_true rfl) dJ2_add_2_19 (fun H_18 locs hs_17 hS => ?_)
  have h_19 := lobj.S h_15 hs_17 hva
  have h_20 := atK h_13 hs_17 (Ne.symm n_9)
  have h_21 : va_at D vwCl (a, .inr (10, [.int mo, .ref q_5, .int (nI (0 + 1))])) H_18 := hs_17.1
  subst hQe
  refine W.widen (k := 1) (n := 10) (by first | decide | omega) (by first | decide | omega) ?_
  exact W.vret hx hb hr (fun t ht hW => ⟨⟨H_18, rfl, ⟨q_5, zq_5, h_20, h_21⟩, ht⟩, hS.F ht⟩) hS.2.2 dJ2_add_2_22

set_option maxHeartbeats 4000000 in
set_option maxRecDepth 100000 in
theorem met_J2_add_2N (l : Launch) (D : va_G) (cA : Nat → ClassId) (Z : Nat → Nat) (F : Nat → Prop) (H : Heap) {a v ed : Nat} {mo : Int32} {f : Nat → Option Nat} {n : Nat} (ha : va_at D vwCl (a, .inr (10, [.int mo, .ref ed, .int (nI n)])) H) (he : va_at D vwCl (ed, .inl (cA 3, 10, .inr (.inr (.inr (.inr f))))) H) (hv : lobj D cA Z H v) (hFa : F a) (hFed : F ed) (hva : v ≠ a) (hve : v ≠ ed) (hn : n < 10) : Met l yJ2_add_2 (ws_ yJ2_add_2 cJ2_add_2 4 none) (rmL 1 0 0) (cP D cA Z F H [.ref a, .ref v, .ref ed, .int (nI n)]) (va_Qv (fun (H1 : Heap) => va_at D vwCl (a, .inr (10, [.int mo, .ref ed, .int (nI (n + 1))])) H1 ∧ va_at D vwCl (ed, .inl (cA 3, 10, .inr (.inr (.inr (.inr (va_up f n (some v))))))) H1) (fun (H1 : Heap) (t : State) => t.heap = H1) F) 0 0 F := by
  refine Met.ofW (cc := cJ2_add_2) (maxL := 4) (ret := none) (by decide) rfl ?_
  intro p e s m args below meth c s₁ Bd hml hv
  obtain ⟨rfl, hh, hK, hE, hZn⟩ := hv
  subst hh
  have hx := Bd.exec
  have hb := Bd.bytes
  have hr := Bd.returns
  have hts := atoms_spec (ws := (ws_ yJ2_add_2 cJ2_add_2 4 none)) Bd.pre
  have hts : ∀ w ∈ lw_all, w.before _ s = true := fun w h => hts w (List.mem_cons_of_mem _ h)
  have hown : s.vm.findClass RJ2 = some m.cls := findClass_of_methodNamed Bd.named
  have hlocks := Bd.notSynchronized
  have hS : va_S F s.heap s.heap [] := va_S.rf
  have hl := lv_entry ([.ref a, .ref v, .ref ed, .int (nI n)]) (n := 4) (Nat.le_of_ble_eq_true rfl)
  rw [lg_entry_eq]
  generalize (lg_sl ([.ref a, .ref v, .ref ed, .int (nI n)]) ++ List.replicate (4 - (lg_sl ([.ref a, .ref v, .ref ed, .int (nI n)])).length) Slot.unset).toArray = ls at hl ⊢
  have hl : lv_has ls 4 [(0, .ref a), (1, .ref v), (2, .ref ed), (3, .int (nI n))] := hl
  refine W.gq fun Q0 hQe => ?_
  refine lv_iload_n hx hb dJ2_add_2_0 rfl (lv_at hl 3 rfl) ?_
  refine lv_aload_n hx hb dJ2_add_2_1 rfl (lv_at hl 2 rfl) ?_
  refine r_alen hx hb hK he 3 rfl (v := (10 : Int32)) rfl dJ2_add_2_2 ?_
  refine lv_icmp_ne (tgt := 11) hx hb dJ2_add_2_3 (by decide) (fun c3_b_1 => ?_) (fun c3_b_1 => absurd c3_b_1 (fun q => absurd ((nI_eq (a := n) (b := 10) (by omega) (by decide)).mp q) (by omega)))
  refine lv_aload_n hx hb dJ2_add_2_11 rfl (lv_at hl 2 rfl) ?_
  refine lv_iload_n hx hb dJ2_add_2_12 rfl (lv_at hl 3 rfl) ?_
  refine lv_aload_n hx hb dJ2_add_2_13 rfl (lv_at hl 1 rfl) ?_
  have o_50 := hv
  obtain ⟨o_5c, o_5r, o_5v, o_51, o_52, o_53⟩ := o_50
  refine r_aast hx hb hK hS he hFed 3 rfl (cast_asg (hE.2.2.1 _ _ o_53)) o_51 o_52 n rfl (by omega) (by decide) dJ2_add_2_14 (fun H_3 locs hs_2 hS => ?_)
  have h_6 := atK ha hs_2 (at_ne ha he (K_ca hK (i := 10) 3 rfl rfl (by decide)))
  have h_7 := lobj.S hv hs_2 hve
  have h_4 := hs_2.1
  refine lv_aload_n hx hb dJ2_add_2_15 rfl (lv_at hl 0 rfl) ?_
  refine lv_iload_n hx hb dJ2_add_2_16 rfl (lv_at hl 3 rfl) ?_
  refine lv_iconst (v := 1) hx hb dJ2_add_2_17 (by decide) ?_
  refine lv_iadd hx hb dJ2_add_2_18 ?_
  rw [show ((nI n) + (1 : Int32)) = nI (n + 1) from (ixA rfl rfl)]
  refine r_put (C := RJ2) (T := TJ2) (N := 3) hx hb hts in_J2 tyJ2 tyJ2_ok nmJ2 hown hK hS h_6 hFa rfl 2 (by decide) (hts _ q125) (fun _ h => h) rfl rfl rfl (Nat.le_of_ble_eq_true rfl) dJ2_add_2_19 (fun H_9 locs hs_8 hS => ?_)
  have h_10 := lobj.S h_7 hs_8 hva
  have h_11 := atK h_4 hs_8 (at_ne h_4 h_6 (Ne.symm (K_ca hK (i := 10) 3 rfl rfl (by decide))))
  have h_12 : va_at D vwCl (a, .inr (10, [.int mo, .ref ed, .int (nI (n + 1))])) H_9 := hs_8.1
  subst hQe
  refine W.widen (k := 0) (n := 0) (by first | decide | omega) (by first | decide | omega) ?_
  exact W.vret hx hb hr (fun t ht hW => ⟨⟨H_9, rfl, ⟨h_12, h_11⟩, ht⟩, hS.F ht⟩) hS.2.2 dJ2_add_2_22

set_option maxHeartbeats 4000000 in
set_option maxRecDepth 100000 in
theorem met_J2_add (l : Launch) (D : va_G) (cA : Nat → ClassId) (Z : Nat → Nat) (F : Nat → Prop) (H : Heap) {a v : Nat} {ed : Nat} {mo : Int32} {n : Nat} {el : Nat → Nat} (hv : lobj D cA Z H v) (hFa : F a) (hF : ∀ q, H.size ≤ q → F q) (hA : AL D cA Z H a ed mo n el) (hFe : ed ≠ Z 0 → F ed) (hva : v ≠ a) (hve : v ≠ ed) (hn : n < 10) : Met l yJ2_add (ws_ yJ2_add cJ2_add 2 (some .boolean)) (rmL 5 1 10) (cP D cA Z F H [.ref a, .ref v]) (va_Qi (fun (r : Int32) (H1 : Heap) => r = 1 ∧ ∃ ed1, AL D cA Z H1 a ed1 (mo + 1) (n + 1) (upE el n v) ∧ (ed1 = ed ∧ ed ≠ Z 0 ∨ H.size ≤ ed1)) (fun (H1 : Heap) (t : State) => t.heap = H1) F) 1 10 F := by
  refine Met.ofW (cc := cJ2_add) (maxL := 2) (ret := (some .boolean)) (by decide) rfl ?_
  intro p e s m args below meth c s₁ Bd hml hv
  obtain ⟨rfl, hh, hK, hE, hZn⟩ := hv
  subst hh
  have hx := Bd.exec
  have hb := Bd.bytes
  have hr := Bd.returns
  have hts := atoms_spec (ws := (ws_ yJ2_add cJ2_add 2 (some .boolean))) Bd.pre
  have hts : ∀ w ∈ lw_all, w.before _ s = true := fun w h => hts w (List.mem_cons_of_mem _ h)
  have hown : s.vm.findClass RJ2 = some m.cls := findClass_of_methodNamed Bd.named
  have hlocks := Bd.notSynchronized
  have hS : va_S F s.heap s.heap [] := va_S.rf
  have hl := lv_entry ([.ref a, .ref v]) (n := 2) (Nat.le_of_ble_eq_true rfl)
  rw [lg_entry_eq]
  generalize (lg_sl ([.ref a, .ref v]) ++ List.replicate (2 - (lg_sl ([.ref a, .ref v])).length) Slot.unset).toArray = ls at hl ⊢
  have hl : lv_has ls 2 [(0, .ref a), (1, .ref v)] := hl
  refine W.gq fun Q0 hQe => ?_
  obtain ⟨ha, hd⟩ := hA
  rcases hd with ⟨hn0, he0⟩ | ⟨hez, he⟩
  · skip
    subst hn0 he0
    refine lv_aload_n hx hb dJ2_add_0 rfl (lv_at hl 0 rfl) ?_
    refine lv_dup hx hb dJ2_add_1 rfl ?_
    refine r_get (C := RJ2) (T := TJ2) (N := 3) hx hb hts in_J2 hown hK ha rfl 0 (by decide) (hts _ q129) (fun _ h => u_same (hts _ q128) _ h) (v := .int mo) rfl dJ2_add_2 ?_
    refine lv_iconst (v := 1) hx hb dJ2_add_5 (by decide) ?_
    refine lv_iadd hx hb dJ2_add_6 ?_
    refine r_put (C := RJ2) (T := TJ2) (N := 3) hx hb hts in_J2 tyJ2 tyJ2_ok nmJ2 hown hK hS ha hFa rfl 0 (by decide) (hts _ q129) (fun _ h => u_same (hts _ q128) _ h) rfl rfl rfl (Nat.le_of_ble_eq_true rfl) dJ2_add_7 (fun H_2 locs hs_1 hS => ?_)
    have h_3 := lobj.S hv hs_1 hva
    have h_4 : va_at D vwCl (a, .inr (10, [.int (mo + (1 : Int32)), .ref (Z 0), .int (nI 0)])) H_2 := hs_1.1
    refine lv_aload_n hx hb dJ2_add_10 rfl (lv_at hl 0 rfl) ?_
    refine lv_aload_n hx hb dJ2_add_11 rfl (lv_at hl 1 rfl) ?_
    refine lv_aload_n hx hb dJ2_add_12 rfl (lv_at hl 0 rfl) ?_
    refine r_get (C := RJ2) (T := TJ2) (N := 3) hx hb hts in_J2 hown hK h_4 rfl 1 (by decide) (hts _ q122) (fun _ h => h) (v := .ref (Z 0)) rfl dJ2_add_13 ?_
    refine lv_aload_n hx hb dJ2_add_16 rfl (lv_at hl 0 rfl) ?_
    refine r_get (C := RJ2) (T := TJ2) (N := 3) hx hb hts in_J2 hown hK h_4 rfl 2 (by decide) (hts _ q125) (fun _ h => h) (v := .int (nI 0)) rfl dJ2_add_17 ?_
    have hSo := hS
    refine va_callv (va_runV (As := [.ref v, .ref (Z 0), .int (nI 0)]) (rest := []) ⟨hx, hb, hml, hown, hts⟩ (met_J2_add_2E l D cA Z (fun q => q = a ∨ H_2.size ≤ q) H_2 (mo := (mo + (1 : Int32))) h_4 h_3 (Or.inl rfl) (fun q h => (Or.inr h)) hva) (cwV 3 hts (lw_V q375 q377 qs1 q65 q378) rfl rfl rfl (by decide +kernel) ⟨Nat.le_of_ble_eq_true rfl, Nat.le_of_ble_eq_true rfl⟩) (cP_V hK hE (En.narrow (hZn.kept hS.c) (fun q h => by rcases h with rfl | hq <;> first | exact hFa | exact hF _ (Nat.le_trans hS.1 hq))) (rcv hK h_4 rfl)) rfl rfl hl.1 rfl (lv_room (Nat.le_of_ble_eq_true rfl)) dJ2_add_20 ⟨(by first | decide | omega), (by first | decide | omega)⟩) hS (fun q _ h => (fun q h => by rcases h with rfl | hq <;> first | exact hFa | exact hF _ (Nat.le_trans hS.1 hq)) q h) (fun q h => by rcases h with rfl | hq <;> first | exact hFa | exact hF _ (Nat.le_trans hS.1 hq)) (fun H_6 t H_6x locs ht _ hr_5 hB hz hk hS => ?_)
    obtain rfl : H_6x = H_6 := ht.symm.trans hB
    have hz_7 : hC (fun q => q = a ∨ H_2.size ≤ q) H_2 H_6x := ⟨hz, hk⟩
    clear hz hk hB ht
    have h_8 := lobj.C h_3 hz_7 (fun h => Or.elim h (fun h => absurd h hva) (fun h => absurd (lobj.lt h_3) (Nat.not_lt.mpr h)))
    obtain ⟨q_9, z_10, h_11, h_12⟩ := hr_5
    have n_13 : v ≠ q_9 := Nat.ne_of_lt (Nat.lt_of_lt_of_le (lobj.lt h_3) z_10)
    have n_14 : a ≠ q_9 := Nat.ne_of_lt (Nat.lt_of_lt_of_le (at_lt h_4) z_10)
    have zq_9 : s.heap.size ≤ q_9 := Nat.le_trans hSo.1 z_10
    have mq_9 := hF _ zq_9
    refine lv_iconst (v := 1) hx hb dJ2_add_23 (by decide) ?_
    subst hQe
    refine W.widen (k := 1) (n := 10) (by first | decide | omega) (by first | decide | omega) ?_
    exact W.zret hx hb hr rfl (fun t ht hW => ⟨⟨_, H_6x, rfl, (by exact ⟨rfl, _, ⟨h_12, Or.inr ⟨AL_ne0 h_11 (hZn.kept hS.c).1.2, by rw [← alf_up0 (el := el)]; exact h_11⟩⟩, Or.inr zq_9⟩), ht⟩, hS.F ht⟩) hS.2.2 dJ2_add_24
  · skip
    have hFed := hFe hez
    refine lv_aload_n hx hb dJ2_add_0 rfl (lv_at hl 0 rfl) ?_
    refine lv_dup hx hb dJ2_add_1 rfl ?_
    refine r_get (C := RJ2) (T := TJ2) (N := 3) hx hb hts in_J2 hown hK ha rfl 0 (by decide) (hts _ q129) (fun _ h => u_same (hts _ q128) _ h) (v := .int mo) rfl dJ2_add_2 ?_
    refine lv_iconst (v := 1) hx hb dJ2_add_5 (by decide) ?_
    refine lv_iadd hx hb dJ2_add_6 ?_
    refine r_put (C := RJ2) (T := TJ2) (N := 3) hx hb hts in_J2 tyJ2 tyJ2_ok nmJ2 hown hK hS ha hFa rfl 0 (by decide) (hts _ q129) (fun _ h => u_same (hts _ q128) _ h) rfl rfl rfl (Nat.le_of_ble_eq_true rfl) dJ2_add_7 (fun H_16 locs hs_15 hS => ?_)
    have h_17 := lobj.S hv hs_15 hva
    have h_18 := atK he hs_15 (at_ne he ha (Ne.symm (K_ca hK (i := 10) 3 rfl rfl (by decide))))
    have h_19 : va_at D vwCl (a, .inr (10, [.int (mo + (1 : Int32)), .ref ed, .int (nI n)])) H_16 := hs_15.1
    refine lv_aload_n hx hb dJ2_add_10 rfl (lv_at hl 0 rfl) ?_
    refine lv_aload_n hx hb dJ2_add_11 rfl (lv_at hl 1 rfl) ?_
    refine lv_aload_n hx hb dJ2_add_12 rfl (lv_at hl 0 rfl) ?_
    refine r_get (C := RJ2) (T := TJ2) (N := 3) hx hb hts in_J2 hown hK h_19 rfl 1 (by decide) (hts _ q122) (fun _ h => h) (v := .ref ed) rfl dJ2_add_13 ?_
    refine lv_aload_n hx hb dJ2_add_16 rfl (lv_at hl 0 rfl) ?_
    refine r_get (C := RJ2) (T := TJ2) (N := 3) hx hb hts in_J2 hown hK h_19 rfl 2 (by decide) (hts _ q125) (fun _ h => h) (v := .int (nI n)) rfl dJ2_add_17 ?_
    have hSo := hS
    refine va_callv (va_runV (As := [.ref v, .ref ed, .int (nI n)]) (rest := []) ⟨hx, hb, hml, hown, hts⟩ (met_J2_add_2N l D cA Z (fun q => q = a ∨ q = ed) H_16 (mo := (mo + (1 : Int32))) (f := (alf n el)) (n := n) h_19 h_18 h_17 (Or.inl rfl) (Or.inr rfl) hva hve (by first | assumption | omega | decide)) (cwV 3 hts (lw_V q375 q377 qs1 q65 q378) rfl rfl rfl (by decide +kernel) ⟨Nat.le_of_ble_eq_true rfl, Nat.le_of_ble_eq_true rfl⟩) (cP_V hK hE (En.narrow (hZn.kept hS.c) (fun q h => by rcases h with rfl | rfl <;> first | exact hFa | exact hFed)) (rcv hK h_19 rfl)) rfl rfl hl.1 rfl (lv_room (Nat.le_of_ble_eq_true rfl)) dJ2_add_20 ⟨Nat.le_of_ble_eq_true rfl, Nat.le_of_ble_eq_true rfl⟩) hS (fun q _ h => (fun q h => by rcases h with rfl | rfl <;> first | exact hFa | exact hFed) q h) (fun q h => by rcases h with rfl | rfl <;> first | exact hFa | exact hFed) (fun H_21 t H_21x locs ht _ hr_20 hB hz hk hS => ?_)
    obtain rfl : H_21x = H_21 := ht.symm.trans hB
    have hz_22 : hC (fun q => q = a ∨ q = ed) H_16 H_21x := ⟨hz, hk⟩
    clear hz hk hB ht
    have h_23 := lobj.C h_17 hz_22 (fun h => Or.elim h (fun h => absurd h hva) (fun h => absurd h hve))
    obtain ⟨h_24, h_25⟩ := hr_20
    refine lv_iconst (v := 1) hx hb dJ2_add_23 (by decide) ?_
    subst hQe
    refine W.widen (k := 1) (n := 10) (by first | decide | omega) (by first | decide | omega) ?_
    exact W.zret hx hb hr rfl (fun t ht hW => ⟨⟨_, H_21x, rfl, (by exact ⟨rfl, _, ⟨h_24, Or.inr ⟨hez, by rw [← alf_up]; exact h_25⟩⟩, Or.inl ⟨rfl, hez⟩⟩), ht⟩, hS.F ht⟩) hS.2.2 dJ2_add_24
