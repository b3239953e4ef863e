set_option maxHeartbeats 4000000 in
set_option maxRecDepth 100000 in
theorem met_X2_setPrice (l : Launch) (D : va_G) (cA : Nat → ClassId) (Z : Nat → Nat) (H : Heap) {ad : Nat → Nat} {f : Nat → Int32} {n p' : Nat} {mo : Nat → Int32} {B : Nat}  {c0 : Int32} {v : Int32} (hR : CR D cA Z H ad f n p' mo) (hI : tk_ok B f) : Met l yX2_setPrice (ws_ yX2_setPrice cX2_setPrice 4 (some .int)) (rmL 4 0 0) (cP D cA Z (fun q => c0.toNatClampNeg < p' ∧ q = ad (20 + c0.toNatClampNeg)) H [.ref (ad 0), .int c0, .int v]) (va_Qi (fun (r : Int32) (H1 : Heap) => r = (tk_price f c0 v).1 ∧ CR D cA Z H1 ad (tk_price f c0 v).2 n p' mo) (fun (H1 : Heap) (t : State) => t.heap = H1) (fun q => c0.toNatClampNeg < p' ∧ q = ad (20 + c0.toNatClampNeg))) 0 0 (fun q => c0.toNatClampNeg < p' ∧ q = ad (20 + c0.toNatClampNeg)) := by
  refine Met.ofW (cc := cX2_setPrice) (maxL := 4) (ret := (some .int)) (by decide) rfl ?_
  intro p e s m args below meth c s₁ Bd hml hv
  obtain ⟨rfl, hh, hK, hE, hZn⟩ := hv
  subst hh
  have hx := Bd.exec
  have hb := Bd.bytes
  have hr := Bd.returns
  have hts := atoms_spec (ws := (ws_ yX2_setPrice cX2_setPrice 4 (some .int))) Bd.pre
  have hts : ∀ w ∈ lw_all, w.before _ s = true := fun w h => hts w (List.mem_cons_of_mem _ h)
  have hown : s.vm.findClass RX2 = some m.cls := findClass_of_methodNamed Bd.named
  have hlocks := Bd.notSynchronized
  obtain ⟨F, hFe⟩ : ∃ z : Nat → Prop, z = (fun q => c0.toNatClampNeg < p' ∧ q = ad (20 + c0.toNatClampNeg)) := ⟨_, rfl⟩
  rw [← hFe] at hZn
  have hS : va_S F s.heap s.heap [] := va_S.rf
  have hl := lv_entry ([.ref (ad 0), .int c0, .int v]) (n := 4) (Nat.le_of_ble_eq_true rfl)
  rw [lg_entry_eq]
  generalize (lg_sl ([.ref (ad 0), .int c0, .int v]) ++ List.replicate (4 - (lg_sl ([.ref (ad 0), .int c0, .int v])).length) Slot.unset).toArray = ls at hl ⊢
  have hl : lv_has ls 4 [(0, .ref (ad 0)), (1, .int c0), (2, .int v)] := hl
  refine W.gq fun Q0 hQe => ?_
  refine lv_aload_n hx hb dX2_setPrice_0 rfl (lv_at hl 0 rfl) ?_
  refine lv_iload_n hx hb dX2_setPrice_1 rfl (lv_at hl 1 rfl) ?_
  refine vp_callSi (W.runV (As := [.int c0]) (rest := []) ⟨hx, hb, hml, hown, hts⟩ (met_X2_isPrize l D cA Z (fun _ => False) s.heap (c0 := c0) hR (by first | assumption | omega | decide)) (cwV 1 hts (lw_V q820 q821 q822 q62 q823) rfl rfl rfl (by decide +kernel) ⟨Nat.le_of_ble_eq_true rfl, Nat.le_of_ble_eq_true rfl⟩) (cP_V hK hE (En.narrow hZn (fun _ h => h.elim)) (rcv hK hR.obj rfl)) rfl rfl hl.1 rfl (lv_room (Nat.le_of_ble_eq_true rfl)) dX2_setPrice_2 ⟨Nat.le_of_ble_eq_true rfl, Nat.le_of_ble_eq_true rfl⟩) (fun r_1 hr_1 => ?_)
  rcases hr_1 with ⟨er_hr_1, hr_1⟩ | ⟨er_hr_1, hr_1⟩
  · subst er_hr_1
    have hqj0 := hr_1
    obtain ⟨j0, hj0, ej0⟩ := hR.pr_ix hI hqj0
    subst ej0
    have n6 := hR.n6
    have p6 := hR.p6
    rw [nI_clamp (show j0 < 2 ^ 31 by omega)] at hFe hQe
    refine lv_if_eq (tgt := 19) hx hb dX2_setPrice_5 (by decide) (fun c_ => absurd c_ (by decide)) (fun _ => ?_)
    refine lv_iload_n hx hb dX2_setPrice_8 rfl (lv_at hl 2 rfl) ?_
    refine lv_iconst (v := 1) hx hb dX2_setPrice_9 (by decide) ?_
    refine lv_sipush (v := 5000) hx hb dX2_setPrice_10 (by decide) ?_
    refine vp_callSi (toCR (va_runSN (As := [.int v, .int (1 : Int32), .int (5000 : Int32)]) (rest := []) ⟨hx, hb, hml, hown, hts⟩ (met_X0_isBetween l v (1 : Int32) (5000 : Int32)) ⟨va_cnB 3 hts (lw_meth q272) rfl rfl rfl (hE.2.1 _ _ _ _ q270) (hts _ q60) (by decide +kernel) ⟨Nat.le_of_ble_eq_true rfl, Nat.le_of_ble_eq_true rfl⟩, hts _ q271, trivial⟩ ⟨fun a U g mk q => q, fun U hU hW => ⟨rfl, trivial⟩⟩ rfl rfl hl.1 rfl (lv_room (Nat.le_of_ble_eq_true rfl)) dX2_setPrice_13 ⟨Nat.le_of_ble_eq_true rfl, Nat.le_of_ble_eq_true rfl⟩)) (fun r_2 hr_2 => ?_)
    rcases hr_2 with ⟨er_hr_2, hr_2⟩ | ⟨er_hr_2, hr_2⟩
    · subst er_hr_2
      refine lv_if_ne (tgt := 22) hx hb dX2_setPrice_16 (by decide) (fun _ => ?_) (fun c_ => absurd c_ (by decide))
      refine lv_aload_n hx hb dX2_setPrice_22 rfl (lv_at hl 0 rfl) ?_
      refine r_get (C := RX2) (T := TX2) (N := 10) hx hb hts in_X2 hown hK hR.obj rfl 9 (by decide) (hts _ q156) (fun _ h => h) (v := .ref (ad 5)) rfl dX2_setPrice_23 ?_
      refine lv_iload_n hx hb dX2_setPrice_26 rfl (lv_at hl 1 rfl) ?_
      refine va_csFq (g_runF (As := [.int (nI j0)]) (rest := []) ⟨hx, hb, hml, hown, hts⟩ (met_J2_get l D cA Z (fun _ => False) s.heap (mo := (mo 1)) (ed := (ad 6)) (n := p') (j := j0) (f := (alf p' (fun i => ad (20 + i)))) hR.pl.1 (hR.pl.arr (by omega)) (by first | assumption | omega | decide) (by first | assumption | omega | decide)) (va_cwF 1 hts (g_wsF q739 q742 q744 q65 q746) rfl rfl rfl (hE.2.2.2.1 "java/util/ArrayList" _ _ (by decide) q741 q740 q745 q743 q296) (by decide +kernel) ⟨Nat.le_of_ble_eq_true rfl, Nat.le_of_ble_eq_true rfl⟩) (cP_V hK hE (En.narrow hZn (fun _ h => h.elim)) (rcv hK hR.pl.1 rfl)) rfl rfl hl.1 rfl (lv_room (Nat.le_of_ble_eq_true rfl)) dX2_setPrice_27 ⟨Nat.le_of_ble_eq_true rfl, Nat.le_of_ble_eq_true rfl⟩) (fun r_3 hr_3 => ?_)
      subst hr_3
      rw [show va_rf ((alf p' (fun i => ad (20 + i))) j0) = .ref (ad (20 + j0)) from by rw [alf_lt (by assumption)]; rfl]
      refine va_castS hx hb hown (hts _ q438) (hK.1 5 _ rfl).2 (rcv hK (hR.pri j0 (by omega)) rfl) dX2_setPrice_32 ?_
      refine r_getN (C := RX5) (T := TX5) (N := 7) hx hb hts in_X5 hown hK (hR.pri j0 (by omega)) rfl 0 (by decide) (hE.1 _ _ _ _ _ _ q450) (fun _ h => h) (v := .int (f (52 + 7 * j0))) rfl dX2_setPrice_35 ?_
      refine lv_istore_n (lv' := [(3, .int (f (52 + 7 * j0))), (0, .ref (ad 0)), (1, .int (nI j0)), (2, .int v)]) hx hb dX2_setPrice_38 rfl hl (by decide) rfl (fun ls hl => ?_)
      refine lv_aload_n hx hb dX2_setPrice_39 rfl (lv_at hl 1 rfl) ?_
      refine r_get (C := RX2) (T := TX2) (N := 10) hx hb hts in_X2 hown hK hR.obj rfl 9 (by decide) (hts _ q156) (fun _ h => h) (v := .ref (ad 5)) rfl dX2_setPrice_40 ?_
      refine lv_iload_n hx hb dX2_setPrice_43 rfl (lv_at hl 2 rfl) ?_
      refine va_csFq (g_runF (As := [.int (nI j0)]) (rest := []) ⟨hx, hb, hml, hown, hts⟩ (met_J2_get l D cA Z (fun _ => False) s.heap (mo := (mo 1)) (ed := (ad 6)) (n := p') (j := j0) (f := (alf p' (fun i => ad (20 + i)))) hR.pl.1 (hR.pl.arr (by omega)) (by first | assumption | omega | decide) (by first | assumption | omega | decide)) (va_cwF 1 hts (g_wsF q739 q742 q744 q65 q746) rfl rfl rfl (hE.2.2.2.1 "java/util/ArrayList" _ _ (by decide) q741 q740 q745 q743 q296) (by decide +kernel) ⟨Nat.le_of_ble_eq_true rfl, Nat.le_of_ble_eq_true rfl⟩) (cP_V hK hE (En.narrow hZn (fun _ h => h.elim)) (rcv hK hR.pl.1 rfl)) rfl rfl hl.1 rfl (lv_room (Nat.le_of_ble_eq_true rfl)) dX2_setPrice_44 ⟨Nat.le_of_ble_eq_true rfl, Nat.le_of_ble_eq_true rfl⟩) (fun r_4 hr_4 => ?_)
      subst hr_4
      rw [show va_rf ((alf p' (fun i => ad (20 + i))) j0) = .ref (ad (20 + j0)) from by rw [alf_lt (by assumption)]; rfl]
      refine va_castS hx hb hown (hts _ q438) (hK.1 5 _ rfl).2 (rcv hK (hR.pri j0 (by omega)) rfl) dX2_setPrice_49 ?_
      refine lv_iload_n hx hb dX2_setPrice_52 rfl (lv_at hl 3 rfl) ?_
      refine r_putN (C := RX5) (T := TX5) (N := 7) hx hb hts in_X5 tyX5 tyX5_ok nmX5 hown hK hS (hR.pri j0 (by omega)) (Eq.mpr (congrFun hFe _) ⟨hj0, rfl⟩) rfl 0 (by decide) (hE.1 _ _ _ _ _ _ q450) (fun _ h => h) rfl rfl rfl (Nat.le_of_ble_eq_true rfl) dX2_setPrice_53 (fun H_6 locs hs_5 hS => ?_)
      have h_7 := atK hR.obj hs_5 (at_ne hR.obj (hR.pri j0 (by omega)) (K_cc hK (i := 2) (j := 5) rfl rfl (by decide)))
      have h_8 := atK hR.pl.1 hs_5 (at_ne hR.pl.1 (hR.pri j0 (by omega)) (K_cc hK (i := 10) (j := 5) rfl rfl (by decide)))
      have h_9 := atK (hR.pl.arr (by omega)) hs_5 (at_ne (hR.pl.arr (by omega)) (hR.pri j0 (by omega)) (Ne.symm (K_ca hK (i := 5) 3 rfl rfl (by decide))))
      have h_10 : va_at D vwCl ((ad (20 + j0)), .inr (5, [.int v, .int (f (52 + 7 * j0 + 1)), .int (f (52 + 7 * j0 + 2)), .int (f (52 + 7 * j0 + 3)), .int (f (52 + 7 * j0 + 4)), .int (f (52 + 7 * j0 + 5)), .int (f (52 + 7 * j0 + 6))])) H_6 := hs_5.1
      refine lv_iload_n hx hb dX2_setPrice_56 rfl (lv_at hl 0 rfl) ?_
      subst hQe
      refine W.widen (k := 0) (n := 0) (by first | decide | omega) (by first | decide | omega) ?_
      subst hFe
      exact W.iret hx hb hr (fun t ht hW => ⟨⟨_, H_6, rfl, (by rw [tk_price, if_neg (by simp [hqj0]), tk_sets, if_neg (by simp [hr_1, hr_2]), nI_clamp (show j0 < 2 ^ 31 by omega)]; exact ⟨rfl, hR.actB hK hj0 _ (fun q hq => Or.inl hq.2) hS.c (fun i h1 _ => by simp only [upd]; rw [if_neg (by omega)]) (fun j hj => hR.cusK hj (hS.2.1 _ (at_lt (hR.cus j hj)) (fun z => hR.ne3 hK hj hj0 z.2)) (by simp only [upd]; rw [if_neg (by omega)]) (by simp only [upd]; rw [if_neg (by omega)]) rfl) (by have hq := h_10; simpa [upd] using hq)⟩), ht⟩, hS.F ht⟩) hS.2.2 dX2_setPrice_57
    · subst er_hr_2
      refine lv_if_ne (tgt := 22) hx hb dX2_setPrice_16 (by decide) (fun c_ => absurd (by decide) c_) (fun _ => ?_)
      refine lv_ldc (v := -100001) hx hb hown (hts _ q273) dX2_setPrice_19 ?_
      subst hQe
      refine W.widen (k := 0) (n := 0) (by first | decide | omega) (by first | decide | omega) ?_
      subst hFe
      exact W.iret hx hb hr (fun t ht hW => ⟨⟨_, s.heap, rfl, (by rw [tk_price, if_neg (by simp [hr_1, hr_2]), tk_sets, if_pos (by simp [hr_1, hr_2])]; exact ⟨rfl, hR⟩), ht⟩, hS.F ht⟩) hS.2.2 dX2_setPrice_21
  · subst er_hr_1
    refine lv_if_eq (tgt := 19) hx hb dX2_setPrice_5 (by decide) (fun _ => ?_) (fun c_ => absurd (by decide) c_)
    refine lv_ldc (v := -100001) hx hb hown (hts _ q273) dX2_setPrice_19 ?_
    subst hQe
    refine W.widen (k := 0) (n := 0) (by first | decide | omega) (by first | decide | omega) ?_
    subst hFe
    exact W.iret hx hb hr (fun t ht hW => ⟨⟨_, s.heap, rfl, (by rw [tk_price, if_pos (by simp [hr_1])]; exact ⟨rfl, hR⟩), ht⟩, hS.F ht⟩) hS.2.2 dX2_setPrice_21

set_option maxHeartbeats 4000000 in
set_option maxRecDepth 100000 in
theorem met_X2_buy (l : Launch) (D : va_G) (cA : Nat → ClassId) (Z : Nat → Nat) (H : Heap) {ad : Nat → Nat} {f : Nat → Int32} {n p' : Nat} {mo : Nat → Int32} {B : Nat}  {c0 : Int32} {p0 : Int32} {k0 : Int32} (hR : CR D cA Z H ad f n p' mo) (hI : tk_ok B f) : Met l yX2_buy (ws_ yX2_buy cX2_buy 5 (some .int)) (rmL 4 0 0) (cP D cA Z (fun q => c0.toNatClampNeg < n ∧ q = ad (10 + c0.toNatClampNeg) ∨ p0.toNatClampNeg < p' ∧ q = ad (20 + p0.toNatClampNeg)) H [.ref (ad 0), .int c0, .int p0, .int k0]) (va_Qi (fun (r : Int32) (H1 : Heap) => r = (tk_buys f c0 p0 k0).1 ∧ CR D cA Z H1 ad (tk_buys f c0 p0 k0).2 n p' mo) (fun (H1 : Heap) (t : State) => t.heap = H1) (fun q => c0.toNatClampNeg < n ∧ q = ad (10 + c0.toNatClampNeg) ∨ p0.toNatClampNeg < p' ∧ q = ad (20 + p0.toNatClampNeg))) 0 0 (fun q => c0.toNatClampNeg < n ∧ q = ad (10 + c0.toNatClampNeg) ∨ p0.toNatClampNeg < p' ∧ q = ad (20 + p0.toNatClampNeg)) := by
  refine Met.ofW (cc := cX2_buy) (maxL := 5) (ret := (some .int)) (by decide) rfl ?_
  intro p e s m args below meth c s₁ Bd hml hv
  obtain ⟨rfl, hh, hK, hE, hZn⟩ := hv
  subst hh
  have hx := Bd.exec
  have hb := Bd.bytes
  have hr := Bd.returns
  have hts := atoms_spec (ws := (ws_ yX2_buy cX2_buy 5 (some .int))) Bd.pre
  have hts : ∀ w ∈ lw_all, w.before _ s = true := fun w h => hts w (List.mem_cons_of_mem _ h)
  have hown : s.vm.findClass RX2 = some m.cls := findClass_of_methodNamed Bd.named
  have hlocks := Bd.notSynchronized
  obtain ⟨F, hFe⟩ : ∃ z : Nat → Prop, z = (fun q => c0.toNatClampNeg < n ∧ q = ad (10 + c0.toNatClampNeg) ∨ p0.toNatClampNeg < p' ∧ q = ad (20 + p0.toNatClampNeg)) := ⟨_, rfl⟩
  rw [← hFe] at hZn
  have hS : va_S F s.heap s.heap [] := va_S.rf
  have hl := lv_entry ([.ref (ad 0), .int c0, .int p0, .int k0]) (n := 5) (Nat.le_of_ble_eq_true rfl)
  rw [lg_entry_eq]
  generalize (lg_sl ([.ref (ad 0), .int c0, .int p0, .int k0]) ++ List.replicate (5 - (lg_sl ([.ref (ad 0), .int c0, .int p0, .int k0])).length) Slot.unset).toArray = ls at hl ⊢
  have hl : lv_has ls 5 [(0, .ref (ad 0)), (1, .int c0), (2, .int p0), (3, .int k0)] := hl
  refine W.gq fun Q0 hQe => ?_
  refine lv_aload_n hx hb dX2_buy_0 rfl (lv_at hl 0 rfl) ?_
  refine lv_iload_n hx hb dX2_buy_1 rfl (lv_at hl 1 rfl) ?_
  refine vp_callSi (W.runV (As := [.int c0]) (rest := []) ⟨hx, hb, hml, hown, hts⟩ (met_X2_isCustomer l D cA Z (fun _ => False) s.heap (c0 := c0) hR (by first | assumption | omega | decide)) (cwV 1 hts (lw_V q602 q603 q604 q62 q605) rfl rfl rfl (by decide +kernel) ⟨Nat.le_of_ble_eq_true rfl, Nat.le_of_ble_eq_true rfl⟩) (cP_V hK hE (En.narrow hZn (fun _ h => h.elim)) (rcv hK hR.obj rfl)) rfl rfl hl.1 rfl (lv_room (Nat.le_of_ble_eq_true rfl)) dX2_buy_2 ⟨Nat.le_of_ble_eq_true rfl, Nat.le_of_ble_eq_true rfl⟩) (fun r_1 hr_1 => ?_)
  rcases hr_1 with ⟨er_hr_1, hr_1⟩ | ⟨er_hr_1, hr_1⟩
  · subst er_hr_1
    have hqj0 := hr_1
    obtain ⟨j0, hj0, ej0⟩ := hR.cu_ix hI hqj0
    subst ej0
    have n6 := hR.n6
    have p6 := hR.p6
    rw [nI_clamp (show j0 < 2 ^ 31 by omega)] at hFe hQe
    refine lv_if_eq (tgt := 26) hx hb dX2_buy_5 (by decide) (fun c_ => absurd c_ (by decide)) (fun _ => ?_)
    refine lv_aload_n hx hb dX2_buy_8 rfl (lv_at hl 0 rfl) ?_
    refine lv_iload_n hx hb dX2_buy_9 rfl (lv_at hl 2 rfl) ?_
    refine vp_callSi (W.runV (As := [.int p0]) (rest := []) ⟨hx, hb, hml, hown, hts⟩ (met_X2_isPrize l D cA Z (fun _ => False) s.heap (c0 := p0) hR (by first | assumption | omega | decide)) (cwV 1 hts (lw_V q820 q821 q822 q62 q823) rfl rfl rfl (by decide +kernel) ⟨Nat.le_of_ble_eq_true rfl, Nat.le_of_ble_eq_true rfl⟩) (cP_V hK hE (En.narrow hZn (fun _ h => h.elim)) (rcv hK hR.obj rfl)) rfl rfl hl.1 rfl (lv_room (Nat.le_of_ble_eq_true rfl)) dX2_buy_10 ⟨Nat.le_of_ble_eq_true rfl, Nat.le_of_ble_eq_true rfl⟩) (fun r_2 hr_2 => ?_)
    rcases hr_2 with ⟨er_hr_2, hr_2⟩ | ⟨er_hr_2, hr_2⟩
    · subst er_hr_2
      have hqq0 := hr_2
      obtain ⟨q0, hq0, eq0⟩ := hR.pr_ix hI hqq0
      subst eq0
      have n6 := hR.n6
      have p6 := hR.p6
      rw [nI_clamp (show q0 < 2 ^ 31 by omega)] at hFe hQe
      have hpc := hI.2.2.2.2.2.2.2.2.2 q0 (by rw [hR.hp, nI_toInt (by omega)]; omega)
      refine lv_if_eq (tgt := 26) hx hb dX2_buy_13 (by decide) (fun c_ => absurd c_ (by decide)) (fun _ => ?_)
      refine lv_iload_n hx hb dX2_buy_16 rfl (lv_at hl 3 rfl) ?_
      refine lv_iconst (v := 1) hx hb dX2_buy_17 (by decide) ?_
      refine lv_bipush (v := 99) hx hb dX2_buy_18 (by decide) ?_
      refine vp_callSi (toCR (va_runSN (As := [.int k0, .int (1 : Int32), .int (99 : Int32)]) (rest := []) ⟨hx, hb, hml, hown, hts⟩ (met_X0_isBetween l k0 (1 : Int32) (99 : Int32)) ⟨va_cnB 3 hts (lw_meth q272) rfl rfl rfl (hE.2.1 _ _ _ _ q270) (hts _ q60) (by decide +kernel) ⟨Nat.le_of_ble_eq_true rfl, Nat.le_of_ble_eq_true rfl⟩, hts _ q271, trivial⟩ ⟨fun a U g mk q => q, fun U hU hW => ⟨rfl, trivial⟩⟩ rfl rfl hl.1 rfl (lv_room (Nat.le_of_ble_eq_true rfl)) dX2_buy_20 ⟨Nat.le_of_ble_eq_true rfl, Nat.le_of_ble_eq_true rfl⟩)) (fun r_3 hr_3 => ?_)
      rcases hr_3 with ⟨er_hr_3, hr_3⟩ | ⟨er_hr_3, hr_3⟩
      · subst er_hr_3
        refine lv_if_ne (tgt := 29) hx hb dX2_buy_23 (by decide) (fun _ => ?_) (fun c_ => absurd c_ (by decide))
        refine lv_aload_n hx hb dX2_buy_29 rfl (lv_at hl 0 rfl) ?_
        refine r_get (C := RX2) (T := TX2) (N := 10) hx hb hts in_X2 hown hK hR.obj rfl 9 (by decide) (hts _ q156) (fun _ h => h) (v := .ref (ad 5)) rfl dX2_buy_30 ?_
        refine lv_iload_n hx hb dX2_buy_33 rfl (lv_at hl 2 rfl) ?_
        refine va_csFq (g_runF (As := [.int (nI q0)]) (rest := []) ⟨hx, hb, hml, hown, hts⟩ (met_J2_get l D cA Z (fun _ => False) s.heap (mo := (mo 1)) (ed := (ad 6)) (n := p') (j := q0) (f := (alf p' (fun i => ad (20 + i)))) hR.pl.1 (hR.pl.arr (by omega)) (by first | assumption | omega | decide) (by first | assumption | omega | decide)) (va_cwF 1 hts (g_wsF q739 q742 q744 q65 q746) rfl rfl rfl (hE.2.2.2.1 "java/util/ArrayList" _ _ (by decide) q741 q740 q745 q743 q296) (by decide +kernel) ⟨Nat.le_of_ble_eq_true rfl, Nat.le_of_ble_eq_true rfl⟩) (cP_V hK hE (En.narrow hZn (fun _ h => h.elim)) (rcv hK hR.pl.1 rfl)) rfl rfl hl.1 rfl (lv_room (Nat.le_of_ble_eq_true rfl)) dX2_buy_34 ⟨Nat.le_of_ble_eq_true rfl, Nat.le_of_ble_eq_true rfl⟩) (fun r_4 hr_4 => ?_)
        subst hr_4
        rw [show va_rf ((alf p' (fun i => ad (20 + i))) q0) = .ref (ad (20 + q0)) from by rw [alf_lt (by assumption)]; rfl]
        refine va_castS hx hb hown (hts _ q438) (hK.1 5 _ rfl).2 (rcv hK (hR.pri q0 (by omega)) rfl) dX2_buy_39 ?_
        refine lv_astore (lv' := [(4, .ref (ad (20 + q0))), (0, .ref (ad 0)), (1, .int (nI j0)), (2, .int (nI q0)), (3, .int k0)]) hx hb dX2_buy_42 hl (by decide) rfl (fun ls hl => ?_)
        refine lv_aload_n hx hb dX2_buy_44 rfl (lv_at hl 1 rfl) ?_
        refine r_get (C := RX2) (T := TX2) (N := 10) hx hb hts in_X2 hown hK hR.obj rfl 8 (by decide) (hts _ q154) (fun _ h => h) (v := .ref (ad 3)) rfl dX2_buy_45 ?_
        refine lv_iload_n hx hb dX2_buy_48 rfl (lv_at hl 2 rfl) ?_
        refine va_csFq (g_runF (As := [.int (nI j0)]) (rest := []) ⟨hx, hb, hml, hown, hts⟩ (met_J2_get l D cA Z (fun _ => False) s.heap (mo := (mo 0)) (ed := (ad 4)) (n := n) (j := j0) (f := (alf n (fun i => ad (10 + i)))) hR.cl.1 (hR.cl.arr (by omega)) (by first | assumption | omega | decide) (by first | assumption | omega | decide)) (va_cwF 1 hts (g_wsF q739 q742 q744 q65 q746) rfl rfl rfl (hE.2.2.2.1 "java/util/ArrayList" _ _ (by decide) q741 q740 q745 q743 q296) (by decide +kernel) ⟨Nat.le_of_ble_eq_true rfl, Nat.le_of_ble_eq_true rfl⟩) (cP_V hK hE (En.narrow hZn (fun _ h => h.elim)) (rcv hK hR.cl.1 rfl)) rfl rfl hl.1 rfl (lv_room (Nat.le_of_ble_eq_true rfl)) dX2_buy_49 ⟨Nat.le_of_ble_eq_true rfl, Nat.le_of_ble_eq_true rfl⟩) (fun r_5 hr_5 => ?_)
        subst hr_5
        rw [show va_rf ((alf n (fun i => ad (10 + i))) j0) = .ref (ad (10 + j0)) from by rw [alf_lt (by assumption)]; rfl]
        refine va_castS hx hb hown (hts _ q344) (hK.1 4 _ rfl).2 (rcv hK (hR.cus j0 (by omega)) rfl) dX2_buy_54 ?_
        refine r_getN (C := RX4) (T := TX4) (N := 2) hx hb hts in_X4 hown hK (hR.cus j0 (by omega)) rfl 0 (by decide) (hE.1 _ _ _ _ _ _ q356) (fun _ h => h) (v := .int (f (16 + 6 * j0))) rfl dX2_buy_57 ?_
        refine lv_iload_n hx hb dX2_buy_60 rfl (lv_at hl 4 rfl) ?_
        refine lv_aload hx hb dX2_buy_61 (lv_at hl 0 rfl) ?_
        refine r_getN (C := RX5) (T := TX5) (N := 7) hx hb hts in_X5 hown hK (hR.pri q0 (by omega)) rfl 0 (by decide) (hE.1 _ _ _ _ _ _ q450) (fun _ h => h) (v := .int (f (52 + 7 * q0))) rfl dX2_buy_63 ?_
        refine lv_imul hx hb dX2_buy_66 ?_
        refine lv_icmp_ge (tgt := 73) hx hb dX2_buy_67 (by decide) (fun c67_b_6 => ?_) (fun c67_b_6 => ?_)
        · skip
          have c67_b_6 := Int32.not_lt.mpr c67_b_6
          refine lv_aload hx hb dX2_buy_73 (lv_at hl 0 rfl) ?_
          refine r_getN (C := RX5) (T := TX5) (N := 7) hx hb hts in_X5 hown hK (hR.pri q0 (by omega)) rfl 2 (by decide) (hE.1 _ _ _ _ _ _ q455) (fun _ h => h) (v := .int (f (52 + 7 * q0 + 2))) rfl dX2_buy_75 ?_
          refine lv_iload_n hx hb dX2_buy_78 rfl (lv_at hl 4 rfl) ?_
          refine lv_icmp_ge (tgt := 85) hx hb dX2_buy_79 (by decide) (fun c79_b_7 => ?_) (fun c79_b_7 => ?_)
          · skip
            have c79_b_7 := Int32.not_lt.mpr c79_b_7
            refine lv_aload_n hx hb dX2_buy_85 rfl (lv_at hl 1 rfl) ?_
            refine r_get (C := RX2) (T := TX2) (N := 10) hx hb hts in_X2 hown hK hR.obj rfl 8 (by decide) (hts _ q154) (fun _ h => h) (v := .ref (ad 3)) rfl dX2_buy_86 ?_
            refine lv_iload_n hx hb dX2_buy_89 rfl (lv_at hl 2 rfl) ?_
            refine va_csFq (g_runF (As := [.int (nI j0)]) (rest := []) ⟨hx, hb, hml, hown, hts⟩ (met_J2_get l D cA Z (fun _ => False) s.heap (mo := (mo 0)) (ed := (ad 4)) (n := n) (j := j0) (f := (alf n (fun i => ad (10 + i)))) hR.cl.1 (hR.cl.arr (by omega)) (by first | assumption | omega | decide) (by first | assumption | omega | decide)) (va_cwF 1 hts (g_wsF q739 q742 q744 q65 q746) rfl rfl rfl (hE.2.2.2.1 "java/util/ArrayList" _ _ (by decide) q741 q740 q745 q743 q296) (by decide +kernel) ⟨Nat.le_of_ble_eq_true rfl, Nat.le_of_ble_eq_true rfl⟩) (cP_V hK hE (En.narrow hZn (fun _ h => h.elim)) (rcv hK hR.cl.1 rfl)) rfl rfl hl.1 rfl (lv_room (Nat.le_of_ble_eq_true rfl)) dX2_buy_90 ⟨Nat.le_of_ble_eq_true rfl, Nat.le_of_ble_eq_true rfl⟩) (fun r_8 hr_8 => ?_)
            subst hr_8
            rw [show va_rf ((alf n (fun i => ad (10 + i))) j0) = .ref (ad (10 + j0)) from by rw [alf_lt (by assumption)]; rfl]
            refine va_castS hx hb hown (hts _ q344) (hK.1 4 _ rfl).2 (rcv hK (hR.cus j0 (by omega)) rfl) dX2_buy_95 ?_
            refine lv_dup hx hb dX2_buy_98 rfl ?_
            refine r_getN (C := RX4) (T := TX4) (N := 2) hx hb hts in_X4 hown hK (hR.cus j0 (by omega)) rfl 0 (by decide) (hE.1 _ _ _ _ _ _ q356) (fun _ h => h) (v := .int (f (16 + 6 * j0))) rfl dX2_buy_99 ?_
            refine lv_iload_n hx hb dX2_buy_102 rfl (lv_at hl 4 rfl) ?_
            refine lv_aload hx hb dX2_buy_103 (lv_at hl 0 rfl) ?_
            refine r_getN (C := RX5) (T := TX5) (N := 7) hx hb hts in_X5 hown hK (hR.pri q0 (by omega)) rfl 0 (by decide) (hE.1 _ _ _ _ _ _ q450) (fun _ h => h) (v := .int (f (52 + 7 * q0))) rfl dX2_buy_105 ?_
            refine lv_imul hx hb dX2_buy_108 ?_
            refine lv_isub hx hb dX2_buy_109 ?_
            refine r_putN (C := RX4) (T := TX4) (N := 2) hx hb hts in_X4 tyX4 tyX4_ok nmX4 hown hK hS (hR.cus j0 (by omega)) (Eq.mpr (congrFun hFe _) (Or.inl ⟨hj0, rfl⟩)) rfl 0 (by decide) (hE.1 _ _ _ _ _ _ q356) (fun _ h => h) rfl rfl rfl (Nat.le_of_ble_eq_true rfl) dX2_buy_110 (fun H_10 locs hs_9 hS => ?_)
            have h_11 := atK hR.obj hs_9 (at_ne hR.obj (hR.cus j0 (by omega)) (K_cc hK (i := 2) (j := 4) rfl rfl (by decide)))
            have h_12 := atK hR.cl.1 hs_9 (at_ne hR.cl.1 (hR.cus j0 (by omega)) (K_cc hK (i := 10) (j := 4) rfl rfl (by decide)))
            have h_13 := atK (hR.cl.arr (by omega)) hs_9 (at_ne (hR.cl.arr (by omega)) (hR.cus j0 (by omega)) (Ne.symm (K_ca hK (i := 4) 3 rfl rfl (by decide))))
            have h_14 := atK (hR.pri q0 (by omega)) hs_9 (at_ne (hR.pri q0 (by omega)) (hR.cus j0 (by omega)) (K_cc hK (i := 5) (j := 4) rfl rfl (by decide)))
            have h_15 := atK hR.pl.1 hs_9 (at_ne hR.pl.1 (hR.cus j0 (by omega)) (K_cc hK (i := 10) (j := 4) rfl rfl (by decide)))
            have h_16 := atK (hR.pl.arr (by omega)) hs_9 (at_ne (hR.pl.arr (by omega)) (hR.cus j0 (by omega)) (Ne.symm (K_ca hK (i := 4) 3 rfl rfl (by decide))))
            have h_17 : va_at D vwCl ((ad (10 + j0)), .inr (4, [.int ((f (16 + 6 * j0)) - (k0 * (f (52 + 7 * q0)))), va_rf (kq ad f j0)])) H_10 := hs_9.1
            refine lv_aload hx hb dX2_buy_113 (lv_at hl 0 rfl) ?_
            refine lv_iload_n hx hb dX2_buy_115 rfl (lv_at hl 4 rfl) ?_
            have hSo := hS
            refine va_callv (va_runV (As := [.int k0]) (rest := []) ⟨hx, hb, hml, hown, hts⟩ (met_X5_sell l D cA Z (fun q => q = (ad (20 + q0))) H_10 (pr := (f (52 + 7 * q0))) (we := (f (52 + 7 * q0 + 1))) (stk := (f (52 + 7 * q0 + 2))) (mk := (f (52 + 7 * q0 + 3))) (bx := (f (52 + 7 * q0 + 4))) (so := (f (52 + 7 * q0 + 5))) (bo := (f (52 + 7 * q0 + 6))) (n := k0) h_14 rfl (ne0 hpc.2.2.2.1.1) (ne0 hpc.2.1.1)) (cwV 1 hts (lw_V q844 q845 q846 q78 q847) rfl rfl rfl (by decide +kernel) ⟨Nat.le_of_ble_eq_true rfl, Nat.le_of_ble_eq_true rfl⟩) (cP_V hK hE (En.narrow (hZn.kept hS.c) (fun q h => by subst h; exact (Eq.mpr (congrFun hFe _) (Or.inr ⟨hq0, rfl⟩)))) (rcv hK h_14 rfl)) rfl rfl hl.1 rfl (lv_room (Nat.le_of_ble_eq_true rfl)) dX2_buy_116 ⟨Nat.le_of_ble_eq_true rfl, Nat.le_of_ble_eq_true rfl⟩) hS (fun q _ h => (fun q h => by subst h; exact (Eq.mpr (congrFun hFe _) (Or.inr ⟨hq0, rfl⟩))) q h) (fun q h => by subst h; exact (Eq.mpr (congrFun hFe _) (Or.inr ⟨hq0, rfl⟩))) (fun H_19 t H_19x locs ht _ hr_18 hB hz hk hS => ?_)
            obtain rfl : H_19x = H_19 := ht.symm.trans hB
            have hz_20 : hC (fun q => q = (ad (20 + q0))) H_10 H_19x := ⟨hz, hk⟩
            clear hz hk hB ht
            have h_21 := atC h_11 hz_20 (fun h => absurd h (at_ne h_11 h_14 (K_cc hK (i := 2) (j := 5) rfl rfl (by decide))))
            have h_22 := atC h_12 hz_20 (fun h => absurd h (at_ne h_12 h_14 (K_cc hK (i := 10) (j := 5) rfl rfl (by decide))))
            have h_23 := atC h_13 hz_20 (fun h => absurd h (at_ne h_13 h_14 (Ne.symm (K_ca hK (i := 5) 3 rfl rfl (by decide)))))
            have h_24 := atC h_15 hz_20 (fun h => absurd h (at_ne h_15 h_14 (K_cc hK (i := 10) (j := 5) rfl rfl (by decide))))
            have h_25 := atC h_16 hz_20 (fun h => absurd h (at_ne h_16 h_14 (Ne.symm (K_ca hK (i := 5) 3 rfl rfl (by decide)))))
            have h_26 := atC h_17 hz_20 (fun h => absurd h (at_ne h_17 h_14 (K_cc hK (i := 4) (j := 5) rfl rfl (by decide))))
            have h_27 := hr_18
            refine lv_aload_n hx hb dX2_buy_119 rfl (lv_at hl 1 rfl) ?_
            refine r_get (C := RX2) (T := TX2) (N := 10) hx hb hts in_X2 hown hK h_21 rfl 8 (by decide) (hts _ q154) (fun _ h => h) (v := .ref (ad 3)) rfl dX2_buy_120 ?_
            refine lv_iload_n hx hb dX2_buy_123 rfl (lv_at hl 2 rfl) ?_
            refine va_csFq (g_runF (As := [.int (nI j0)]) (rest := []) ⟨hx, hb, hml, hown, hts⟩ (met_J2_get l D cA Z (fun _ => False) H_19x (mo := (mo 0)) (ed := (ad 4)) (n := n) (j := j0) (f := (alf n (fun i => ad (10 + i)))) h_22 h_23 (by first | assumption | omega | decide) (by first | assumption | omega | decide)) (va_cwF 1 hts (g_wsF q739 q742 q744 q65 q746) rfl rfl rfl (hE.2.2.2.1 "java/util/ArrayList" _ _ (by decide) q741 q740 q745 q743 q296) (by decide +kernel) ⟨Nat.le_of_ble_eq_true rfl, Nat.le_of_ble_eq_true rfl⟩) (cP_V hK hE (En.narrow (hZn.kept hS.c) (fun _ h => h.elim)) (rcv hK h_22 rfl)) rfl rfl hl.1 rfl (lv_room (Nat.le_of_ble_eq_true rfl)) dX2_buy_124 ⟨Nat.le_of_ble_eq_true rfl, Nat.le_of_ble_eq_true rfl⟩) (fun r_28 hr_28 => ?_)
            subst hr_28
            rw [show va_rf ((alf n (fun i => ad (10 + i))) j0) = .ref (ad (10 + j0)) from by rw [alf_lt (by assumption)]; rfl]
            refine va_castS hx hb hown (hts _ q344) (hK.1 4 _ rfl).2 (rcv hK h_26 rfl) dX2_buy_129 ?_
            refine r_getN (C := RX4) (T := TX4) (N := 2) hx hb hts in_X4 hown hK h_26 rfl 0 (by decide) (hE.1 _ _ _ _ _ _ q356) (fun _ h => h) (v := .int ((f (16 + 6 * j0)) - (k0 * (f (52 + 7 * q0))))) rfl dX2_buy_132 ?_
            subst hQe
            refine W.widen (k := 0) (n := 0) (by first | decide | omega) (by first | decide | omega) ?_
            subst hFe
            exact W.iret hx hb hr (fun t ht hW => ⟨⟨_, H_19x, rfl, (by rw [tk_buys, if_neg (by simp [hr_1, hr_2, hr_3, c67_b_6, c79_b_7]), nI_clamp (show j0 < 2 ^ 31 by omega), nI_clamp (show q0 < 2 ^ 31 by omega), if_neg c67_b_6, if_neg c79_b_7]; exact ⟨rfl, buyC hK hR hj0 hq0 hS.c h_26 h_27⟩), ht⟩, hS.F ht⟩) hS.2.2 dX2_buy_135
          · skip
            have c79_b_7 := Int32.not_le.mp c79_b_7
            refine lv_ldc (v := -100003) hx hb hown (hts _ q590) dX2_buy_82 ?_
            subst hQe
            refine W.widen (k := 0) (n := 0) (by first | decide | omega) (by first | decide | omega) ?_
            subst hFe
            exact W.iret hx hb hr (fun t ht hW => ⟨⟨_, s.heap, rfl, (by rw [tk_buys, if_neg (by simp [hr_1, hr_2, hr_3, c67_b_6, c79_b_7]), nI_clamp (show j0 < 2 ^ 31 by omega), nI_clamp (show q0 < 2 ^ 31 by omega), if_neg c67_b_6, if_pos c79_b_7]; exact ⟨rfl, hR⟩), ht⟩, hS.F ht⟩) hS.2.2 dX2_buy_84
        · skip
          have c67_b_6 := Int32.not_le.mp c67_b_6
          refine lv_ldc (v := -100002) hx hb hown (hts _ q789) dX2_buy_70 ?_
          subst hQe
          refine W.widen (k := 0) (n := 0) (by first | decide | omega) (by first | decide | omega) ?_
          subst hFe
          exact W.iret hx hb hr (fun t ht hW => ⟨⟨_, s.heap, rfl, (by rw [tk_buys, if_neg (by simp [hr_1, hr_2, hr_3, c67_b_6]), nI_clamp (show j0 < 2 ^ 31 by omega), nI_clamp (show q0 < 2 ^ 31 by omega), if_pos c67_b_6]; exact ⟨rfl, hR⟩), ht⟩, hS.F ht⟩) hS.2.2 dX2_buy_72
      · subst er_hr_3
        refine lv_if_ne (tgt := 29) hx hb dX2_buy_23 (by decide) (fun c_ => absurd (by decide) c_) (fun _ => ?_)
        refine lv_ldc (v := -100001) hx hb hown (hts _ q273) dX2_buy_26 ?_
        subst hQe
        refine W.widen (k := 0) (n := 0) (by first | decide | omega) (by first | decide | omega) ?_
        subst hFe
        exact W.iret hx hb hr (fun t ht hW => ⟨⟨_, s.heap, rfl, (by rw [tk_buys, if_pos (by simp [hr_1, hr_2, hr_3])]; exact ⟨rfl, hR⟩), ht⟩, hS.F ht⟩) hS.2.2 dX2_buy_28
    · subst er_hr_2
      refine lv_if_eq (tgt := 26) hx hb dX2_buy_13 (by decide) (fun _ => ?_) (fun c_ => absurd (by decide) c_)
      refine lv_ldc (v := -100001) hx hb hown (hts _ q273) dX2_buy_26 ?_
      subst hQe
      refine W.widen (k := 0) (n := 0) (by first | decide | omega) (by first | decide | omega) ?_
      subst hFe
      exact W.iret hx hb hr (fun t ht hW => ⟨⟨_, s.heap, rfl, (by rw [tk_buys, if_pos (by simp [hr_1, hr_2])]; exact ⟨rfl, hR⟩), ht⟩, hS.F ht⟩) hS.2.2 dX2_buy_28
  · subst er_hr_1
    refine lv_if_eq (tgt := 26) hx hb dX2_buy_5 (by decide) (fun _ => ?_) (fun c_ => absurd (by decide) c_)
    refine lv_ldc (v := -100001) hx hb hown (hts _ q273) dX2_buy_26 ?_
    subst hQe
    refine W.widen (k := 0) (n := 0) (by first | decide | omega) (by first | decide | omega) ?_
    subst hFe
    exact W.iret hx hb hr (fun t ht hW => ⟨⟨_, s.heap, rfl, (by rw [tk_buys, if_pos (by simp [hr_1])]; exact ⟨rfl, hR⟩), ht⟩, hS.F ht⟩) hS.2.2 dX2_buy_28
