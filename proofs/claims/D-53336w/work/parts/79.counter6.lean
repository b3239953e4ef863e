set_option maxHeartbeats 4000000 in
set_option maxRecDepth 100000 in
theorem met_X2_weigh (l : Launch) (D : va_G) (cA : Nat → ClassId) (Z : Nat → Nat) (H : Heap) {ad : Nat → Nat} {f : Nat → Int32} {n p' : Nat} {mo : Nat → Int32} {B : Nat} {c0 : Int32} {k0 : Int32} {x0 : Int32} {dv : Int32} (hR : CR D cA Z H ad f n p' mo) (hI : tk_ok B f) (hB : B ≤ 1000000000) : Met l yX2_weigh (ws_ yX2_weigh cX2_weigh 8 (some .int)) (rmL 6 2 6) (cP D cA Z (fun q => q = ad 0 ∨ c0.toNatClampNeg < n ∧ q = ad (10 + c0.toNatClampNeg) ∨ H.size ≤ q) H [.ref (ad 0), .int c0, .int k0, .int x0, .int dv]) (va_Qi (fun (r : Int32) (H1 : Heap) => r = (tk_weighs f c0 k0 x0 dv).1 ∧ ∃ ad1 : Nat → Nat, ad1 0 = ad 0 ∧ (∀ i, i < 30 → ad1 i = ad i) ∧ CR D cA Z H1 ad1 (tk_weighs f c0 k0 x0 dv).2 n p' mo) (fun (H1 : Heap) (t : State) => t.heap = H1) (fun q => q = ad 0 ∨ c0.toNatClampNeg < n ∧ q = ad (10 + c0.toNatClampNeg) ∨ H.size ≤ q)) 2 6 (fun q => q = ad 0 ∨ c0.toNatClampNeg < n ∧ q = ad (10 + c0.toNatClampNeg) ∨ H.size ≤ q) := by
  refine Met.ofW (cc := cX2_weigh) (maxL := 8) (ret := (some .int)) (by decide) rfl ?_
  intro p e s m args below meth c s₁ Bd hml hv
  obtain ⟨rfl, hh, hK, hE, hZn⟩ := hv
  subst hh
  have hx := Bd.exec
  have hb := Bd.bytes
  have hr := Bd.returns
  have hts := atoms_spec (ws := (ws_ yX2_weigh cX2_weigh 8 (some .int))) Bd.pre
  have hts : ∀ w ∈ lw_all, w.before _ s = true := fun w h => hts w (List.mem_cons_of_mem _ h)
  have hown : s.vm.findClass RX2 = some m.cls := findClass_of_methodNamed Bd.named
  have hlocks := Bd.notSynchronized
  obtain ⟨F, hFe⟩ : ∃ z : Nat → Prop, z = (fun q => q = ad 0 ∨ c0.toNatClampNeg < n ∧ q = ad (10 + c0.toNatClampNeg) ∨ s.heap.size ≤ q) := ⟨_, rfl⟩
  rw [← hFe] at hZn
  have hS : va_S F s.heap s.heap [] := va_S.rf
  have hF : ∀ q, s.heap.size ≤ q → F q := fun q h => by rw [hFe]; exact Or.inr (Or.inr h)
  have hl := lv_entry ([.ref (ad 0), .int c0, .int k0, .int x0, .int dv]) (n := 8) (Nat.le_of_ble_eq_true rfl)
  rw [lg_entry_eq]
  generalize (lg_sl ([.ref (ad 0), .int c0, .int k0, .int x0, .int dv]) ++ List.replicate (8 - (lg_sl ([.ref (ad 0), .int c0, .int k0, .int x0, .int dv])).length) Slot.unset).toArray = ls at hl ⊢
  have hl : lv_has ls 8 [(0, .ref (ad 0)), (1, .int c0), (2, .int k0), (3, .int x0), (4, .int dv)] := hl
  refine W.gq fun Q0 hQe => ?_
  refine lv_aload_n hx hb dX2_weigh_0 rfl (lv_at hl 0 rfl) ?_
  refine lv_iload_n hx hb dX2_weigh_1 rfl (lv_at hl 1 rfl) ?_
  refine vp_callSi (W.runV (As := [.int c0]) (rest := []) ⟨hx, hb, hml, hown, hts⟩ (met_X2_isCustomer l D cA Z (fun _ => False) s.heap (c0 := c0) hR (by first | assumption | omega | decide)) (cwV 1 hts (lw_V q602 q603 q604 q62 q605) rfl rfl rfl (by decide +kernel) ⟨Nat.le_of_ble_eq_true rfl, Nat.le_of_ble_eq_true rfl⟩) (cP_V hK hE (En.narrow hZn (fun _ h => h.elim)) (rcv hK hR.obj rfl)) rfl rfl hl.1 rfl (lv_room (Nat.le_of_ble_eq_true rfl)) dX2_weigh_2 ⟨Nat.le_of_ble_eq_true rfl, Nat.le_of_ble_eq_true rfl⟩) (fun r_1 hr_1 => ?_)
  rcases hr_1 with ⟨er_hr_1, hr_1⟩ | ⟨er_hr_1, hr_1⟩
  · subst er_hr_1
    have hqj0 := hr_1
    obtain ⟨j0, hj0, ej0⟩ := hR.cu_ix hI hqj0
    subst ej0
    have n6 := hR.n6
    have p6 := hR.p6
    rw [nI_clamp (show j0 < 2 ^ 31 by omega)] at hFe hQe
    refine lv_if_eq (tgt := 53) hx hb dX2_weigh_5 (by decide) (fun c_ => absurd c_ (by decide)) (fun _ => ?_)
    refine lv_iload_n hx hb dX2_weigh_8 rfl (lv_at hl 2 rfl) ?_
    refine lv_iconst (v := 0) hx hb dX2_weigh_9 (by decide) ?_
    refine lv_iconst (v := 3) hx hb dX2_weigh_10 (by decide) ?_
    refine vp_callSi (toCR (va_runSN (As := [.int k0, .int (0 : Int32), .int (3 : Int32)]) (rest := []) ⟨hx, hb, hml, hown, hts⟩ (met_X0_isBetween l k0 (0 : Int32) (3 : Int32)) ⟨va_cnB 3 hts (lw_meth q272) rfl rfl rfl (hE.2.1 _ _ _ _ q270) (hts _ q60) (by decide +kernel) ⟨Nat.le_of_ble_eq_true rfl, Nat.le_of_ble_eq_true rfl⟩, hts _ q271, trivial⟩ ⟨fun a U g mk q => q, fun U hU hW => ⟨rfl, trivial⟩⟩ rfl rfl hl.1 rfl (lv_room (Nat.le_of_ble_eq_true rfl)) dX2_weigh_11 ⟨Nat.le_of_ble_eq_true rfl, Nat.le_of_ble_eq_true rfl⟩)) (fun r_2 hr_2 => ?_)
    rcases hr_2 with ⟨er_hr_2, hr_2⟩ | ⟨er_hr_2, hr_2⟩
    · subst er_hr_2
      have hq0 := hr_2
      obtain ⟨k1, hk1, e0⟩ := tk_k4 hq0
      subst e0
      refine lv_if_eq (tgt := 53) hx hb dX2_weigh_14 (by decide) (fun c_ => absurd c_ (by decide)) (fun _ => ?_)
      refine lv_iload_n hx hb dX2_weigh_17 rfl (lv_at hl 3 rfl) ?_
      refine lv_iconst (v := 1) hx hb dX2_weigh_18 (by decide) ?_
      refine lv_sipush (v := 500) hx hb dX2_weigh_19 (by decide) ?_
      refine vp_callSi (toCR (va_runSN (As := [.int x0, .int (1 : Int32), .int (500 : Int32)]) (rest := []) ⟨hx, hb, hml, hown, hts⟩ (met_X0_isBetween l x0 (1 : Int32) (500 : Int32)) ⟨va_cnB 3 hts (lw_meth q272) rfl rfl rfl (hE.2.1 _ _ _ _ q270) (hts _ q60) (by decide +kernel) ⟨Nat.le_of_ble_eq_true rfl, Nat.le_of_ble_eq_true rfl⟩, hts _ q271, trivial⟩ ⟨fun a U g mk q => q, fun U hU hW => ⟨rfl, trivial⟩⟩ rfl rfl hl.1 rfl (lv_room (Nat.le_of_ble_eq_true rfl)) dX2_weigh_22 ⟨Nat.le_of_ble_eq_true rfl, Nat.le_of_ble_eq_true rfl⟩)) (fun r_3 hr_3 => ?_)
      rcases hr_3 with ⟨er_hr_3, hr_3⟩ | ⟨er_hr_3, hr_3⟩
      · subst er_hr_3
        refine lv_if_eq (tgt := 53) hx hb dX2_weigh_25 (by decide) (fun c_ => absurd c_ (by decide)) (fun _ => ?_)
        refine lv_iload hx hb dX2_weigh_28 (lv_at hl 4 rfl) ?_
        refine lv_iload_n hx hb dX2_weigh_30 rfl (lv_at hl 3 rfl) ?_
        refine lv_ineg hx hb dX2_weigh_31 ?_
        refine lv_aload_n hx hb dX2_weigh_32 rfl (lv_at hl 0 rfl) ?_
        refine r_get (C := RX2) (T := TX2) (N := 10) hx hb hts in_X2 hown hK hR.obj rfl 1 (by decide) (hts _ q140) (fun _ h => h) (v := .ref (ad 2)) rfl dX2_weigh_33 ?_
        refine lv_iload_n hx hb dX2_weigh_36 rfl (lv_at hl 2 rfl) ?_
        refine r_iald hx hb hK hR.spr 0 rfl k1 rfl (by omega) (by decide) dX2_weigh_37 ?_
        refine lv_imul hx hb dX2_weigh_38 ?_
        refine lv_iload_n hx hb dX2_weigh_39 rfl (lv_at hl 3 rfl) ?_
        refine lv_aload_n hx hb dX2_weigh_40 rfl (lv_at hl 0 rfl) ?_
        refine r_get (C := RX2) (T := TX2) (N := 10) hx hb hts in_X2 hown hK hR.obj rfl 1 (by decide) (hts _ q140) (fun _ h => h) (v := .ref (ad 2)) rfl dX2_weigh_41 ?_
        refine lv_iload_n hx hb dX2_weigh_44 rfl (lv_at hl 2 rfl) ?_
        refine r_iald hx hb hK hR.spr 0 rfl k1 rfl (by omega) (by decide) dX2_weigh_45 ?_
        refine lv_imul hx hb dX2_weigh_46 ?_
        refine vp_callSi (toCR (va_runSN (As := [.int dv, .int ((-x0) * ((fun j => f (4 + j)) k1)), .int (x0 * ((fun j => f (4 + j)) k1))]) (rest := []) ⟨hx, hb, hml, hown, hts⟩ (met_X0_isBetween l dv ((-x0) * ((fun j => f (4 + j)) k1)) (x0 * ((fun j => f (4 + j)) k1))) ⟨va_cnB 3 hts (lw_meth q272) rfl rfl rfl (hE.2.1 _ _ _ _ q270) (hts _ q60) (by decide +kernel) ⟨Nat.le_of_ble_eq_true rfl, Nat.le_of_ble_eq_true rfl⟩, hts _ q271, trivial⟩ ⟨fun a U g mk q => q, fun U hU hW => ⟨rfl, trivial⟩⟩ rfl rfl hl.1 rfl (lv_room (Nat.le_of_ble_eq_true rfl)) dX2_weigh_47 ⟨Nat.le_of_ble_eq_true rfl, Nat.le_of_ble_eq_true rfl⟩)) (fun r_4 hr_4 => ?_)
        rcases hr_4 with ⟨er_hr_4, hr_4⟩ | ⟨er_hr_4, hr_4⟩
        · subst er_hr_4
          refine lv_if_ne (tgt := 56) hx hb dX2_weigh_50 (by decide) (fun _ => ?_) (fun c_ => absurd c_ (by decide))
          have hwb := weigh_b hI hk1 hr_3 hr_4 (f 11)
          have hwl := weigh_l hI hk1 hr_3 hr_4
          have hru := ok_rul hI
          have hpt := ok_pts hI hR.hn n6 hj0
          refine lv_aload_n hx hb dX2_weigh_56 rfl (lv_at hl 0 rfl) ?_
          refine lv_iload_n hx hb dX2_weigh_57 rfl (lv_at hl 3 rfl) ?_
          refine lv_aload_n hx hb dX2_weigh_58 rfl (lv_at hl 0 rfl) ?_
          refine r_get (C := RX2) (T := TX2) (N := 10) hx hb hts in_X2 hown hK hR.obj rfl 0 (by decide) (hts _ q138) (fun _ h => h) (v := .ref (ad 1)) rfl dX2_weigh_59 ?_
          refine lv_iload_n hx hb dX2_weigh_62 rfl (lv_at hl 2 rfl) ?_
          refine r_iald hx hb hK hR.wei 0 rfl k1 rfl (by omega) (by decide) dX2_weigh_63 ?_
          refine lv_imul hx hb dX2_weigh_64 ?_
          refine lv_iload hx hb dX2_weigh_65 (lv_at hl 4 rfl) ?_
          refine lv_iadd hx hb dX2_weigh_67 ?_
          refine lv_aload_n hx hb dX2_weigh_68 rfl (lv_at hl 0 rfl) ?_
          refine r_get (C := RX2) (T := TX2) (N := 10) hx hb hts in_X2 hown hK hR.obj rfl 4 (by decide) (hts _ q146) (fun _ h => h) (v := .int (f 10)) rfl dX2_weigh_69 ?_
          refine lv_iadd hx hb dX2_weigh_72 ?_
          refine vp_callSi (W.runV (As := [.int (((x0 * (f k1)) + dv) + (f 10))]) (rest := []) ⟨hx, hb, hml, hown, hts⟩ (met_X2_read l D cA Z (fun _ => False) s.heap (ld := (((x0 * (f k1)) + dv) + (f 10))) hR (by first | assumption | omega | decide) hwl.1 hwl.2) (cwV 1 hts (lw_V q636 q637 q638 q62 q639) rfl rfl rfl (by decide +kernel) ⟨Nat.le_of_ble_eq_true rfl, Nat.le_of_ble_eq_true rfl⟩) (cP_V hK hE (En.narrow hZn (fun _ h => h.elim)) (rcv hK hR.obj rfl)) rfl rfl hl.1 rfl (lv_room (Nat.le_of_ble_eq_true rfl)) dX2_weigh_73 ⟨Nat.le_of_ble_eq_true rfl, Nat.le_of_ble_eq_true rfl⟩) (fun r_5 hr_5 => ?_)
          subst hr_5
          refine lv_istore (lv' := [(5, .int (tk_rd (((x0 * (f k1)) + dv) + (f 10)) (f 8))), (0, .ref (ad 0)), (1, .int (nI j0)), (2, .int (nI k1)), (3, .int x0), (4, .int dv)]) hx hb dX2_weigh_76 hl (by decide) rfl (fun ls hl => ?_)
          refine lv_aload_n hx hb dX2_weigh_78 rfl (lv_at hl 1 rfl) ?_
          refine lv_iload hx hb dX2_weigh_79 (lv_at hl 0 rfl) ?_
          refine lv_iload_n hx hb dX2_weigh_81 rfl (lv_at hl 3 rfl) ?_
          refine lv_aload_n hx hb dX2_weigh_82 rfl (lv_at hl 1 rfl) ?_
          refine r_get (C := RX2) (T := TX2) (N := 10) hx hb hts in_X2 hown hK hR.obj rfl 5 (by decide) (hts _ q148) (fun _ h => h) (v := .int (f 11)) rfl dX2_weigh_83 ?_
          rw [show (f 11) = nI ((f 11).toNatClampNeg) from hru.1]
          have hSo := hS
          refine va_calli (va_runV (As := [.int (tk_rd (((x0 * (f k1)) + dv) + (f 10)) (f 8)), .int (nI k1), .int (nI ((f 11).toNatClampNeg))]) (rest := []) ⟨hx, hb, hml, hown, hts⟩ (met_X2_guess l D cA Z s.heap (rd := (tk_rd (((x0 * (f k1)) + dv) + (f 10)) (f 8))) (j := k1) (u := ((f 11).toNatClampNeg)) hR (by first | assumption | omega | decide) (by first | assumption | omega | decide) hru.2 hwb.1.1 hwb.2.1) (cwV 3 hts (lw_V q647 q648 q649 q62 q650) rfl rfl rfl (by decide +kernel) ⟨Nat.le_of_ble_eq_true rfl, Nat.le_of_ble_eq_true rfl⟩) (cP_V hK hE (En.narrow hZn (fun q h => hF q (Nat.le_trans hS.1 h))) (rcv hK hR.obj rfl)) rfl rfl hl.1 rfl (lv_room (Nat.le_of_ble_eq_true rfl)) dX2_weigh_86 ⟨(by first | decide | omega), (by first | decide | omega)⟩) hS (fun q _ h => (fun q h => hF q (Nat.le_trans hS.1 h)) q h) (fun q h => hF q (Nat.le_trans hS.1 h)) (fun r_6 H_7 t H_7x locs ht _ hr_6 hB hz hk hS => ?_)
          obtain rfl : H_7x = H_7 := ht.symm.trans hB
          have hz_8 : hC (fun q => s.heap.size ≤ q) s.heap H_7x := ⟨hz, hk⟩
          clear hz hk hB ht
          have h_9 := atC hR.obj hz_8 (fun h => absurd (at_lt hR.obj) (Nat.not_lt.mpr h))
          have h_10 := atC hR.wei hz_8 (fun h => absurd (at_lt hR.wei) (Nat.not_lt.mpr h))
          have h_11 := atC hR.spr hz_8 (fun h => absurd (at_lt hR.spr) (Nat.not_lt.mpr h))
          have h_12 := atC (hR.cus j0 (by omega)) hz_8 (fun h => absurd (at_lt (hR.cus j0 (by omega))) (Nat.not_lt.mpr h))
          have h_13 := atC hR.cl.1 hz_8 (fun h => absurd (at_lt hR.cl.1) (Nat.not_lt.mpr h))
          have h_14 := atC (hR.cl.arr (by omega)) hz_8 (fun h => absurd (at_lt (hR.cl.arr (by omega))) (Nat.not_lt.mpr h))
          subst hr_6
          refine lv_istore (lv' := [(6, .int (tk_gu f (tk_rd (((x0 * (f k1)) + dv) + (f 10)) (f 8)) k1 (nI ((f 11).toNatClampNeg)))), (5, .int (tk_rd (((x0 * (f k1)) + dv) + (f 10)) (f 8))), (0, .ref (ad 0)), (1, .int (nI j0)), (2, .int (nI k1)), (3, .int x0), (4, .int dv)]) hx hb dX2_weigh_89 hl (by decide) rfl (fun ls hl => ?_)
          refine lv_aload_n hx hb dX2_weigh_91 rfl (lv_at hl 2 rfl) ?_
          refine r_get (C := RX2) (T := TX2) (N := 10) hx hb hts in_X2 hown hK h_9 rfl 8 (by decide) (hts _ q154) (fun _ h => h) (v := .ref (ad 3)) rfl dX2_weigh_92 ?_
          refine lv_iload_n hx hb dX2_weigh_95 rfl (lv_at hl 3 rfl) ?_
          refine va_csFq (g_runF (As := [.int (nI j0)]) (rest := []) ⟨hx, hb, hml, hown, hts⟩ (met_J2_get l D cA Z (fun _ => False) H_7x (mo := (mo 0)) (ed := (ad 4)) (n := n) (j := j0) (f := (alf n (fun i => ad (10 + i)))) h_13 h_14 (by first | assumption | omega | decide) (by first | assumption | omega | decide)) (va_cwF 1 hts (g_wsF q739 q742 q744 q65 q746) rfl rfl rfl (hE.2.2.2.1 "java/util/ArrayList" _ _ (by decide) q741 q740 q745 q743 q296) (by decide +kernel) ⟨Nat.le_of_ble_eq_true rfl, Nat.le_of_ble_eq_true rfl⟩) (cP_V hK hE (En.narrow (hZn.kept hS.c) (fun _ h => h.elim)) (rcv hK h_13 rfl)) rfl rfl hl.1 rfl (lv_room (Nat.le_of_ble_eq_true rfl)) dX2_weigh_96 ⟨Nat.le_of_ble_eq_true rfl, Nat.le_of_ble_eq_true rfl⟩) (fun r_15 hr_15 => ?_)
          subst hr_15
          rw [show va_rf ((alf n (fun i => ad (10 + i))) j0) = .ref (ad (10 + j0)) from by rw [alf_lt (by assumption)]; rfl]
          refine va_castS hx hb hown (hts _ q344) (hK.1 4 _ rfl).2 (rcv hK h_12 rfl) dX2_weigh_101 ?_
          refine lv_astore (lv' := [(7, .ref (ad (10 + j0))), (6, .int (tk_gu f (tk_rd (((x0 * (f k1)) + dv) + (f 10)) (f 8)) k1 (nI ((f 11).toNatClampNeg)))), (5, .int (tk_rd (((x0 * (f k1)) + dv) + (f 10)) (f 8))), (0, .ref (ad 0)), (1, .int (nI j0)), (2, .int (nI k1)), (3, .int x0), (4, .int dv)]) hx hb dX2_weigh_104 hl (by decide) rfl (fun ls hl => ?_)
          refine lv_aload hx hb dX2_weigh_106 (lv_at hl 0 rfl) ?_
          have h0q_18 := hS.1
          refine r_new (C := RX7) (T := TX7) (N := 4) (ci := 7) (fs := [.int (0 : Int32), .int (0 : Int32), .int (0 : Int32), .int (0 : Int32)]) hx hb hts in_X7 tyX7 tyX7_ok hown (hts _ q751) (hts _ q752) (hts _ q82) hK hS rfl (fun j hj => by match j, hj with | 0, _ => rfl | 1, _ => rfl | 2, _ => rfl | 3, _ => rfl) (by decide) (by decide) dX2_weigh_108 (fun H_17 hs_16 hS => ?_)
          have zq_18 := hF _ (h0q_18 : s.heap.size ≤ H_7x.size)
          have h_20 := atN h_9 hs_16
          have h_21 := atN h_10 hs_16
          have h_22 := atN h_11 hs_16
          have h_23 := atN h_12 hs_16
          have h_24 := atN h_13 hs_16
          have h_25 := atN h_14 hs_16
          have h_19 := hs_16.1
          have nq_18_x_26 := Nat.ne_of_lt (at_lt h_9)
          have nq_18_x_27 := Nat.ne_of_lt (at_lt h_10)
          have nq_18_x_28 := Nat.ne_of_lt (at_lt h_11)
          have nq_18_x_29 := Nat.ne_of_lt (at_lt h_12)
          have nq_18_x_30 := Nat.ne_of_lt (at_lt h_13)
          have nq_18_x_31 := Nat.ne_of_lt (at_lt h_14)
          have nq_18_x_32 := Nat.ne_of_lt (Nat.lt_of_lt_of_le (at_lt (hR.cus j0 (by omega))) h0q_18)
          have nq_18_x_33 := Nat.ne_of_lt (Nat.lt_of_lt_of_le (at_lt hR.cl.1) h0q_18)
          have nq_18_x_34 := Nat.ne_of_lt (Nat.lt_of_lt_of_le (at_lt (hR.cl.arr (by omega))) h0q_18)
          have lq_18 : H_7x.size < H_17.size := at_lt h_19
          generalize eq_18 : H_7x.size = q_18 at zq_18 h_19 h0q_18 lq_18 nq_18_x_26 nq_18_x_27 nq_18_x_28 nq_18_x_32 nq_18_x_33 nq_18_x_34 ⊢
          refine lv_dup hx hb dX2_weigh_111 rfl ?_
          refine lv_iload_n hx hb dX2_weigh_112 rfl (lv_at hl 5 rfl) ?_
          refine lv_iload_n hx hb dX2_weigh_113 rfl (lv_at hl 6 rfl) ?_
          refine lv_iload hx hb dX2_weigh_114 (lv_at hl 2 rfl) ?_
          refine lv_iload hx hb dX2_weigh_116 (lv_at hl 1 rfl) ?_
          have hSo := hS
          refine va_callv (va_runI (As := [.int (nI k1), .int x0, .int (tk_rd (((x0 * (f k1)) + dv) + (f 10)) (f 8)), .int (tk_gu f (tk_rd (((x0 * (f k1)) + dv) + (f 10)) (f 8)) k1 (nI ((f 11).toNatClampNeg)))]) (rest := [.ref q_18, .ref (ad (10 + j0))]) ⟨hx, hb, hml, hown, hts⟩ (met_X7_init l D cA Z (fun q => q = q_18) H_17 (x := (0 : Int32)) (y := (0 : Int32)) (z := (0 : Int32)) (u := (0 : Int32)) (k := (nI k1)) (n := x0) (rd := (tk_rd (((x0 * (f k1)) + dv) + (f 10)) (f 8))) (g := (tk_gu f (tk_rd (((x0 * (f k1)) + dv) + (f 10)) (f 8)) k1 (nI ((f 11).toNatClampNeg)))) h_19 rfl) (cwI 4 hts (lw_meth q755) rfl rfl rfl (hts _ q82) (hts _ q753) (hts _ q754) rfl (by decide +kernel) ⟨Nat.le_of_ble_eq_true rfl, Nat.le_of_ble_eq_true rfl⟩) (cP_S hK hE (En.narrow (hZn.kept hS.c) (fun q h => by subst h; exact zq_18))) rfl rfl hl.1 rfl (lv_room (Nat.le_of_ble_eq_true rfl)) dX2_weigh_118 ⟨Nat.le_of_ble_eq_true rfl, Nat.le_of_ble_eq_true rfl⟩) hS (fun q _ h => (fun q h => by subst h; exact zq_18) q h) (fun q h => by subst h; exact zq_18) (fun H_36 t H_36x locs ht _ hr_35 hB hz hk hS => ?_)
          obtain rfl : H_36x = H_36 := ht.symm.trans hB
          have hz_37 : hC (fun q => q = q_18) H_17 H_36x := ⟨hz, hk⟩
          clear hz hk hB ht
          have h_38 := atC h_20 hz_37 (fun h => absurd h nq_18_x_26)
          have h_39 := atC h_21 hz_37 (fun h => absurd h nq_18_x_27)
          have h_40 := atC h_22 hz_37 (fun h => absurd h nq_18_x_28)
          have h_41 := atC h_23 hz_37 (fun h => absurd h nq_18_x_32)
          have h_42 := atC h_24 hz_37 (fun h => absurd h nq_18_x_33)
          have h_43 := atC h_25 hz_37 (fun h => absurd h nq_18_x_34)
          have h_44 := hr_35
          refine r_putN (C := RX4) (T := TX4) (N := 2) hx hb hts in_X4 tyX4 tyX4_ok nmX4 hown hK hS h_41 (Eq.mpr (congrFun hFe _) (Or.inr (Or.inl ⟨hj0, rfl⟩))) rfl 1 (by decide) (hE.1 _ _ _ _ _ _ q359) (fun _ h => h) rfl rfl rfl (Nat.le_of_ble_eq_true rfl) dX2_weigh_121 (fun H_46 locs hs_45 hS => ?_)
          have h_47 := atK h_38 hs_45 (at_ne h_38 h_41 (K_cc hK (i := 2) (j := 4) rfl rfl (by decide)))
          have h_48 := atK h_39 hs_45 (at_ne h_39 h_41 (Ne.symm (K_ca hK (i := 4) 0 rfl rfl (by decide))))
          have h_49 := atK h_40 hs_45 (at_ne h_40 h_41 (Ne.symm (K_ca hK (i := 4) 0 rfl rfl (by decide))))
          have h_50 := atK h_42 hs_45 (at_ne h_42 h_41 (K_cc hK (i := 10) (j := 4) rfl rfl (by decide)))
          have h_51 := atK h_43 hs_45 (at_ne h_43 h_41 (Ne.symm (K_ca hK (i := 4) 3 rfl rfl (by decide))))
          have h_52 := atK h_44 hs_45 (Ne.symm nq_18_x_32)
          have h_53 : va_at D vwCl ((ad (10 + j0)), .inr (4, [.int (f (16 + 6 * j0)), .ref q_18])) H_46 := hs_45.1
          refine lv_aload hx hb dX2_weigh_124 (lv_at hl 0 rfl) ?_
          refine lv_iload hx hb dX2_weigh_126 (lv_at hl 1 rfl) ?_
          have hSo := hS
          refine va_callv (va_runV (As := [.int (tk_gu f (tk_rd (((x0 * (f k1)) + dv) + (f 10)) (f 8)) k1 (nI ((f 11).toNatClampNeg)))]) (rest := []) ⟨hx, hb, hml, hown, hts⟩ (met_X4_get l D cA Z (fun q => q = (ad (10 + j0))) H_46 (x := (f (16 + 6 * j0))) (n := (tk_gu f (tk_rd (((x0 * (f k1)) + dv) + (f 10)) (f 8)) k1 (nI ((f 11).toNatClampNeg)))) (kv := (some q_18)) h_53 rfl) (cwV 1 hts (lw_V q774 q775 q776 q74 q777) rfl rfl rfl (by decide +kernel) ⟨Nat.le_of_ble_eq_true rfl, Nat.le_of_ble_eq_true rfl⟩) (cP_V hK hE (En.narrow (hZn.kept hS.c) (fun q h => by subst h; exact (Eq.mpr (congrFun hFe _) (Or.inr (Or.inl ⟨hj0, rfl⟩))))) (rcv hK h_53 rfl)) rfl rfl hl.1 rfl (lv_room (Nat.le_of_ble_eq_true rfl)) dX2_weigh_128 ⟨Nat.le_of_ble_eq_true rfl, Nat.le_of_ble_eq_true rfl⟩) hS (fun q _ h => (fun q h => by subst h; exact (Eq.mpr (congrFun hFe _) (Or.inr (Or.inl ⟨hj0, rfl⟩)))) q h) (fun q h => by subst h; exact (Eq.mpr (congrFun hFe _) (Or.inr (Or.inl ⟨hj0, rfl⟩)))) (fun H_55 t H_55x locs ht _ hr_54 hB hz hk hS => ?_)
          obtain rfl : H_55x = H_55 := ht.symm.trans hB
          have hz_56 : hC (fun q => q = (ad (10 + j0))) H_46 H_55x := ⟨hz, hk⟩
          clear hz hk hB ht
          have h_57 := atC h_47 hz_56 (fun h => absurd h (at_ne h_47 h_53 (K_cc hK (i := 2) (j := 4) rfl rfl (by decide))))
          have h_58 := atC h_48 hz_56 (fun h => absurd h (at_ne h_48 h_53 (Ne.symm (K_ca hK (i := 4) 0 rfl rfl (by decide)))))
          have h_59 := atC h_49 hz_56 (fun h => absurd h (at_ne h_49 h_53 (Ne.symm (K_ca hK (i := 4) 0 rfl rfl (by decide)))))
          have h_60 := atC h_50 hz_56 (fun h => absurd h (at_ne h_50 h_53 (K_cc hK (i := 10) (j := 4) rfl rfl (by decide))))
          have h_61 := atC h_51 hz_56 (fun h => absurd h (at_ne h_51 h_53 (Ne.symm (K_ca hK (i := 4) 3 rfl rfl (by decide)))))
          have h_62 := atC h_52 hz_56 (fun h => absurd h (Ne.symm nq_18_x_32))
          have h_63 := hr_54
          refine lv_aload_n hx hb dX2_weigh_131 rfl (lv_at hl 3 rfl) ?_
          refine lv_dup hx hb dX2_weigh_132 rfl ?_
          refine r_get (C := RX2) (T := TX2) (N := 10) hx hb hts in_X2 hown hK h_57 rfl 7 (by decide) (hts _ q152) (fun _ h => h) (v := .int (f 13)) rfl dX2_weigh_133 ?_
          refine lv_iload hx hb dX2_weigh_136 (lv_at hl 1 rfl) ?_
          refine lv_iload_n hx hb dX2_weigh_138 rfl (lv_at hl 6 rfl) ?_
          refine lv_isub hx hb dX2_weigh_139 ?_
          refine lv_iadd hx hb dX2_weigh_140 ?_
          refine r_put (C := RX2) (T := TX2) (N := 10) hx hb hts in_X2 tyX2 tyX2_ok nmX2 hown hK hS h_57 (Eq.mpr (congrFun hFe _) (Or.inl rfl)) rfl 7 (by decide) (hts _ q152) (fun _ h => h) rfl rfl rfl (Nat.le_of_ble_eq_true rfl) dX2_weigh_141 (fun H_65 locs hs_64 hS => ?_)
          have h_66 := atK h_58 hs_64 (at_ne h_58 h_57 (Ne.symm (K_ca hK (i := 2) 0 rfl rfl (by decide))))
          have h_67 := atK h_59 hs_64 (at_ne h_59 h_57 (Ne.symm (K_ca hK (i := 2) 0 rfl rfl (by decide))))
          have h_68 := atK h_60 hs_64 (at_ne h_60 h_57 (K_cc hK (i := 10) (j := 2) rfl rfl (by decide)))
          have h_69 := atK h_61 hs_64 (at_ne h_61 h_57 (Ne.symm (K_ca hK (i := 2) 3 rfl rfl (by decide))))
          have h_70 := atK h_62 hs_64 (Ne.symm nq_18_x_26)
          have h_71 := atK h_63 hs_64 (at_ne h_63 h_57 (K_cc hK (i := 4) (j := 2) rfl rfl (by decide)))
          have h_72 : va_at D vwCl ((ad 0), .inr (2, [.ref (ad 1), .ref (ad 2), .int (f 8), .int (f 9), .int (f 10), .int (nI ((f 11).toNatClampNeg)), .int (f 12), .int ((f 13) + ((tk_gu f (tk_rd (((x0 * (f k1)) + dv) + (f 10)) (f 8)) k1 (nI ((f 11).toNatClampNeg))) - x0)), .ref (ad 3), .ref (ad 5)])) H_65 := hs_64.1
          refine lv_iload hx hb dX2_weigh_144 (lv_at hl 1 rfl) ?_
          subst hQe
          refine W.widen (k := 2) (n := 6) (by first | decide | omega) (by first | decide | omega) ?_
          subst hFe
          exact W.iret hx hb hr (fun t ht hW => ⟨⟨_, H_65, rfl, (by rw [tk_weighs, if_neg (by simp [hr_1, hr_2, hr_3, hr_4]), nI_clamp (show j0 < 2 ^ 31 by omega), nI_clamp (show k1 < 2 ^ 31 by omega), tk_weighR]; have hq1 := h_71; have hq2 := h_72; have hq3 := h_70; rw [← hru.1] at hq1 hq2 hq3 ⊢; rw [p_more hpt.1 (by omega) hwb.2.2.2.1 hwb.2.2.2.2.1] at hq1; exact ⟨rfl, weighC hK hR hj0 hS.c hq2 hq1 hq3⟩), ht⟩, hS.F ht⟩) hS.2.2 dX2_weigh_146
        · subst er_hr_4
          refine lv_if_ne (tgt := 56) hx hb dX2_weigh_50 (by decide) (fun c_ => absurd (by decide) c_) (fun _ => ?_)
          refine lv_ldc (v := -100001) hx hb hown (hts _ q273) dX2_weigh_53 ?_
          subst hQe
          refine W.widen (k := 2) (n := 6) (by first | decide | omega) (by first | decide | omega) ?_
          subst hFe
          exact W.iret hx hb hr (fun t ht hW => ⟨⟨_, s.heap, rfl, (by rw [tk_weighs, if_pos (by simp [hr_1, hr_2, hr_3, hr_4])]; exact ⟨rfl, ad, rfl, fun _ _ => rfl, hR⟩), ht⟩, hS.F ht⟩) hS.2.2 dX2_weigh_55
      · subst er_hr_3
        refine lv_if_eq (tgt := 53) hx hb dX2_weigh_25 (by decide) (fun _ => ?_) (fun c_ => absurd (by decide) c_)
        refine lv_ldc (v := -100001) hx hb hown (hts _ q273) dX2_weigh_53 ?_
        subst hQe
        refine W.widen (k := 2) (n := 6) (by first | decide | omega) (by first | decide | omega) ?_
        subst hFe
        exact W.iret hx hb hr (fun t ht hW => ⟨⟨_, s.heap, rfl, (by rw [tk_weighs, if_pos (by simp [hr_1, hr_2, hr_3])]; exact ⟨rfl, ad, rfl, fun _ _ => rfl, hR⟩), ht⟩, hS.F ht⟩) hS.2.2 dX2_weigh_55
    · subst er_hr_2
      refine lv_if_eq (tgt := 53) hx hb dX2_weigh_14 (by decide) (fun _ => ?_) (fun c_ => absurd (by decide) c_)
      refine lv_ldc (v := -100001) hx hb hown (hts _ q273) dX2_weigh_53 ?_
      subst hQe
      refine W.widen (k := 2) (n := 6) (by first | decide | omega) (by first | decide | omega) ?_
      subst hFe
      exact W.iret hx hb hr (fun t ht hW => ⟨⟨_, s.heap, rfl, (by rw [tk_weighs, if_pos (by simp [hr_1, hr_2])]; exact ⟨rfl, ad, rfl, fun _ _ => rfl, hR⟩), ht⟩, hS.F ht⟩) hS.2.2 dX2_weigh_55
  · subst er_hr_1
    refine lv_if_eq (tgt := 53) hx hb dX2_weigh_5 (by decide) (fun _ => ?_) (fun c_ => absurd (by decide) c_)
    refine lv_ldc (v := -100001) hx hb hown (hts _ q273) dX2_weigh_53 ?_
    subst hQe
    refine W.widen (k := 2) (n := 6) (by first | decide | omega) (by first | decide | omega) ?_
    subst hFe
    exact W.iret hx hb hr (fun t ht hW => ⟨⟨_, s.heap, rfl, (by rw [tk_weighs, if_pos (by simp [hr_1])]; exact ⟨rfl, ad, rfl, fun _ _ => rfl, hR⟩), ht⟩, hS.F ht⟩) hS.2.2 dX2_weigh_55
