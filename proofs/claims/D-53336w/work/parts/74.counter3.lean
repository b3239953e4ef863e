set_option maxHeartbeats 4000000 in
set_option maxRecDepth 100000 in
theorem met_X2_apartUpTo (l : Launch) (D : va_G) (cA : Nat → ClassId) (Z : Nat → Nat) (F : Nat → Prop) (H : Heap) {ad : Nat → Nat} {f : Nat → Int32} {n p' : Nat} {mo : Nat → Int32} {B : Nat} {j mx : Nat} {its : Int32} (hR : CR D cA Z H ad f n p' mo) (hI : tk_ok B f) (hj : j < 4) (hs1 : 1 ≤ its.toInt) (hs2 : its.toInt ≤ 1000) (hm : mx ≤ 999) : Met l yX2_apartUpTo (ws_ yX2_apartUpTo cX2_apartUpTo 5 (some .int)) (rmL 3 0 0) (cP D cA Z F H [.ref (ad 0), .int (nI j), .int its, .int (nI mx)]) (vp_Si (fun r => r = nI (tk_ap f j its mx 0))) 0 0 (fun _ => False) := by
  refine Met.ofW (cc := cX2_apartUpTo) (maxL := 5) (ret := (some .int)) (by decide) rfl ?_
  intro p e s m args below meth c s₁ Bd hml hv
  obtain ⟨rfl, hh, hK, hE, hZn⟩ := hv
  subst hh
  have hx := Bd.exec
  have hb := Bd.bytes
  have hr := Bd.returns
  have hts := atoms_spec (ws := (ws_ yX2_apartUpTo cX2_apartUpTo 5 (some .int))) Bd.pre
  have hts : ∀ w ∈ lw_all, w.before _ s = true := fun w h => hts w (List.mem_cons_of_mem _ h)
  have hown : s.vm.findClass RX2 = some m.cls := findClass_of_methodNamed Bd.named
  have hlocks := Bd.notSynchronized
  have hS : va_S F s.heap s.heap [] := va_S.rf
  have hl := lv_entry ([.ref (ad 0), .int (nI j), .int its, .int (nI mx)]) (n := 5) (Nat.le_of_ble_eq_true rfl)
  rw [lg_entry_eq]
  generalize (lg_sl ([.ref (ad 0), .int (nI j), .int its, .int (nI mx)]) ++ List.replicate (5 - (lg_sl ([.ref (ad 0), .int (nI j), .int its, .int (nI mx)])).length) Slot.unset).toArray = ls at hl ⊢
  have hl : lv_has ls 5 [(0, .ref (ad 0)), (1, .int (nI j)), (2, .int its), (3, .int (nI mx))] := hl
  refine W.gq fun Q0 hQe => ?_
  refine lv_iconst (v := 0) hx hb dX2_apartUpTo_0 (by decide) ?_
  refine lv_istore (lv' := [(4, .int (0 : Int32)), (0, .ref (ad 0)), (1, .int (nI j)), (2, .int its), (3, .int (nI mx))]) hx hb dX2_apartUpTo_1 hl (by decide) rfl (fun ls hl => ?_)
  have cut_3 : ∀ (N : Nat) (k : Nat) (hk : k ≤ mx) (hq : tk_ap f j its mx 0 = tk_ap f j its (mx - k) k) (hN : mx - k < N) , ∀ (ls : Array Slot) (hl : lv_has ls 5 [(4, .int (nI k)), (0, .ref (ad 0)), (1, .int (nI j)), (2, .int its), (3, .int (nI mx))]), W p l e (headSpec (ws_ yX2_apartUpTo cX2_apartUpTo 5 (some .int)) (rmL 3 0 0)).room s m ([.ref (ad 0), .int (nI j), .int its, .int (nI mx)] : List Value).toArray below meth c s.heap [] 0 0 Q0 (F0 m 3 ls []) := by
    intro N
    induction N with
    | zero => intro k hk hq hN; exact absurd hN (Nat.not_lt_zero _)
    | succ N ih_3 =>
      intro k hk hq hN  ls hl
      refine lv_iload hx hb dX2_apartUpTo_3 (lv_at hl 0 rfl) ?_
      refine lv_iload_n hx hb dX2_apartUpTo_5 rfl (lv_at hl 4 rfl) ?_
      refine lv_icmp_ge (tgt := 56) hx hb dX2_apartUpTo_6 (by decide) (fun c6_b_1 => ?_) (fun c6_b_1 => ?_)
      · skip
        have c6_b_1 := Int32.not_lt.mpr c6_b_1
        have nc6_b_1 := nltF (a := k) (b := mx) rfl rfl (by omega) (by omega) c6_b_1
        refine lv_iload hx hb dX2_apartUpTo_56 (lv_at hl 0 rfl) ?_
        subst hQe
        exact W.iret hx hb hr (fun t ht hW => ⟨_, rfl, (by rw [hq, tk_apE hk (Or.inl (by omega))]), ht⟩) (fun _ h => absurd h List.not_mem_nil) dX2_apartUpTo_58
      · skip
        have c6_b_1 := Int32.not_le.mp c6_b_1
        have nc6_b_1 := nltT (a := k) (b := mx) rfl rfl (by omega) (by omega) c6_b_1
        refine lv_aload_n hx hb dX2_apartUpTo_9 rfl (lv_at hl 1 rfl) ?_
        refine lv_iload hx hb dX2_apartUpTo_10 (lv_at hl 0 rfl) ?_
        refine lv_aload_n hx hb dX2_apartUpTo_12 rfl (lv_at hl 1 rfl) ?_
        refine lv_iload_n hx hb dX2_apartUpTo_13 rfl (lv_at hl 2 rfl) ?_
        refine vp_callSi (W.runV (As := [.int (nI j)]) (rest := [.int (nI k), .ref (ad 0)]) ⟨hx, hb, hml, hown, hts⟩ (met_X2_heaviest l D cA Z (fun _ => False) s.heap (j := j) hR (by first | assumption | omega | decide) (by first | assumption | omega | decide)) (cwV 1 hts (lw_V q680 q681 q682 q62 q683) rfl rfl rfl (by decide +kernel) ⟨Nat.le_of_ble_eq_true rfl, Nat.le_of_ble_eq_true rfl⟩) (cP_V hK hE (En.narrow hZn (fun _ h => h.elim)) (rcv hK hR.obj rfl)) rfl rfl hl.1 rfl (lv_room (Nat.le_of_ble_eq_true rfl)) dX2_apartUpTo_14 ⟨Nat.le_of_ble_eq_true rfl, Nat.le_of_ble_eq_true rfl⟩) (fun r_2 hr_2 => ?_)
        subst hr_2
        refine lv_imul hx hb dX2_apartUpTo_17 ?_
        refine lv_aload_n hx hb dX2_apartUpTo_18 rfl (lv_at hl 1 rfl) ?_
        refine r_get (C := RX2) (T := TX2) (N := 10) hx hb hts in_X2 hown hK hR.obj rfl 3 (by decide) (hts _ q144) (fun _ h => h) (v := .int (f 9)) rfl dX2_apartUpTo_19 ?_
        refine lv_iadd hx hb dX2_apartUpTo_22 ?_
        refine lv_iload_n hx hb dX2_apartUpTo_23 rfl (lv_at hl 3 rfl) ?_
        refine vp_callSi (W.runV (As := [.int (((nI k) * (f j + f (4 + j))) + (f 9)), .int its]) (rest := []) ⟨hx, hb, hml, hown, hts⟩ (met_X2_read_2 l D cA Z (fun _ => False) s.heap (ld := (((nI k) * (f j + f (4 + j))) + (f 9))) (its := its) (by first | assumption | omega | decide) (by first | assumption | omega | decide) (ap_b hI hj (k := k) (by omega)).1.1 (ap_b hI hj (k := k) (by omega)).1.2) (cwV 2 hts (lw_V q640 q642 qs8 q62 q643) rfl rfl rfl (by decide +kernel) ⟨Nat.le_of_ble_eq_true rfl, Nat.le_of_ble_eq_true rfl⟩) (cP_V hK hE (En.narrow hZn (fun _ h => h.elim)) (rcv hK hR.obj rfl)) rfl rfl hl.1 rfl (lv_room (Nat.le_of_ble_eq_true rfl)) dX2_apartUpTo_24 ⟨Nat.le_of_ble_eq_true rfl, Nat.le_of_ble_eq_true rfl⟩) (fun r_3 hr_3 => ?_)
        subst hr_3
        refine lv_aload_n hx hb dX2_apartUpTo_27 rfl (lv_at hl 1 rfl) ?_
        refine lv_iload hx hb dX2_apartUpTo_28 (lv_at hl 0 rfl) ?_
        refine lv_iconst (v := 1) hx hb dX2_apartUpTo_30 (by decide) ?_
        refine lv_iadd hx hb dX2_apartUpTo_31 ?_
        refine lv_aload_n hx hb dX2_apartUpTo_32 rfl (lv_at hl 1 rfl) ?_
        refine lv_iload_n hx hb dX2_apartUpTo_33 rfl (lv_at hl 2 rfl) ?_
        refine vp_callSi (W.runV (As := [.int (nI j)]) (rest := [.int ((nI k) + (1 : Int32)), .ref (ad 0), .int (tk_rd (((nI k) * (f j + f (4 + j))) + (f 9)) its)]) ⟨hx, hb, hml, hown, hts⟩ (met_X2_lightest l D cA Z (fun _ => False) s.heap (j := j) hR (by first | assumption | omega | decide) (by first | assumption | omega | decide)) (cwV 1 hts (lw_V q684 q685 q686 q62 q687) rfl rfl rfl (by decide +kernel) ⟨Nat.le_of_ble_eq_true rfl, Nat.le_of_ble_eq_true rfl⟩) (cP_V hK hE (En.narrow hZn (fun _ h => h.elim)) (rcv hK hR.obj rfl)) rfl rfl hl.1 rfl (lv_room (Nat.le_of_ble_eq_true rfl)) dX2_apartUpTo_34 ⟨Nat.le_of_ble_eq_true rfl, Nat.le_of_ble_eq_true rfl⟩) (fun r_4 hr_4 => ?_)
        subst hr_4
        refine lv_imul hx hb dX2_apartUpTo_37 ?_
        refine lv_aload_n hx hb dX2_apartUpTo_38 rfl (lv_at hl 1 rfl) ?_
        refine r_get (C := RX2) (T := TX2) (N := 10) hx hb hts in_X2 hown hK hR.obj rfl 3 (by decide) (hts _ q144) (fun _ h => h) (v := .int (f 9)) rfl dX2_apartUpTo_39 ?_
        refine lv_isub hx hb dX2_apartUpTo_42 ?_
        refine lv_iload_n hx hb dX2_apartUpTo_43 rfl (lv_at hl 3 rfl) ?_
        refine vp_callSi (W.runV (As := [.int ((((nI k) + (1 : Int32)) * (f j - f (4 + j))) - (f 9)), .int its]) (rest := [.int (tk_rd (((nI k) * (f j + f (4 + j))) + (f 9)) its)]) ⟨hx, hb, hml, hown, hts⟩ (met_X2_read_2 l D cA Z (fun _ => False) s.heap (ld := ((((nI k) + (1 : Int32)) * (f j - f (4 + j))) - (f 9))) (its := its) (by first | assumption | omega | decide) (by first | assumption | omega | decide) (ap_b hI hj (k := k) (by omega)).2.1 (ap_b hI hj (k := k) (by omega)).2.2) (cwV 2 hts (lw_V q640 q642 qs8 q62 q643) rfl rfl rfl (by decide +kernel) ⟨Nat.le_of_ble_eq_true rfl, Nat.le_of_ble_eq_true rfl⟩) (cP_V hK hE (En.narrow hZn (fun _ h => h.elim)) (rcv hK hR.obj rfl)) rfl rfl hl.1 rfl (lv_room (Nat.le_of_ble_eq_true rfl)) dX2_apartUpTo_44 ⟨Nat.le_of_ble_eq_true rfl, Nat.le_of_ble_eq_true rfl⟩) (fun r_5 hr_5 => ?_)
        subst hr_5
        refine lv_icmp_ge (tgt := 56) hx hb dX2_apartUpTo_47 (by decide) (fun c47_b_6 => ?_) (fun c47_b_6 => ?_)
        · skip
          have c47_b_6 := Int32.not_lt.mpr c47_b_6
          refine lv_iload hx hb dX2_apartUpTo_56 (lv_at hl 0 rfl) ?_
          subst hQe
          exact W.iret hx hb hr (fun t ht hW => ⟨_, rfl, (by rw [hq, tk_apE hk (Or.inr (decide_eq_false c47_b_6))]), ht⟩) (fun _ h => absurd h List.not_mem_nil) dX2_apartUpTo_58
        · skip
          have c47_b_6 := Int32.not_le.mp c47_b_6
          refine lv_iinc (v := (nI (k + 1))) (lv' := [(4, .int (nI (k + 1))), (0, .ref (ad 0)), (1, .int (nI j)), (2, .int its), (3, .int (nI mx))]) hx hb dX2_apartUpTo_50 hl (k := 0) rfl (ixA rfl rfl) (by decide) rfl (fun ls hl => ?_)
          refine lv_goto (tgt := 3) hx hb dX2_apartUpTo_53 (by decide) ?_
          exact ih_3 (k + 1) (by omega) (hq.trans (tk_apS (by omega) (decide_eq_true c47_b_6))) (by omega)  ls (lv_sub hl [0, 1, 2, 3, 4] rfl)
  exact cut_3 _ 0 (Nat.zero_le _) rfl (Nat.lt_succ_self _)  ls (lv_sub hl [0, 1, 2, 3, 4] rfl)

set_option maxHeartbeats 4000000 in
set_option maxRecDepth 100000 in
theorem met_X2_isMixed (l : Launch) (D : va_G) (cA : Nat → ClassId) (Z : Nat → Nat) (F : Nat → Prop) (H : Heap) {ad : Nat → Nat} {f : Nat → Int32} {n p' : Nat} {mo : Nat → Int32} {B : Nat}  {ld : Int32} {sp : Int32} {rd : Int32} (hR : CR D cA Z H ad f n p' mo) (hI : tk_ok B f) (hm1 : -536870912 ≤ (ld - sp - f 9).toInt) (hm2 : (ld - sp - f 9).toInt ≤ 536870912) (hm3 : -536870912 ≤ (ld + sp + f 9).toInt) (hm4 : (ld + sp + f 9).toInt ≤ 536870912) : Met l yX2_isMixed (ws_ yX2_isMixed cX2_isMixed 4 (some .boolean)) (rmL 4 0 0) (cP D cA Z F H [.ref (ad 0), .int ld, .int sp, .int rd]) (vp_Si (fun r => pB r (jmx f ld sp rd))) 0 0 (fun _ => False) := by
  refine Met.ofW (cc := cX2_isMixed) (maxL := 4) (ret := (some .boolean)) (by decide) rfl ?_
  intro p e s m args below meth c s₁ Bd hml hv
  obtain ⟨rfl, hh, hK, hE, hZn⟩ := hv
  subst hh
  have hx := Bd.exec
  have hb := Bd.bytes
  have hr := Bd.returns
  have hts := atoms_spec (ws := (ws_ yX2_isMixed cX2_isMixed 4 (some .boolean))) Bd.pre
  have hts : ∀ w ∈ lw_all, w.before _ s = true := fun w h => hts w (List.mem_cons_of_mem _ h)
  have hown : s.vm.findClass RX2 = some m.cls := findClass_of_methodNamed Bd.named
  have hlocks := Bd.notSynchronized
  have hS : va_S F s.heap s.heap [] := va_S.rf
  have hl := lv_entry ([.ref (ad 0), .int ld, .int sp, .int rd]) (n := 4) (Nat.le_of_ble_eq_true rfl)
  rw [lg_entry_eq]
  generalize (lg_sl ([.ref (ad 0), .int ld, .int sp, .int rd]) ++ List.replicate (4 - (lg_sl ([.ref (ad 0), .int ld, .int sp, .int rd])).length) Slot.unset).toArray = ls at hl ⊢
  have hl : lv_has ls 4 [(0, .ref (ad 0)), (1, .int ld), (2, .int sp), (3, .int rd)] := hl
  refine W.gq fun Q0 hQe => ?_
  refine lv_iload_n hx hb dX2_isMixed_0 rfl (lv_at hl 3 rfl) ?_
  refine lv_aload_n hx hb dX2_isMixed_1 rfl (lv_at hl 0 rfl) ?_
  refine r_get (C := RX2) (T := TX2) (N := 10) hx hb hts in_X2 hown hK hR.obj rfl 2 (by decide) (hts _ q142) (fun _ h => h) (v := .int (f 8)) rfl dX2_isMixed_2 ?_
  refine lv_irem hx hb dX2_isMixed_5 (ok_step hI) ?_
  refine lv_if_ne (tgt := 44) hx hb dX2_isMixed_6 (by decide) (fun c6_b_1 => ?_) (fun c6_b_1 => ?_)
  · skip
    refine lv_iconst (v := 0) hx hb dX2_isMixed_44 (by decide) ?_
    subst hQe
    exact W.zret hx hb hr rfl (fun t ht hW => ⟨_, rfl, (Or.inr ⟨rfl, by simp [jmx, tk_mu, c6_b_1]⟩), ht⟩) (fun _ h => absurd h List.not_mem_nil) dX2_isMixed_45
  · skip
    refine lv_iload_n hx hb dX2_isMixed_9 rfl (lv_at hl 3 rfl) ?_
    refine lv_aload_n hx hb dX2_isMixed_10 rfl (lv_at hl 0 rfl) ?_
    refine lv_iload_n hx hb dX2_isMixed_11 rfl (lv_at hl 1 rfl) ?_
    refine lv_iload_n hx hb dX2_isMixed_12 rfl (lv_at hl 2 rfl) ?_
    refine lv_isub hx hb dX2_isMixed_13 ?_
    refine lv_aload_n hx hb dX2_isMixed_14 rfl (lv_at hl 0 rfl) ?_
    refine r_get (C := RX2) (T := TX2) (N := 10) hx hb hts in_X2 hown hK hR.obj rfl 3 (by decide) (hts _ q144) (fun _ h => h) (v := .int (f 9)) rfl dX2_isMixed_15 ?_
    refine lv_isub hx hb dX2_isMixed_18 ?_
    refine vp_callSi (W.runV (As := [.int ((ld - sp) - (f 9))]) (rest := [.int rd]) ⟨hx, hb, hml, hown, hts⟩ (met_X2_read l D cA Z (fun _ => False) s.heap (ld := ((ld - sp) - (f 9))) hR (by first | assumption | omega | decide) hm1 hm2) (cwV 1 hts (lw_V q636 q637 q638 q62 q639) rfl rfl rfl (by decide +kernel) ⟨Nat.le_of_ble_eq_true rfl, Nat.le_of_ble_eq_true rfl⟩) (cP_V hK hE (En.narrow hZn (fun _ h => h.elim)) (rcv hK hR.obj rfl)) rfl rfl hl.1 rfl (lv_room (Nat.le_of_ble_eq_true rfl)) dX2_isMixed_19 ⟨Nat.le_of_ble_eq_true rfl, Nat.le_of_ble_eq_true rfl⟩) (fun r_2 hr_2 => ?_)
    subst hr_2
    refine lv_aload_n hx hb dX2_isMixed_22 rfl (lv_at hl 0 rfl) ?_
    refine lv_iload_n hx hb dX2_isMixed_23 rfl (lv_at hl 1 rfl) ?_
    refine lv_iload_n hx hb dX2_isMixed_24 rfl (lv_at hl 2 rfl) ?_
    refine lv_iadd hx hb dX2_isMixed_25 ?_
    refine lv_aload_n hx hb dX2_isMixed_26 rfl (lv_at hl 0 rfl) ?_
    refine r_get (C := RX2) (T := TX2) (N := 10) hx hb hts in_X2 hown hK hR.obj rfl 3 (by decide) (hts _ q144) (fun _ h => h) (v := .int (f 9)) rfl dX2_isMixed_27 ?_
    refine lv_iadd hx hb dX2_isMixed_30 ?_
    refine vp_callSi (W.runV (As := [.int ((ld + sp) + (f 9))]) (rest := [.int (tk_rd ((ld - sp) - (f 9)) (f 8)), .int rd]) ⟨hx, hb, hml, hown, hts⟩ (met_X2_read l D cA Z (fun _ => False) s.heap (ld := ((ld + sp) + (f 9))) hR (by first | assumption | omega | decide) hm3 hm4) (cwV 1 hts (lw_V q636 q637 q638 q62 q639) rfl rfl rfl (by decide +kernel) ⟨Nat.le_of_ble_eq_true rfl, Nat.le_of_ble_eq_true rfl⟩) (cP_V hK hE (En.narrow hZn (fun _ h => h.elim)) (rcv hK hR.obj rfl)) rfl rfl hl.1 rfl (lv_room (Nat.le_of_ble_eq_true rfl)) dX2_isMixed_31 ⟨Nat.le_of_ble_eq_true rfl, Nat.le_of_ble_eq_true rfl⟩) (fun r_3 hr_3 => ?_)
    subst hr_3
    refine vp_callSi (toCR (va_runSN (As := [.int rd, .int (tk_rd ((ld - sp) - (f 9)) (f 8)), .int (tk_rd ((ld + sp) + (f 9)) (f 8))]) (rest := []) ⟨hx, hb, hml, hown, hts⟩ (met_X0_isBetween l rd (tk_rd ((ld - sp) - (f 9)) (f 8)) (tk_rd ((ld + sp) + (f 9)) (f 8))) ⟨va_cnB 3 hts (lw_meth q272) rfl rfl rfl (hE.2.1 _ _ _ _ q270) (hts _ q60) (by decide +kernel) ⟨Nat.le_of_ble_eq_true rfl, Nat.le_of_ble_eq_true rfl⟩, hts _ q271, trivial⟩ ⟨fun a U g mk q => q, fun U hU hW => ⟨rfl, trivial⟩⟩ rfl rfl hl.1 rfl (lv_room (Nat.le_of_ble_eq_true rfl)) dX2_isMixed_34 ⟨Nat.le_of_ble_eq_true rfl, Nat.le_of_ble_eq_true rfl⟩)) (fun r_4 hr_4 => ?_)
    rcases hr_4 with ⟨er_hr_4, hr_4⟩ | ⟨er_hr_4, hr_4⟩
    · subst er_hr_4
      refine lv_if_eq (tgt := 44) hx hb dX2_isMixed_37 (by decide) (fun c_ => absurd c_ (by decide)) (fun _ => ?_)
      refine lv_iconst (v := 1) hx hb dX2_isMixed_40 (by decide) ?_
      refine lv_goto (tgt := 45) hx hb dX2_isMixed_41 (by decide) ?_
      subst hQe
      exact W.zret hx hb hr rfl (fun t ht hW => ⟨_, rfl, (Or.inl ⟨rfl, by simp [jmx, tk_mu, c6_b_1, hr_4]⟩), ht⟩) (fun _ h => absurd h List.not_mem_nil) dX2_isMixed_45
    · subst er_hr_4
      refine lv_if_eq (tgt := 44) hx hb dX2_isMixed_37 (by decide) (fun _ => ?_) (fun c_ => absurd (by decide) c_)
      refine lv_iconst (v := 0) hx hb dX2_isMixed_44 (by decide) ?_
      subst hQe
      exact W.zret hx hb hr rfl (fun t ht hW => ⟨_, rfl, (Or.inr ⟨rfl, by simp [jmx, tk_mu, c6_b_1, hr_4]⟩), ht⟩) (fun _ h => absurd h List.not_mem_nil) dX2_isMixed_45

set_option maxHeartbeats 4000000 in
set_option maxRecDepth 100000 in
theorem met_X2_points (l : Launch) (D : va_G) (cA : Nat → ClassId) (Z : Nat → Nat) (H : Heap) {ad : Nat → Nat} {f : Nat → Int32} {n p' : Nat} {mo : Nat → Int32} {B : Nat}  (hR : CR D cA Z H ad f n p' mo) (hI : tk_ok B f) : Met l yX2_points (ws_ yX2_points cX2_points 4 (some .int)) (rmL 3 1 4) (cP D cA Z (fun q => H.size ≤ q) H [.ref (ad 0)]) (va_Qi (fun (r : Int32) (H1 : Heap) => r = tk_pts f) (fun (H1 : Heap) (t : State) => t.heap = H1) (fun q => H.size ≤ q)) 1 4 (fun q => H.size ≤ q) := by
  refine Met.ofW (cc := cX2_points) (maxL := 4) (ret := (some .int)) (by decide) rfl ?_
  intro p e s m args below meth c s₁ Bd hml hv
  obtain ⟨rfl, hh, hK, hE, hZn⟩ := hv
  subst hh
  have hx := Bd.exec
  have hb := Bd.bytes
  have hr := Bd.returns
  have hts := atoms_spec (ws := (ws_ yX2_points cX2_points 4 (some .int))) Bd.pre
  have hts : ∀ w ∈ lw_all, w.before _ s = true := fun w h => hts w (List.mem_cons_of_mem _ h)
  have hown : s.vm.findClass RX2 = some m.cls := findClass_of_methodNamed Bd.named
  have hlocks := Bd.notSynchronized
  obtain ⟨F, hFe⟩ : ∃ z : Nat → Prop, z = (fun q => s.heap.size ≤ q) := ⟨_, rfl⟩
  rw [← hFe] at hZn
  have hS : va_S F s.heap s.heap [] := va_S.rf
  have hF : ∀ q, s.heap.size ≤ q → F q := fun q h => by rw [hFe]; exact h
  have hl := lv_entry ([.ref (ad 0)]) (n := 4) (Nat.le_of_ble_eq_true rfl)
  rw [lg_entry_eq]
  generalize (lg_sl ([.ref (ad 0)]) ++ List.replicate (4 - (lg_sl ([.ref (ad 0)])).length) Slot.unset).toArray = ls at hl ⊢
  have hl : lv_has ls 4 [(0, .ref (ad 0))] := hl
  refine W.gq fun Q0 hQe => ?_
  have h6 := hR.n6
  refine lv_iconst (v := 0) hx hb dX2_points_0 (by decide) ?_
  refine lv_istore_n (lv' := [(1, .int (0 : Int32)), (0, .ref (ad 0))]) hx hb dX2_points_1 rfl hl (by decide) rfl (fun ls hl => ?_)
  refine lv_aload_n hx hb dX2_points_2 rfl (lv_at hl 1 rfl) ?_
  refine r_get (C := RX2) (T := TX2) (N := 10) hx hb hts in_X2 hown hK hR.obj rfl 8 (by decide) (hts _ q154) (fun _ h => h) (v := .ref (ad 3)) rfl dX2_points_3 ?_
  have hSo := hS
  refine va_callFq (g_runF (As := []) (rest := []) ⟨hx, hb, hml, hown, hts⟩ (met_J2_iterator l D cA Z (fun q => s.heap.size ≤ q) s.heap (mo := (mo 0)) (ed := (ad 4)) (n := n) hR.cl.1 (fun q h => h)) (va_cwF 0 hts (g_wsF q293 q297 q299 q65 q301) rfl rfl rfl (hE.2.2.2.1 "java/util/ArrayList" _ _ (by decide) q295 q294 q300 q298 q296) (by decide +kernel) ⟨Nat.le_of_ble_eq_true rfl, Nat.le_of_ble_eq_true rfl⟩) (cP_V hK hE (En.narrow hZn (fun q h => hF q (Nat.le_trans hS.1 h))) (rcv hK hR.cl.1 rfl)) rfl rfl hl.1 rfl (lv_room (Nat.le_of_ble_eq_true rfl)) dX2_points_6 ⟨(by first | decide | omega), (by first | decide | omega)⟩) hS (fun q _ h => (fun q h => hF q (Nat.le_trans hS.1 h)) q h) (fun q h => hF q (Nat.le_trans hS.1 h)) (fun r_1 H_2 t H_2x locs ht _ hr_1 hB hz hk hS => ?_)
  obtain rfl : H_2x = H_2 := ht.symm.trans hB
  have hz_3 : hC (fun q => s.heap.size ≤ q) s.heap H_2x := ⟨hz, hk⟩
  clear hz hk hB ht
  obtain ⟨q_4, hr_1, z_5, h_6⟩ := hr_1
  have zq_4 : s.heap.size ≤ q_4 := Nat.le_trans hSo.1 z_5
  have mq_4 := hF _ zq_4
  subst hr_1
  refine lv_astore_n (lv' := [(2, .ref q_4), (1, .int (0 : Int32)), (0, .ref (ad 0))]) hx hb dX2_points_11 rfl hl (by decide) rfl (fun ls hl => ?_)
  have cut_12 : ∀ (N : Nat) (k : Nat) (lr : Int32) (hk : k ≤ n) (hN : n - k < N) (Hc12 : Heap) (lc12 : List Loc) (hS : va_S F s.heap Hc12 lc12) (hc12_f_7 : va_at D vwCl (q_4, .inr (14, [.int (nI k), .int lr, .int (mo 0), .ref (ad 3)])) Hc12), ∀ (ls : Array Slot) (hl : lv_has ls 4 [(1, .int (tk_sum (fun c => f (16 + 6 * c)) k)), (2, .ref q_4), (0, .ref (ad 0))]), W p l e (headSpec (ws_ yX2_points cX2_points 4 (some .int)) (rmL 3 1 4)).room s m ([.ref (ad 0)] : List Value).toArray below meth c Hc12 lc12 1 4 Q0 (F0 m 12 ls []) := by
    intro N
    induction N with
    | zero => intro k lr hk hN; exact absurd hN (Nat.not_lt_zero _)
    | succ N ih_12 =>
      intro k lr hk hN Hc12 lc12 hS hc12_f_7 ls hl
      refine lv_aload_n hx hb dX2_points_12 rfl (lv_at hl 1 rfl) ?_
      refine va_csFi (g_runF (As := []) (rest := []) ⟨hx, hb, hml, hown, hts⟩ (met_J8_hasNext l D cA Z (fun _ => False) Hc12 (lr := lr) (mo := (mo 0)) (m2 := (mo 0)) (a := (ad 3)) (ed := (ad 4)) (n := n) (k := k) hc12_f_7 (hR.old (by rw [← hFe]; exact hS.c)).cl.1 (by first | assumption | omega | decide) (by first | assumption | omega | decide)) (va_cwF 0 hts (g_wsF q322 q326 q328 q73 q330) rfl rfl rfl (hE.2.2.2.1 "java/util/ArrayList$Itr" _ _ (by decide) q324 q323 q329 q327 q325) (by decide +kernel) ⟨Nat.le_of_ble_eq_true rfl, Nat.le_of_ble_eq_true rfl⟩) (cP_V hK hE (En.narrow (hZn.kept hS.c) (fun _ h => h.elim)) (rcv hK hc12_f_7 rfl)) rfl rfl hl.1 rfl (lv_room (Nat.le_of_ble_eq_true rfl)) dX2_points_13 ⟨Nat.le_of_ble_eq_true rfl, Nat.le_of_ble_eq_true rfl⟩) (fun r_8 hr_8 => ?_)
      rcases hr_8 with ⟨er_hr_8, hr_8⟩ | ⟨er_hr_8, hr_8⟩
      · subst er_hr_8
        have hkn : k < n := by simpa using hr_8
        refine lv_if_eq (tgt := 41) hx hb dX2_points_18 (by decide) (fun c_ => absurd c_ (by decide)) (fun _ => ?_)
        refine lv_aload_n hx hb dX2_points_21 rfl (lv_at hl 1 rfl) ?_
        have hSo := hS
        refine va_callFq (g_runF (As := []) (rest := []) ⟨hx, hb, hml, hown, hts⟩ (met_J8_next l D cA Z (fun q => q = q_4) Hc12 (lr := lr) (mo := (mo 0)) (a := (ad 3)) (ed := (ad 4)) (n := n) (k := k) (f := (alf n (fun i => ad (10 + i)))) hc12_f_7 (hR.old (by rw [← hFe]; exact hS.c)).cl.1 ((hR.old (by rw [← hFe]; exact hS.c)).cl.arr (by omega)) rfl (by first | assumption | omega | decide) (by first | assumption | omega | decide)) (va_cwF 0 hts (g_wsF q332 q335 q337 q73 q339) rfl rfl rfl (hE.2.2.2.1 "java/util/ArrayList$Itr" _ _ (by decide) q334 q333 q338 q336 q325) (by decide +kernel) ⟨Nat.le_of_ble_eq_true rfl, Nat.le_of_ble_eq_true rfl⟩) (cP_V hK hE (En.narrow (hZn.kept hS.c) (fun q h => by subst h; exact mq_4)) (rcv hK hc12_f_7 rfl)) rfl rfl hl.1 rfl (lv_room (Nat.le_of_ble_eq_true rfl)) dX2_points_22 ⟨Nat.le_of_ble_eq_true rfl, Nat.le_of_ble_eq_true rfl⟩) hS (fun q _ h => (fun q h => by subst h; exact mq_4) q h) (fun q h => by subst h; exact mq_4) (fun r_9 H_10 t H_10x locs ht _ hr_9 hB hz hk hS => ?_)
        obtain rfl : H_10x = H_10 := ht.symm.trans hB
        have hz_11 : hC (fun q => q = q_4) Hc12 H_10x := ⟨hz, hk⟩
        clear hz hk hB ht
        obtain ⟨hr_9, h_12⟩ := hr_9
        subst hr_9
        rw [show va_rf ((alf n (fun i => ad (10 + i))) k) = .ref (ad (10 + k)) from by rw [alf_lt (by assumption)]; rfl]
        refine va_castS hx hb hown (hts _ q344) (hK.1 4 _ rfl).2 (rcv hK ((hR.old (by rw [← hFe]; exact hS.c)).cus k (by omega)) rfl) dX2_points_27 ?_
        refine lv_astore_n (lv' := [(3, .ref (ad (10 + k))), (1, .int (tk_sum (fun c => f (16 + 6 * c)) k)), (2, .ref q_4), (0, .ref (ad 0))]) hx hb dX2_points_30 rfl hl (by decide) rfl (fun ls hl => ?_)
        refine lv_iload_n hx hb dX2_points_31 rfl (lv_at hl 1 rfl) ?_
        refine lv_aload_n hx hb dX2_points_32 rfl (lv_at hl 0 rfl) ?_
        refine r_getN (C := RX4) (T := TX4) (N := 2) hx hb hts in_X4 hown hK ((hR.old (by rw [← hFe]; exact hS.c)).cus k (by omega)) rfl 0 (by decide) (hE.1 _ _ _ _ _ _ q356) (fun _ h => h) (v := .int (f (16 + 6 * k))) rfl dX2_points_33 ?_
        refine lv_iadd hx hb dX2_points_36 ?_
        refine lv_istore_n (lv' := [(1, .int ((tk_sum (fun c => f (16 + 6 * c)) k) + (f (16 + 6 * k)))), (3, .ref (ad (10 + k))), (2, .ref q_4), (0, .ref (ad 0))]) hx hb dX2_points_37 rfl hl (by decide) rfl (fun ls hl => ?_)
        refine lv_goto (tgt := 12) hx hb dX2_points_38 (by decide) ?_
        exact ih_12 (k + 1) _ (by omega) (by omega) _ _ hS h_12  ls (lv_sub hl [0, 2, 3] rfl)
      · subst er_hr_8
        have hkn : ¬ k < n := by simpa using hr_8
        refine lv_if_eq (tgt := 41) hx hb dX2_points_18 (by decide) (fun _ => ?_) (fun c_ => absurd (by decide) c_)
        refine lv_iload_n hx hb dX2_points_41 rfl (lv_at hl 0 rfl) ?_
        subst hQe
        refine W.widen (k := 1) (n := 4) (by first | decide | omega) (by first | decide | omega) ?_
        subst hFe
        exact W.iret hx hb hr (fun t ht hW => ⟨⟨_, Hc12, rfl, (by rw [tk_pts, hR.hn, nI_clamp (by omega), show n = k by omega]), ht⟩, hS.F ht⟩) hS.2.2 dX2_points_42
  exact cut_12 _ 0 _ (Nat.zero_le _) (Nat.lt_succ_self _) _ _ hS h_6  ls (lv_sub hl [1, 0, 2] rfl)

set_option maxHeartbeats 4000000 in
set_option maxRecDepth 100000 in
theorem met_X2_would (l : Launch) (D : va_G) (cA : Nat → ClassId) (Z : Nat → Nat) (H : Heap) {ad : Nat → Nat} {f : Nat → Int32} {n p' : Nat} {mo : Nat → Int32} {B : Nat} {u : Nat} (hR : CR D cA Z H ad f n p' mo) (hI : tk_ok B f) (hu : u < 4) : Met l yX2_would (ws_ yX2_would cX2_would 6 (some .int)) (rmL 6 7 16) (cP D cA Z (fun q => H.size ≤ q) H [.ref (ad 0), .int (nI u)]) (va_Qi (fun (r : Int32) (H1 : Heap) => r = tk_gv f (nI u)) (fun (H1 : Heap) (t : State) => t.heap = H1) (fun q => H.size ≤ q)) 7 16 (fun q => H.size ≤ q) := by
  refine Met.ofW (cc := cX2_would) (maxL := 6) (ret := (some .int)) (by decide) rfl ?_
  intro p e s m args below meth c s₁ Bd hml hv
  obtain ⟨rfl, hh, hK, hE, hZn⟩ := hv
  subst hh
  have hx := Bd.exec
  have hb := Bd.bytes
  have hr := Bd.returns
  have hts := atoms_spec (ws := (ws_ yX2_would cX2_would 6 (some .int))) Bd.pre
  have hts : ∀ w ∈ lw_all, w.before _ s = true := fun w h => hts w (List.mem_cons_of_mem _ h)
  have hown : s.vm.findClass RX2 = some m.cls := findClass_of_methodNamed Bd.named
  have hlocks := Bd.notSynchronized
  obtain ⟨F, hFe⟩ : ∃ z : Nat → Prop, z = (fun q => s.heap.size ≤ q) := ⟨_, rfl⟩
  rw [← hFe] at hZn
  have hS : va_S F s.heap s.heap [] := va_S.rf
  have hF : ∀ q, s.heap.size ≤ q → F q := fun q h => by rw [hFe]; exact h
  have hl := lv_entry ([.ref (ad 0), .int (nI u)]) (n := 6) (Nat.le_of_ble_eq_true rfl)
  rw [lg_entry_eq]
  generalize (lg_sl ([.ref (ad 0), .int (nI u)]) ++ List.replicate (6 - (lg_sl ([.ref (ad 0), .int (nI u)])).length) Slot.unset).toArray = ls at hl ⊢
  have hl : lv_has ls 6 [(0, .ref (ad 0)), (1, .int (nI u))] := hl
  refine W.gq fun Q0 hQe => ?_
  have h6 := hR.n6
  refine lv_iconst (v := 0) hx hb dX2_would_0 (by decide) ?_
  refine lv_istore_n (lv' := [(2, .int (0 : Int32)), (0, .ref (ad 0)), (1, .int (nI u))]) hx hb dX2_would_1 rfl hl (by decide) rfl (fun ls hl => ?_)
  refine lv_aload_n hx hb dX2_would_2 rfl (lv_at hl 1 rfl) ?_
  refine r_get (C := RX2) (T := TX2) (N := 10) hx hb hts in_X2 hown hK hR.obj rfl 8 (by decide) (hts _ q154) (fun _ h => h) (v := .ref (ad 3)) rfl dX2_would_3 ?_
  have hSo := hS
  refine va_callFq (g_runF (As := []) (rest := []) ⟨hx, hb, hml, hown, hts⟩ (met_J2_iterator l D cA Z (fun q => s.heap.size ≤ q) s.heap (mo := (mo 0)) (ed := (ad 4)) (n := n) hR.cl.1 (fun q h => h)) (va_cwF 0 hts (g_wsF q293 q297 q299 q65 q301) rfl rfl rfl (hE.2.2.2.1 "java/util/ArrayList" _ _ (by decide) q295 q294 q300 q298 q296) (by decide +kernel) ⟨Nat.le_of_ble_eq_true rfl, Nat.le_of_ble_eq_true rfl⟩) (cP_V hK hE (En.narrow hZn (fun q h => hF q (Nat.le_trans hS.1 h))) (rcv hK hR.cl.1 rfl)) rfl rfl hl.1 rfl (lv_room (Nat.le_of_ble_eq_true rfl)) dX2_would_6 ⟨(by first | decide | omega), (by first | decide | omega)⟩) hS (fun q _ h => (fun q h => hF q (Nat.le_trans hS.1 h)) q h) (fun q h => hF q (Nat.le_trans hS.1 h)) (fun r_1 H_2 t H_2x locs ht _ hr_1 hB hz hk hS => ?_)
  obtain rfl : H_2x = H_2 := ht.symm.trans hB
  have hz_3 : hC (fun q => s.heap.size ≤ q) s.heap H_2x := ⟨hz, hk⟩
  clear hz hk hB ht
  obtain ⟨q_4, hr_1, z_5, h_6⟩ := hr_1
  have zq_4 : s.heap.size ≤ q_4 := Nat.le_trans hSo.1 z_5
  have mq_4 := hF _ zq_4
  subst hr_1
  refine lv_astore_n (lv' := [(3, .ref q_4), (2, .int (0 : Int32)), (0, .ref (ad 0)), (1, .int (nI u))]) hx hb dX2_would_11 rfl hl (by decide) rfl (fun ls hl => ?_)
  have cut_12 : ∀ (N : Nat) (k : Nat) (acc lr : Int32) (hk : k ≤ n) (hq : tk_gv f (nI u) = tk_gvr f (nI u) (n - k) k acc) (hN : n - k < N) (Hc12 : Heap) (lc12 : List Loc) (hS : va_S F s.heap Hc12 lc12) (hc12_f_7 : va_at D vwCl (q_4, .inr (14, [.int (nI k), .int lr, .int (mo 0), .ref (ad 3)])) Hc12), ∀ (ls : Array Slot) (hl : lv_has ls 6 [(2, .int acc), (3, .ref q_4), (0, .ref (ad 0)), (1, .int (nI u))]), W p l e (headSpec (ws_ yX2_would cX2_would 6 (some .int)) (rmL 6 7 16)).room s m ([.ref (ad 0), .int (nI u)] : List Value).toArray below meth c Hc12 lc12 (1 + k) (4 + 2 * k) Q0 (F0 m 12 ls []) := by
    intro N
    induction N with
    | zero => intro k acc lr hk hq hN; exact absurd hN (Nat.not_lt_zero _)
    | succ N ih_12 =>
      intro k acc lr hk hq hN Hc12 lc12 hS hc12_f_7 ls hl
      refine lv_aload_n hx hb dX2_would_12 rfl (lv_at hl 1 rfl) ?_
      refine va_csFi (g_runF (As := []) (rest := []) ⟨hx, hb, hml, hown, hts⟩ (met_J8_hasNext l D cA Z (fun _ => False) Hc12 (lr := lr) (mo := (mo 0)) (m2 := (mo 0)) (a := (ad 3)) (ed := (ad 4)) (n := n) (k := k) hc12_f_7 (hR.old (by rw [← hFe]; exact hS.c)).cl.1 (by first | assumption | omega | decide) (by first | assumption | omega | decide)) (va_cwF 0 hts (g_wsF q322 q326 q328 q73 q330) rfl rfl rfl (hE.2.2.2.1 "java/util/ArrayList$Itr" _ _ (by decide) q324 q323 q329 q327 q325) (by decide +kernel) ⟨Nat.le_of_ble_eq_true rfl, Nat.le_of_ble_eq_true rfl⟩) (cP_V hK hE (En.narrow (hZn.kept hS.c) (fun _ h => h.elim)) (rcv hK hc12_f_7 rfl)) rfl rfl hl.1 rfl (lv_room (Nat.le_of_ble_eq_true rfl)) dX2_would_13 ⟨(show _ ≤ 7 from by omega), (show _ ≤ 16 from by omega)⟩) (fun r_8 hr_8 => ?_)
      rcases hr_8 with ⟨er_hr_8, hr_8⟩ | ⟨er_hr_8, hr_8⟩
      · subst er_hr_8
        have hkn : k < n := by simpa using hr_8
        refine lv_if_eq (tgt := 90) hx hb dX2_would_18 (by decide) (fun c_ => absurd c_ (by decide)) (fun _ => ?_)
        refine lv_aload_n hx hb dX2_would_21 rfl (lv_at hl 1 rfl) ?_
        have hSo := hS
        refine va_callFq (g_runF (As := []) (rest := []) ⟨hx, hb, hml, hown, hts⟩ (met_J8_next l D cA Z (fun q => q = q_4) Hc12 (lr := lr) (mo := (mo 0)) (a := (ad 3)) (ed := (ad 4)) (n := n) (k := k) (f := (alf n (fun i => ad (10 + i)))) hc12_f_7 (hR.old (by rw [← hFe]; exact hS.c)).cl.1 ((hR.old (by rw [← hFe]; exact hS.c)).cl.arr (by omega)) rfl (by first | assumption | omega | decide) (by first | assumption | omega | decide)) (va_cwF 0 hts (g_wsF q332 q335 q337 q73 q339) rfl rfl rfl (hE.2.2.2.1 "java/util/ArrayList$Itr" _ _ (by decide) q334 q333 q338 q336 q325) (by decide +kernel) ⟨Nat.le_of_ble_eq_true rfl, Nat.le_of_ble_eq_true rfl⟩) (cP_V hK hE (En.narrow (hZn.kept hS.c) (fun q h => by subst h; exact mq_4)) (rcv hK hc12_f_7 rfl)) rfl rfl hl.1 rfl (lv_room (Nat.le_of_ble_eq_true rfl)) dX2_would_22 ⟨(show _ ≤ 7 from by omega), (show _ ≤ 16 from by omega)⟩) hS (fun q _ h => (fun q h => by subst h; exact mq_4) q h) (fun q h => by subst h; exact mq_4) (fun r_9 H_10 t H_10x locs ht _ hr_9 hB hz hk hS => ?_)
        obtain rfl : H_10x = H_10 := ht.symm.trans hB
        have hz_11 : hC (fun q => q = q_4) Hc12 H_10x := ⟨hz, hk⟩
        clear hz hk hB ht
        obtain ⟨hr_9, h_12⟩ := hr_9
        subst hr_9
        rw [show va_rf ((alf n (fun i => ad (10 + i))) k) = .ref (ad (10 + k)) from by rw [alf_lt (by assumption)]; rfl]
        refine va_castS hx hb hown (hts _ q344) (hK.1 4 _ rfl).2 (rcv hK ((hR.old (by rw [← hFe]; exact hS.c)).cus k (by omega)) rfl) dX2_would_27 ?_
        refine lv_astore (lv' := [(4, .ref (ad (10 + k))), (2, .int acc), (3, .ref q_4), (0, .ref (ad 0)), (1, .int (nI u))]) hx hb dX2_would_30 hl (by decide) rfl (fun ls hl => ?_)
        refine lv_aload hx hb dX2_would_32 (lv_at hl 0 rfl) ?_
        refine r_getN (C := RX4) (T := TX4) (N := 2) hx hb hts in_X4 hown hK ((hR.old (by rw [← hFe]; exact hS.c)).cus k (by omega)) rfl 1 (by decide) (hE.1 _ _ _ _ _ _ q359) (fun _ h => h) (v := va_rf (kq ad f k)) rfl dX2_would_34 ?_
        by_cases hg_13 : f (16 + 6 * k + 1) = 0
        · skip
          rw [kq_0 hg_13] at ⊢
          try simp only [va_rf]
          try rw [kq_0 hg_13] at hl
          refine lv_ifnullN (tgt := 87) hx hb dX2_would_37 (by decide) ?_
          refine lv_goto (tgt := 12) hx hb dX2_would_87 (by decide) ?_
          refine W.widen (k := 1 + (k + 1)) (n := 4 + 2 * (k + 1)) (by omega) (by omega) ?_
          exact ih_12 (k + 1) _ _ (by omega) (hq.trans (tk_gv0 hkn (fun q => absurd ((hg_13).symm.trans q) (by decide)))) (by omega) _ _ hS h_12  ls (lv_sub hl [1, 2, 3, 4] rfl)
        · skip
          rw [kq_1 hg_13] at ⊢
          try simp only [va_rf]
          try rw [kq_1 hg_13] at hl
          refine lv_ifnull hx hb dX2_would_37 ?_
          have hkd := okkd hI hR.hn h6 hkn hg_13
          refine lv_aload_n hx hb dX2_would_40 rfl (lv_at hl 3 rfl) ?_
          refine lv_aload hx hb dX2_would_41 (lv_at hl 0 rfl) ?_
          refine r_getN (C := RX4) (T := TX4) (N := 2) hx hb hts in_X4 hown hK (show va_at D vwCl ((ad (10 + k)), .inr (4, [.int (f (16 + 6 * k)), .ref (ad (30 + k))])) H_10x from (by have hq := (hR.old (by rw [← hFe]; exact hS.c)).cus k (by omega); rw [kq_1 hg_13] at hq; exact hq)) rfl 1 (by decide) (hE.1 _ _ _ _ _ _ q359) (fun _ h => h) (v := .ref (ad (30 + k))) rfl dX2_would_43 ?_
          refine r_getN (C := RX7) (T := TX7) (N := 4) hx hb hts in_X7 hown hK ((hR.old (by rw [← hFe]; exact hS.c)).kep k (by omega) (by assumption)) rfl 2 (by decide) (hE.1 _ _ _ _ _ _ q762) (fun _ h => h) (v := .int (f (16 + 6 * k + 4))) rfl dX2_would_46 ?_
          refine lv_aload hx hb dX2_would_49 (lv_at hl 0 rfl) ?_
          refine r_getN (C := RX4) (T := TX4) (N := 2) hx hb hts in_X4 hown hK (show va_at D vwCl ((ad (10 + k)), .inr (4, [.int (f (16 + 6 * k)), .ref (ad (30 + k))])) H_10x from (by have hq := (hR.old (by rw [← hFe]; exact hS.c)).cus k (by omega); rw [kq_1 hg_13] at hq; exact hq)) rfl 1 (by decide) (hE.1 _ _ _ _ _ _ q359) (fun _ h => h) (v := .ref (ad (30 + k))) rfl dX2_would_51 ?_
          refine r_getN (C := RX7) (T := TX7) (N := 4) hx hb hts in_X7 hown hK ((hR.old (by rw [← hFe]; exact hS.c)).kep k (by omega) (by assumption)) rfl 0 (by decide) (hE.1 _ _ _ _ _ _ q758) (fun _ h => h) (v := .int (f (16 + 6 * k + 2))) rfl dX2_would_54 ?_
          refine lv_iload_n hx hb dX2_would_57 rfl (lv_at hl 4 rfl) ?_
          rw [show (f (16 + 6 * k + 2)) = nI ((f (16 + 6 * k + 2)).toNatClampNeg) from hkd.1]
          have hSo := hS
          refine va_calli (va_runV (As := [.int (f (16 + 6 * k + 4)), .int (nI ((f (16 + 6 * k + 2)).toNatClampNeg)), .int (nI u)]) (rest := []) ⟨hx, hb, hml, hown, hts⟩ (met_X2_guess l D cA Z H_10x (rd := (f (16 + 6 * k + 4))) (j := ((f (16 + 6 * k + 2)).toNatClampNeg)) (u := u) (hR.old (by rw [← hFe]; exact hS.c)) (by first | assumption | omega | decide) hkd.2.1 (by first | assumption | omega | decide) hkd.2.2.1.1 hkd.2.2.1.2) (cwV 3 hts (lw_V q647 q648 q649 q62 q650) rfl rfl rfl (by decide +kernel) ⟨Nat.le_of_ble_eq_true rfl, Nat.le_of_ble_eq_true rfl⟩) (cP_V hK hE (En.narrow (hZn.kept hS.c) (fun q h => hF q (Nat.le_trans hS.1 h))) (rcv hK (hR.old (by rw [← hFe]; exact hS.c)).obj rfl)) rfl rfl hl.1 rfl (lv_room (Nat.le_of_ble_eq_true rfl)) dX2_would_58 ⟨(show _ ≤ 7 from by omega), (show _ ≤ 16 from by omega)⟩) hS (fun q _ h => (fun q h => hF q (Nat.le_trans hS.1 h)) q h) (fun q h => hF q (Nat.le_trans hS.1 h)) (fun r_14 H_15 t H_15x locs ht _ hr_14 hB hz hk hS => ?_)
          obtain rfl : H_15x = H_15 := ht.symm.trans hB
          have hz_16 : hC (fun q => H_10x.size ≤ q) H_10x H_15x := ⟨hz, hk⟩
          clear hz hk hB ht
          have h_17 := atC h_12 hz_16 (fun h => absurd (at_lt h_12) (Nat.not_lt.mpr h))
          subst hr_14
          refine lv_istore (lv' := [(5, .int (tk_gu f (f (16 + 6 * k + 4)) ((f (16 + 6 * k + 2)).toNatClampNeg) (nI u))), (4, .ref (ad (10 + k))), (2, .int acc), (3, .ref q_4), (0, .ref (ad 0)), (1, .int (nI u))]) hx hb dX2_would_61 hl (by decide) rfl (fun ls hl => ?_)
          refine lv_iload hx hb dX2_would_63 (lv_at hl 0 rfl) ?_
          refine lv_ldc (v := -100009) hx hb hown (hts _ q1534) dX2_would_65 ?_
          refine lv_icmp_ne (tgt := 73) hx hb dX2_would_67 (by decide) (fun c67_b_18 => ?_) (fun c67_b_18 => ?_)
          · skip
            refine lv_iload_n hx hb dX2_would_73 rfl (lv_at hl 2 rfl) ?_
            refine lv_iload hx hb dX2_would_74 (lv_at hl 0 rfl) ?_
            refine lv_aload hx hb dX2_would_76 (lv_at hl 1 rfl) ?_
            refine r_getN (C := RX4) (T := TX4) (N := 2) hx hb hts in_X4 hown hK (show va_at D vwCl ((ad (10 + k)), .inr (4, [.int (f (16 + 6 * k)), .ref (ad (30 + k))])) H_15x from (by have hq := (hR.old (by rw [← hFe]; exact hS.c)).cus k (by omega); rw [kq_1 hg_13] at hq; exact hq)) rfl 1 (by decide) (hE.1 _ _ _ _ _ _ q359) (fun _ h => h) (v := .ref (ad (30 + k))) rfl dX2_would_78 ?_
            refine r_getN (C := RX7) (T := TX7) (N := 4) hx hb hts in_X7 hown hK ((hR.old (by rw [← hFe]; exact hS.c)).kep k (by omega) (by assumption)) rfl 1 (by decide) (hE.1 _ _ _ _ _ _ q760) (fun _ h => h) (v := .int (f (16 + 6 * k + 3))) rfl dX2_would_81 ?_
            refine lv_isub hx hb dX2_would_84 ?_
            refine lv_iadd hx hb dX2_would_85 ?_
            refine lv_istore_n (lv' := [(2, .int (acc + ((tk_gu f (f (16 + 6 * k + 4)) ((f (16 + 6 * k + 2)).toNatClampNeg) (nI u)) - (f (16 + 6 * k + 3))))), (5, .int (tk_gu f (f (16 + 6 * k + 4)) ((f (16 + 6 * k + 2)).toNatClampNeg) (nI u))), (4, .ref (ad (10 + k))), (3, .ref q_4), (0, .ref (ad 0)), (1, .int (nI u))]) hx hb dX2_would_86 rfl hl (by decide) rfl (fun ls hl => ?_)
            refine lv_goto (tgt := 12) hx hb dX2_would_87 (by decide) ?_
            refine W.widen (k := 1 + (k + 1)) (n := 4 + 2 * (k + 1)) (by omega) (by omega) ?_
            exact ih_12 (k + 1) _ _ (by omega) (hq.trans (tk_gv1 hkn (okkd hI hR.hn h6 hkn hg_13).2.2.2.1 rfl c67_b_18)) (by omega) _ _ hS h_17  ls (lv_sub hl [0, 3, 4, 5] rfl)
          · skip
            refine lv_ldc (v := -100009) hx hb hown (hts _ q1534) dX2_would_70 ?_
            subst hQe
            refine W.widen (k := 7) (n := 16) (by first | decide | omega) (by first | decide | omega) ?_
            subst hFe
            exact W.iret hx hb hr (fun t ht hW => ⟨⟨_, H_15x, rfl, (by rw [hq, tk_gvN hkn hkd.2.2.2.1 rfl c67_b_18]), ht⟩, hS.F ht⟩) hS.2.2 dX2_would_72
      · subst er_hr_8
        have hkn : ¬ k < n := by simpa using hr_8
        refine lv_if_eq (tgt := 90) hx hb dX2_would_18 (by decide) (fun _ => ?_) (fun c_ => absurd (by decide) c_)
        refine lv_iload_n hx hb dX2_would_90 rfl (lv_at hl 0 rfl) ?_
        subst hQe
        refine W.widen (k := 7) (n := 16) (by first | decide | omega) (by first | decide | omega) ?_
        subst hFe
        exact W.iret hx hb hr (fun t ht hW => ⟨⟨_, Hc12, rfl, (by rw [hq, tk_gvE (by omega)]), ht⟩, hS.F ht⟩) hS.2.2 dX2_would_91
  exact cut_12 _ 0 _ _ (Nat.zero_le _) (by rw [tk_gv, hR.hn, nI_clamp (by omega)]; rfl) (Nat.lt_succ_self _) _ _ hS h_6  ls (lv_sub hl [1, 0, 2, 3] rfl)
