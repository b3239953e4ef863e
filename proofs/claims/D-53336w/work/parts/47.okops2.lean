section OPS
variable {B : Nat} {d : Nat → Int32}
/-- a customer's six numbers change, and the gift -/
theorem ok_C1 {B' : Nat} (h : tk_ok B d) (hB : B ≤ B') {d' : Nat → Int32} {j : Nat} (hj : j < 6) (e : ∀ i, i ≠ 13 → (i < 16 + 6 * j ∨ 16 + 6 * j + 6 ≤ i) → i < 94 → d' i = d i) (hC : okCd B' d' j) : tk_ok B' d' := by
  have h7 := h.2.2.2.2.2.2.1
  refine ok_SC h (okS_c (ok_iff.mp h).1 (fun i a b => e i b (by omega) (by omega))) (fun c hc => ?_) (e 15 (by omega) (by omega) (by omega)) (fun i a b => e i (by omega) (by omega) b)
  rw [e 14 (by omega) (by omega) (by omega)] at hc
  by_cases q : c = j
  · subst q; exact hC
  · refine okCd_c (okC_mono hB ((ok_iff.mp h).2.1 c hc)) (fun i a b => e i (by omega) (by omega) (by omega))
theorem ok_comes (h : tk_ok B d) (hB : 9999 ≤ B) (p : Int32) : tk_ok B (tk_comes d p).2 ∧ tk_ans d (tk_comes d p) ∧ tk_far94 d (tk_comes d p) := by
  unfold tk_comes
  split
  · exact ⟨h, Or.inr ⟨Or.inl rfl, rfl⟩, fun _ _ => rfl⟩
  · rename_i hc
    simp only [Bool.not_eq_false] at hc
    have p2 := tk_inI hc
    rw [tI0, show (9999 : Int32).toInt = 9999 from by decide] at p2
    split
    · exact ⟨h, Or.inr ⟨Or.inr (Or.inr rfl), rfl⟩, fun _ _ => rfl⟩
    · rename_i h6
      obtain ⟨n, hn, e, en, ei⟩ := ok_n h
      have hn6 : n ≠ 6 := fun q => h6 (by rw [e, q]; rfl)
      rw [en]
      have e1 : (d 14 + 1).toInt = n + 1 := by rw [tadd (by rw [ei, tI1]; omega) (by rw [ei, tI1]; omega), ei, tI1]
      have h8 := h.2.2.2.2.2.2.2.1
      refine ⟨?_, Or.inl (gtE ?_), fun i hi => ?_⟩
      · refine ok_SC h ?_ (fun c hc => ?_) ?_ (fun i a b => ?_)
        · have hs := (ok_iff.mp h).1
          obtain ⟨g1, g2, g3, g4, g5, g6, g7, g8⟩ := hs
          dsimp only
          refine ⟨fun k hk2 => ?_, ?_, ?_, ?_, ?_, ?_, ?_, ?_⟩
          · rw [updn _ _ (by omega), updn _ _ (by omega), updn _ _ (by omega), updn _ _ (by omega), updn _ _ (by omega), updn _ _ (by omega)]; exact g1 k hk2
          · rw [updn _ _ (by omega), updn _ _ (by omega), updn _ _ (by omega)]; exact g2
          · rw [updn _ _ (by omega), updn _ _ (by omega), updn _ _ (by omega)]; exact g3
          · rw [updn _ _ (by omega), updn _ _ (by omega), updn _ _ (by omega), updn _ _ (by omega), updn _ _ (by omega), updn _ _ (by omega)]; exact g4
          · rw [updn _ _ (by omega), updn _ _ (by omega), updn _ _ (by omega)]; exact g5
          · rw [updn _ _ (by omega), updn _ _ (by omega), updn _ _ (by omega)]; exact g6
          · rw [upds, e1]; omega
          · rw [updn _ _ (by omega), updn _ _ (by omega), updn _ _ (by omega)]; exact g8
        · dsimp only at hc ⊢
          rw [upds, e1] at hc
          by_cases q : c = n
          · subst q
            unfold okCd
            rw [updn _ _ (by omega), updn _ _ (by omega), upds, updn _ _ (show 16 + 6 * c + 1 ≠ 14 by omega), upds]
            exact ⟨p2.1, by omega, Or.inl rfl⟩
          · refine okCd_c (okC_mono (Nat.le_refl B) ((ok_iff.mp h).2.1 c (by omega))) (fun i a b => ?_)
            rw [updn _ _ (by omega), updn _ _ (by omega), updn _ _ (by omega)]
        · dsimp only; rw [updn _ _ (by omega), updn _ _ (by omega), updn _ _ (by omega)]
        · dsimp only; rw [updn _ _ (by omega), updn _ _ (by omega), updn _ _ (by omega)]
      · show -100001 < (d 14 + 1 - 1).toInt
        rw [tsub (by rw [e1, tI1]; omega) (by rw [e1, tI1]; omega), e1, tI1]; omega
      · dsimp only; rw [updn _ _ (by omega), updn _ _ (by omega), updn _ _ (by omega)]
theorem ok_leaves (h : tk_ok B d) (c : Int32) : tk_ok B (tk_leaves d c).2 ∧ tk_ans d (tk_leaves d c) ∧ tk_far94 d (tk_leaves d c) := by
  unfold tk_leaves
  split
  · exact ⟨h, Or.inr ⟨Or.inl rfl, rfl⟩, fun _ _ => rfl⟩
  · rename_i hc
    simp only [Bool.not_eq_false] at hc
    obtain ⟨j, hj, hjl, rfl⟩ := ok_cus h hc
    obtain ⟨n, hn, e, en, ei⟩ := ok_n h
    rw [nI_clamp (show j < 2 ^ 31 by omega), en]
    have h8 := h.2.2.2.2.2.2.2.1
    have hC := (ok_iff.mp h).2.1
    have e1 : (d 14 - 1).toInt = n - 1 := by rw [tsub (by rw [ei, tI1]; omega) (by rw [ei, tI1]; omega), ei, tI1]
    have hr : -100001 < (d (16 + 6 * j)).toInt := by have := (hC j hjl).1; omega
    unfold tk_far94
    dsimp only
    generalize hd : (fun i => if 16 + 6 * j ≤ i ∧ i + 6 < 16 + 6 * n then d (i + 6) else if i = 14 then d 14 - 1 else d i) = d'
    have u : ∀ i, i ≠ 14 → ¬ (16 + 6 * j ≤ i ∧ i + 6 < 16 + 6 * n) → d' i = d i := fun i a b => by rw [← hd]; dsimp only; rw [if_neg b, if_neg a]
    have v : ∀ i, 16 + 6 * j ≤ i → i + 6 < 16 + 6 * n → d' i = d (i + 6) := fun i a b => by rw [← hd]; dsimp only; rw [if_pos ⟨a, b⟩]
    have u14 : (d' 14).toInt = n - 1 := by rw [← hd]; dsimp only; rw [if_neg (by omega), if_pos rfl, e1]
    refine ⟨ok_SC h ?_ (fun c hc => ?_) (u 15 (by omega) (by omega)) (fun i a b => u i (by omega) (by omega)), Or.inl (gtE hr), fun i hi => ?_⟩
    · obtain ⟨g1, g2, g3, g4, g5, g6, g7, g8⟩ := (ok_iff.mp h).1
      refine ⟨fun k hk2 => ?_, ?_, ?_, ?_, ?_, ?_, ?_, ?_⟩
      · rw [u _ (by omega) (by omega), u _ (by omega) (by omega)]; exact g1 k hk2
      · rw [u _ (by omega) (by omega)]; exact g2
      · rw [u _ (by omega) (by omega)]; exact g3
      · rw [u 9 (by omega) (by omega), u 10 (by omega) (by omega)]; exact g4
      · rw [u _ (by omega) (by omega)]; exact g5
      · rw [u _ (by omega) (by omega)]; exact g6
      · omega
      · rw [u _ (by omega) (by omega)]; exact g8
    · rw [u14] at hc
      by_cases q : c < j
      · exact okCd_c (hC c (by omega)) (fun i a b => u i (by omega) (by omega))
      · have := hC (c + 1) (by omega)
        unfold okCd at this ⊢
        rw [v _ (by omega) (by omega), v _ (by omega) (by omega), v _ (by omega) (by omega), v _ (by omega) (by omega), v _ (by omega) (by omega), v _ (by omega) (by omega)]
        rw [show 16 + 6 * c + 6 = 16 + 6 * (c + 1) by omega, show 16 + 6 * c + 1 + 6 = 16 + 6 * (c + 1) + 1 by omega, show 16 + 6 * c + 2 + 6 = 16 + 6 * (c + 1) + 2 by omega, show 16 + 6 * c + 3 + 6 = 16 + 6 * (c + 1) + 3 by omega, show 16 + 6 * c + 4 + 6 = 16 + 6 * (c + 1) + 4 by omega, show 16 + 6 * c + 5 + 6 = 16 + 6 * (c + 1) + 5 by omega]
        exact this
    · have z := u i (by omega) (by omega)
      rw [← hd] at z
      exact z
theorem ok_rems (h : tk_ok B d) (c : Int32) : tk_ok B (tk_rems d c).2 ∧ tk_ans d (tk_rems d c) ∧ tk_far94 d (tk_rems d c) := by
  unfold tk_rems
  split
  · exact ⟨h, Or.inr ⟨Or.inl rfl, rfl⟩, fun _ _ => rfl⟩
  · rename_i hc
    simp only [Bool.not_eq_false] at hc
    obtain ⟨j, hj, hjl, rfl⟩ := ok_pri h hc
    obtain ⟨n, hn, e, en, ei⟩ := ok_p h
    rw [nI_clamp (show j < 2 ^ 31 by omega), en]
    have h8 := h.2.2.2.2.2.2.1
    have hC := (ok_iff.mp h).2.2
    have e1 : (d 15 - 1).toInt = n - 1 := by rw [tsub (by rw [ei, tI1]; omega) (by rw [ei, tI1]; omega), ei, tI1]
    have hr : -100001 < (d (52 + 7 * j + 2)).toInt := by have := (hC j hjl).2.2.1; omega
    unfold tk_far94
    dsimp only
    generalize hd : (fun i => if 52 + 7 * j ≤ i ∧ i + 7 < 52 + 7 * n then d (i + 7) else if i = 15 then d 15 - 1 else d i) = d'
    have u : ∀ i, i ≠ 15 → ¬ (52 + 7 * j ≤ i ∧ i + 7 < 52 + 7 * n) → d' i = d i := fun i a b => by rw [← hd]; dsimp only; rw [if_neg b, if_neg a]
    have v : ∀ i, 52 + 7 * j ≤ i → i + 7 < 52 + 7 * n → d' i = d (i + 7) := fun i a b => by rw [← hd]; dsimp only; rw [if_pos ⟨a, b⟩]
    have u15 : (d' 15).toInt = n - 1 := by rw [← hd]; dsimp only; rw [if_neg (by omega), if_pos rfl, e1]
    refine ⟨ok_SP h ?_ (fun c hc => ?_) (u 14 (by omega) (by omega)) (fun i a b => u i (by omega) (by omega)), Or.inl (gtE hr), fun i hi => ?_⟩
    · obtain ⟨g1, g2, g3, g4, g5, g6, g7, g8⟩ := (ok_iff.mp h).1
      refine ⟨fun k hk2 => ?_, ?_, ?_, ?_, ?_, ?_, ?_, ?_⟩
      · rw [u _ (by omega) (by omega), u _ (by omega) (by omega)]; exact g1 k hk2
      · rw [u _ (by omega) (by omega)]; exact g2
      · rw [u _ (by omega) (by omega)]; exact g3
      · rw [u 9 (by omega) (by omega), u 10 (by omega) (by omega)]; exact g4
      · rw [u _ (by omega) (by omega)]; exact g5
      · rw [u _ (by omega) (by omega)]; exact g6
      · rw [u _ (by omega) (by omega)]; exact g7
      · omega
    · rw [u15] at hc
      by_cases q : c < j
      · exact okPd_c (hC c (by omega)) (fun i a b => u i (by omega) (by omega))
      · have := hC (c + 1) (by omega)
        unfold okPd at this ⊢
        rw [v _ (by omega) (by omega), v _ (by omega) (by omega), v _ (by omega) (by omega), v _ (by omega) (by omega), v _ (by omega) (by omega), v _ (by omega) (by omega)]
        rw [show 52 + 7 * c + 7 = 52 + 7 * (c + 1) by omega, show 52 + 7 * c + 1 + 7 = 52 + 7 * (c + 1) + 1 by omega, show 52 + 7 * c + 2 + 7 = 52 + 7 * (c + 1) + 2 by omega, show 52 + 7 * c + 3 + 7 = 52 + 7 * (c + 1) + 3 by omega, show 52 + 7 * c + 4 + 7 = 52 + 7 * (c + 1) + 4 by omega, show 52 + 7 * c + 5 + 7 = 52 + 7 * (c + 1) + 5 by omega]
        exact this
    · have z := u i (by omega) (by omega)
      rw [← hd] at z
      exact z
theorem ok_weighs (h : tk_ok B d) (hB : B ≤ 1000000000) (c k n v : Int32) : tk_ok (B + 60000) (tk_weighs d c k n v).2 ∧ tk_ans d (tk_weighs d c k n v) ∧ tk_far94 d (tk_weighs d c k n v) := by
  unfold tk_weighs
  split
  · exact ⟨ok_mono (by omega) h, Or.inr ⟨Or.inl rfl, rfl⟩, fun _ _ => rfl⟩
  · rename_i hc
    simp only [Bool.not_eq_false, Bool.and_eq_true] at hc
    obtain ⟨⟨⟨c1, c2⟩, c3⟩, c4⟩ := hc
    obtain ⟨j, hj, hjl, rfl⟩ := ok_cus h c1
    obtain ⟨kk, hkk, rfl⟩ := tk_k4 c2
    rw [nI_clamp (show kk < 2 ^ 31 by omega)] at c4 ⊢
    rw [nI_clamp (show j < 2 ^ 31 by omega)]
    have hw := weigh_b h hkk c3 c4 (d 11)
    have hn := tk_inI c3
    rw [tI1, show (500 : Int32).toInt = 500 from by decide] at hn
    unfold tk_weighR
    rw [nI_clamp (show kk < 2 ^ 31 by omega)]
    generalize tk_rd (n * d kk + v + d 10) (d 8) = r at hw ⊢
    obtain ⟨w1, w2, w3, w4, w5, w6⟩ := hw
    generalize tk_gu d r kk (d 11) = g at w4 w5 ⊢
    have hC := (ok_iff.mp h).2.1 j hjl
    have ep : (d (16 + 6 * j) + g).toInt = (d (16 + 6 * j)).toInt + g.toInt := by have := hC.1; have := hC.2.1; exact tadd (by omega) (by omega)
    unfold tk_weighW
    refine ⟨ok_C1 h (by omega) hj (fun i a b _ => ?_) ?_, Or.inl (gtE (show -100001 < g.toInt by omega)), fun i hi => ?_⟩
    · dsimp only
      rw [updn _ _ (by omega), updn _ _ (by omega), updn _ _ (by omega), updn _ _ (by omega), updn _ _ (by omega), updn _ _ (by omega), updn _ _ (by omega)]
    · dsimp only
      unfold okCd
      have e0 : ∀ f : Nat → Int32, ∀ x, upd f 13 x (16 + 6 * j) = f (16 + 6 * j) := fun f x => updn f x (by omega)
      simp only [upds, updn _ _ (show 16 + 6 * j ≠ 13 by omega), updn _ _ (show 16 + 6 * j + 1 ≠ 13 by omega), updn _ _ (show 16 + 6 * j + 2 ≠ 13 by omega), updn _ _ (show 16 + 6 * j + 3 ≠ 13 by omega), updn _ _ (show 16 + 6 * j + 4 ≠ 13 by omega), updn _ _ (show 16 + 6 * j + 5 ≠ 13 by omega),
        updn _ _ (show 16 + 6 * j ≠ 16 + 6 * j + 1 by omega), updn _ _ (show 16 + 6 * j ≠ 16 + 6 * j + 2 by omega), updn _ _ (show 16 + 6 * j ≠ 16 + 6 * j + 3 by omega), updn _ _ (show 16 + 6 * j ≠ 16 + 6 * j + 4 by omega), updn _ _ (show 16 + 6 * j ≠ 16 + 6 * j + 5 by omega),
        updn _ _ (show 16 + 6 * j + 1 ≠ 16 + 6 * j + 2 by omega), updn _ _ (show 16 + 6 * j + 1 ≠ 16 + 6 * j + 3 by omega), updn _ _ (show 16 + 6 * j + 1 ≠ 16 + 6 * j + 4 by omega), updn _ _ (show 16 + 6 * j + 1 ≠ 16 + 6 * j + 5 by omega),
        updn _ _ (show 16 + 6 * j + 2 ≠ 16 + 6 * j + 3 by omega), updn _ _ (show 16 + 6 * j + 2 ≠ 16 + 6 * j + 4 by omega), updn _ _ (show 16 + 6 * j + 2 ≠ 16 + 6 * j + 5 by omega), updn _ _ (show 16 + 6 * j + 3 ≠ 16 + 6 * j + 4 by omega), updn _ _ (show 16 + 6 * j + 3 ≠ 16 + 6 * j + 5 by omega), updn _ _ (show 16 + 6 * j + 4 ≠ 16 + 6 * j + 5 by omega)]
      have a := hC.1
      have b := hC.2.1
      have ek : (nI kk).toInt = kk := nI_toInt (by omega)
      exact ⟨by rw [ep]; omega, by rw [ep]; omega, Or.inr ⟨rfl, by rw [ek]; omega, hn, ⟨w1.1, w2⟩, w4, w5⟩⟩
    · dsimp only
      rw [updn _ _ (by omega), updn _ _ (by omega), updn _ _ (by omega), updn _ _ (by omega), updn _ _ (by omega), updn _ _ (by omega), updn _ _ (by omega)]
theorem less_b {p t g : Int32} (hp : 0 ≤ p.toInt) (hB : p.toInt ≤ 1000000000) (ht : 0 ≤ t.toInt) (ht2 : t.toInt ≤ 500) (hg : 0 ≤ g.toInt) (hg2 : g.toInt ≤ 60000) : 0 ≤ (tk_less p t g).toInt ∧ (tk_less p t g).toInt ≤ p.toInt + 500 := by
  have e1 : (p + t).toInt = p.toInt + t.toInt := tadd (by omega) (by omega)
  have e2 : (p + t - g).toInt = p.toInt + t.toInt - g.toInt := by rw [tsub (by omega) (by omega), e1]
  unfold tk_less
  split
  · rw [tI0]; omega
  · rename_i q
    rw [Int32.lt_iff_toInt_lt, e2, tI0] at q
    rw [e2]; omega
theorem ok_claims (h : tk_ok B d) (hB : B ≤ 1000000000) (c n : Int32) : tk_ok (B + 60000) (tk_claims d c n).2 ∧ tk_ans d (tk_claims d c n) ∧ tk_far94 d (tk_claims d c n) := by
  unfold tk_claims
  dsimp only
  split
  · exact ⟨ok_mono (by omega) h, Or.inr ⟨Or.inl rfl, rfl⟩, fun _ _ => rfl⟩
  · rename_i hc
    simp only [Bool.not_eq_false, Bool.and_eq_true] at hc
    obtain ⟨c1, c2⟩ := hc
    obtain ⟨j, hj, hjl, rfl⟩ := ok_cus h c1
    rw [nI_clamp (show j < 2 ^ 31 by omega)]
    have hC := (ok_iff.mp h).2.1 j hjl
    have hfee := h.2.2.2.2.2.1
    split
    · exact ⟨ok_mono (by omega) h, Or.inr ⟨Or.inr (Or.inl rfl), rfl⟩, fun _ _ => rfl⟩
    · rename_i hk
      have hk0 : ¬ d (16 + 6 * j + 1) = 0 := fun q => hk (Or.inl q)
      rcases hC.2.2 with q | ⟨-, -, hn, hr, hg⟩
      · exact absurd q hk0
      split
      · refine ⟨ok_mono (by omega) (ok_unkeep h hj), Or.inl (show (-100001 : Int32) < 0 by decide), fun i hi => ?_⟩
        dsimp only; rw [updn _ _ (by omega)]
      · have hl := less_b (p := d (16 + 6 * j)) (t := d (16 + 6 * j + 3)) (g := d (16 + 6 * j + 5)) hC.1 (by have := hC.2.1; omega) (by omega) (by omega) (by omega) (by omega)
        generalize tk_less (d (16 + 6 * j)) (d (16 + 6 * j + 3)) (d (16 + 6 * j + 5)) = x at hl ⊢
        have key : ∀ y : Int32, 0 ≤ y.toInt → y.toInt ≤ B + 500 → tk_ok (B + 60000) (upd (upd (upd d (16 + 6 * j + 1) 0) 13 (d 13 + (d (16 + 6 * j + 3) - d (16 + 6 * j + 5)))) (16 + 6 * j) y) := by
          intro y y0 y1
          refine ok_C1 h (by omega) hj (fun i a b _ => ?_) ?_
          · rw [updn _ _ (by omega), updn _ _ (by omega), updn _ _ (by omega)]
          · unfold okCd
            rw [upds, updn _ _ (show 16 + 6 * j + 1 ≠ 16 + 6 * j by omega), updn _ _ (show 16 + 6 * j + 1 ≠ 13 by omega), upds]
            exact ⟨y0, by omega, Or.inl rfl⟩
        have far : ∀ y : Int32, ∀ i, 94 ≤ i → upd (upd (upd d (16 + 6 * j + 1) 0) 13 (d 13 + (d (16 + 6 * j + 3) - d (16 + 6 * j + 5)))) (16 + 6 * j) y i = d i := fun y i hi => by rw [updn _ _ (by omega), updn _ _ (by omega), updn _ _ (by omega)]
        have hcb := hC.2.1
        split
        · exact ⟨key x hl.1 (by omega), Or.inl (show (-100001 : Int32) < 1 by decide), far x⟩
        · refine ⟨key _ ?_ ?_, Or.inl (show (-100001 : Int32) < 2 by decide), far _⟩
          · split
            · rw [tI0]; exact Int.le_refl 0
            · rename_i q
              rw [Int32.lt_iff_toInt_lt] at q
              rw [tsub (by omega) (by omega)]; omega
          · split
            · rw [tI0]; omega
            · rename_i q
              rw [Int32.lt_iff_toInt_lt] at q
              rw [tsub (by omega) (by omega)]; omega
theorem ok_adds (h : tk_ok B d) (p w s m b : Int32) : tk_ok B (tk_adds d p w s m b).2 ∧ tk_ans d (tk_adds d p w s m b) ∧ tk_far94 d (tk_adds d p w s m b) := by
  unfold tk_adds
  split
  · exact ⟨h, Or.inr ⟨Or.inl rfl, rfl⟩, fun _ _ => rfl⟩
  · rename_i hc
    simp only [Bool.not_eq_false, Bool.and_eq_true] at hc
    obtain ⟨⟨⟨⟨c1, c2⟩, c3⟩, c4⟩, c5⟩ := hc
    have c1 := tk_inI c1
    have c2 := tk_inI c2
    have c3 := tk_inI c3
    have c4 := tk_inI c4
    have c5 := tk_inI c5
    rw [show (5000 : Int32).toInt = 5000 from by decide, tI1] at c1
    rw [show (20000 : Int32).toInt = 20000 from by decide, tI1] at c2
    rw [show (99 : Int32).toInt = 99 from by decide, tI0] at c3
    rw [show (100000 : Int32).toInt = 100000 from by decide, tI1] at c4 c5
    split
    · exact ⟨h, Or.inr ⟨Or.inr (Or.inr rfl), rfl⟩, fun _ _ => rfl⟩
    · rename_i h6
      obtain ⟨n, hn, e, en, ei⟩ := ok_p h
      have hn6 : n ≠ 6 := fun q => h6 (by rw [e, q]; rfl)
      rw [en]
      have e1 : (d 15 + 1).toInt = n + 1 := by rw [tadd (by rw [ei, tI1]; omega) (by rw [ei, tI1]; omega), ei, tI1]
      have h7 := h.2.2.2.2.2.2.1
      have u : ∀ i, i ≠ 15 → (i < 52 + 7 * n ∨ 52 + 7 * n + 7 ≤ i) → (upd (upd (upd (upd (upd (upd (upd (upd d (52 + 7 * n) p) (52 + 7 * n + 1) w) (52 + 7 * n + 2) s) (52 + 7 * n + 3) m) (52 + 7 * n + 4) b) (52 + 7 * n + 5) 0) (52 + 7 * n + 6) 0) 15 (d 15 + 1)) i = d i := fun i a b => by
        rw [updn _ _ (by omega), updn _ _ (by omega), updn _ _ (by omega), updn _ _ (by omega), updn _ _ (by omega), updn _ _ (by omega), updn _ _ (by omega), updn _ _ (by omega)]
      refine ⟨?_, Or.inl (gtE ?_), fun i hi => u i (by omega) (by omega)⟩
      · refine ok_SP h ?_ (fun q hq => ?_) (u 14 (by omega) (by omega)) (fun i a b => u i (by omega) (by omega))
        · obtain ⟨g1, g2, g3, g4, g5, g6, g7, g8⟩ := (ok_iff.mp h).1
          dsimp only
          refine ⟨fun k hk2 => ?_, ?_, ?_, ?_, ?_, ?_, ?_, ?_⟩
          · rw [u _ (by omega) (by omega), u _ (by omega) (by omega)]; exact g1 k hk2
          · rw [u _ (by omega) (by omega)]; exact g2
          · rw [u _ (by omega) (by omega)]; exact g3
          · rw [u _ (by omega) (by omega), u _ (by omega) (by omega)]; exact g4
          · rw [u _ (by omega) (by omega)]; exact g5
          · rw [u _ (by omega) (by omega)]; exact g6
          · rw [u _ (by omega) (by omega)]; exact g7
          · rw [upds, e1]; omega
        · dsimp only at hq ⊢
          rw [upds, e1] at hq
          by_cases z : q = n
          · subst z
            unfold okPd
            simp only [upds, updn _ _ (show 52 + 7 * q ≠ 15 by omega), updn _ _ (show 52 + 7 * q + 1 ≠ 15 by omega), updn _ _ (show 52 + 7 * q + 2 ≠ 15 by omega), updn _ _ (show 52 + 7 * q + 3 ≠ 15 by omega), updn _ _ (show 52 + 7 * q + 4 ≠ 15 by omega), updn _ _ (show 52 + 7 * q + 5 ≠ 15 by omega),
              updn _ _ (show 52 + 7 * q ≠ 52 + 7 * q + 1 by omega), updn _ _ (show 52 + 7 * q ≠ 52 + 7 * q + 2 by omega), updn _ _ (show 52 + 7 * q ≠ 52 + 7 * q + 3 by omega), updn _ _ (show 52 + 7 * q ≠ 52 + 7 * q + 4 by omega), updn _ _ (show 52 + 7 * q ≠ 52 + 7 * q + 5 by omega), updn _ _ (show 52 + 7 * q ≠ 52 + 7 * q + 6 by omega),
              updn _ _ (show 52 + 7 * q + 1 ≠ 52 + 7 * q + 2 by omega), updn _ _ (show 52 + 7 * q + 1 ≠ 52 + 7 * q + 3 by omega), updn _ _ (show 52 + 7 * q + 1 ≠ 52 + 7 * q + 4 by omega), updn _ _ (show 52 + 7 * q + 1 ≠ 52 + 7 * q + 5 by omega), updn _ _ (show 52 + 7 * q + 1 ≠ 52 + 7 * q + 6 by omega),
              updn _ _ (show 52 + 7 * q + 2 ≠ 52 + 7 * q + 3 by omega), updn _ _ (show 52 + 7 * q + 2 ≠ 52 + 7 * q + 4 by omega), updn _ _ (show 52 + 7 * q + 2 ≠ 52 + 7 * q + 5 by omega), updn _ _ (show 52 + 7 * q + 2 ≠ 52 + 7 * q + 6 by omega), updn _ _ (show 52 + 7 * q + 3 ≠ 52 + 7 * q + 4 by omega), updn _ _ (show 52 + 7 * q + 3 ≠ 52 + 7 * q + 5 by omega), updn _ _ (show 52 + 7 * q + 3 ≠ 52 + 7 * q + 6 by omega),
              updn _ _ (show 52 + 7 * q + 4 ≠ 52 + 7 * q + 5 by omega), updn _ _ (show 52 + 7 * q + 4 ≠ 52 + 7 * q + 6 by omega), updn _ _ (show 52 + 7 * q + 5 ≠ 52 + 7 * q + 6 by omega)]
            exact ⟨c1, c2, c3, c4, c5, by rw [tI0]; omega⟩
          · exact okPd_c ((ok_iff.mp h).2.2 q (by omega)) (fun i a b => u i (by omega) (by omega))
      · show -100001 < (d 15 + 1 - 1).toInt
        rw [tsub (by rw [e1, tI1]; omega) (by rw [e1, tI1]; omega), e1, tI1]; omega
theorem ok_price (h : tk_ok B d) (c v : Int32) : tk_ok B (tk_price d c v).2 ∧ tk_ans d (tk_price d c v) ∧ tk_far94 d (tk_price d c v) := by
  unfold tk_price
  split
  · exact ⟨h, Or.inr ⟨Or.inl rfl, rfl⟩, fun _ _ => rfl⟩
  · rename_i hc
    simp only [Bool.not_eq_false] at hc
    obtain ⟨j, hj, hjl, rfl⟩ := ok_pri h hc
    rw [nI_clamp (show j < 2 ^ 31 by omega)]
    unfold tk_sets
    split
    · exact ⟨h, Or.inr ⟨Or.inl rfl, rfl⟩, fun _ _ => rfl⟩
    · rename_i hv
      simp only [Bool.not_eq_false] at hv
      have v2 := tk_inI hv
      rw [tI1, show (5000 : Int32).toInt = 5000 from by decide] at v2
      have hP := (ok_iff.mp h).2.2
      have hj2 := hP j hjl
      refine ⟨ok_SP h (okS_c (ok_iff.mp h).1 (fun i a _ => updn _ _ (by omega))) (fun q hq => ?_) (updn _ _ (by omega)) (fun i a b => updn _ _ (by omega)), Or.inl (gtE (show -100001 < (d (52 + 7 * j)).toInt by have := hj2.1; omega)), fun i hi => updn _ _ (by omega)⟩
      dsimp only at hq ⊢
      rw [updn _ _ (by omega)] at hq
      by_cases z : q = j
      · subst z
        unfold okPd at hj2 ⊢
        rw [upds, updn _ _ (by omega), updn _ _ (by omega), updn _ _ (by omega), updn _ _ (by omega), updn _ _ (by omega)]
        exact ⟨v2, hj2.2⟩
      · exact okPd_c (hP q hq) (fun i a b => updn _ _ (by omega))
theorem stk_b {s x e : Int32} (hs : 0 ≤ s.toInt) (hx : 0 ≤ x.toInt) (he : 0 ≤ e.toInt) : (tk_stk s x e).toInt = min 99 (s.toInt + x.toInt * e.toInt) ∧ s.toInt64.toInt + x.toInt64.toInt * e.toInt64.toInt = s.toInt + x.toInt * e.toInt ∧ (s.toInt64 + x.toInt64 * e.toInt64).toInt = s.toInt + x.toInt * e.toInt := by
  have a1 : s.toInt64.toInt = s.toInt := Int32.toInt_toInt64 s
  have a2 : x.toInt64.toInt = x.toInt := Int32.toInt_toInt64 x
  have a3 : e.toInt64.toInt = e.toInt := Int32.toInt_toInt64 e
  have b1 := s.toInt_lt
  have b2 := x.toInt_lt
  have b3 := e.toInt_lt
  have c0 : 0 ≤ x.toInt * e.toInt := Int.mul_nonneg hx he
  have c1 : x.toInt * e.toInt ≤ 2147483647 * 2147483647 := Int.mul_le_mul (by omega) (by omega) he (by omega)
  have m1 : (x.toInt64 * e.toInt64).toInt = x.toInt * e.toInt := by
    rw [Int64.toInt_mul, a2, a3]; exact Int.bmod_eq_of_le (by omega) (by omega)
  have m2 : (s.toInt64 + x.toInt64 * e.toInt64).toInt = s.toInt + x.toInt * e.toInt := by
    rw [Int64.toInt_add, a1, m1]; exact Int.bmod_eq_of_le (by omega) (by omega)
  refine ⟨?_, by rw [a1, a2, a3], m2⟩
  unfold tk_stk
  split
  · rename_i q
    rw [Int64.lt_iff_toInt_lt, m2, show (99 : Int64).toInt = 99 from by decide] at q
    rw [show (99 : Int32).toInt = 99 from by decide]
    omega
  · rename_i q
    rw [Int64.lt_iff_toInt_lt, m2, show (99 : Int64).toInt = 99 from by decide] at q
    rw [Int64.toInt_toInt32, m2, Int.bmod_eq_of_le (by omega) (by omega)]
    omega
theorem ok_buys (h : tk_ok B d) (c p n : Int32) : tk_ok B (tk_buys d c p n).2 ∧ tk_ans d (tk_buys d c p n) ∧ tk_far94 d (tk_buys d c p n) := by
  unfold tk_buys
  split
  · exact ⟨h, Or.inr ⟨Or.inl rfl, rfl⟩, fun _ _ => rfl⟩
  · rename_i hc
    simp only [Bool.not_eq_false, Bool.and_eq_true] at hc
    obtain ⟨⟨c1, c2⟩, c3⟩ := hc
    obtain ⟨j, hj, hjl, rfl⟩ := ok_cus h c1
    obtain ⟨q, hq, hql, rfl⟩ := ok_pri h c2
    have n2 := tk_inI c3
    rw [tI1, show (99 : Int32).toInt = 99 from by decide] at n2
    rw [nI_clamp (show j < 2 ^ 31 by omega), nI_clamp (show q < 2 ^ 31 by omega)]
    have hC := (ok_iff.mp h).2.1 j hjl
    have hP := (ok_iff.mp h).2.2 q hql
    split
    · exact ⟨h, Or.inr ⟨Or.inr (Or.inl rfl), rfl⟩, fun _ _ => rfl⟩
    · rename_i q1
      split
      · exact ⟨h, Or.inr ⟨Or.inr (Or.inr rfl), rfl⟩, fun _ _ => rfl⟩
      · rename_i q2
        rw [Int32.lt_iff_toInt_lt] at q1 q2
        obtain ⟨p1, p2, p3, p4, p5, p6⟩ := hP
        have m0 : 0 ≤ n.toInt * (d (52 + 7 * q)).toInt := Int.mul_nonneg (by omega) (by omega)
        have m1 : n.toInt * (d (52 + 7 * q)).toInt ≤ 99 * 5000 := Int.mul_le_mul (by omega) (by omega) (by omega) (by omega)
        have m2 : (n * d (52 + 7 * q)).toInt = n.toInt * (d (52 + 7 * q)).toInt := tmul (by omega) (by omega)
        rw [m2] at q1
        have k1 := hC.1
        have k2 := hC.2.1
        have e1 : (d (16 + 6 * j) - n * d (52 + 7 * q)).toInt = (d (16 + 6 * j)).toInt - n.toInt * (d (52 + 7 * q)).toInt := by rw [tsub (by have := (d (16 + 6 * j)).toInt_lt; omega) (by have := (d (16 + 6 * j)).toInt_lt; omega), m2]
        have w0 : 0 ≤ n.toInt * (d (52 + 7 * q + 1)).toInt := Int.mul_nonneg (by omega) (by omega)
        have w1 : n.toInt * (d (52 + 7 * q + 1)).toInt ≤ 99 * 20000 := Int.mul_le_mul (by omega) (by omega) (by omega) (by omega)
        have w2 : (n * d (52 + 7 * q + 1)).toInt = n.toInt * (d (52 + 7 * q + 1)).toInt := tmul (by omega) (by omega)
        have e2 : (d (52 + 7 * q + 5) + n * d (52 + 7 * q + 1)).toInt = (d (52 + 7 * q + 5)).toInt + n.toInt * (d (52 + 7 * q + 1)).toInt := by rw [tadd (by omega) (by omega), w2]
        unfold tk_buyW
        dsimp only
        generalize d (52 + 7 * q + 5) + n * d (52 + 7 * q + 1) = s at e2 ⊢
        have s0 : 0 ≤ s.toInt := by omega
        have hm : 0 < (d (52 + 7 * q + 3)).toInt := by omega
        have r1 := trm (a := s) hm
        have r2 := Int.tmod_nonneg (d (52 + 7 * q + 3)).toInt s0
        have r3 := Int.tmod_lt_of_pos s.toInt hm
        have t1 : 0 ≤ (s / d (52 + 7 * q + 3)).toInt := by rw [tdv hm, Int.tdiv_eq_ediv_of_nonneg s0]; exact Int.ediv_nonneg s0 (by omega)
        have t2 : 0 ≤ (d (52 + 7 * q + 4) / d (52 + 7 * q + 1)).toInt := by rw [tdv (by omega), Int.tdiv_eq_ediv_of_nonneg (by omega)]; exact Int.ediv_nonneg (by omega) (by omega)
        have e3 : (d (52 + 7 * q + 2) - n).toInt = (d (52 + 7 * q + 2)).toInt - n.toInt := tsub (by omega) (by omega)
        have t3 := (stk_b (s := d (52 + 7 * q + 2) - n) (by omega) t1 t2).1
        have t4 : 0 ≤ (s / d (52 + 7 * q + 3)).toInt * (d (52 + 7 * q + 4) / d (52 + 7 * q + 1)).toInt := Int.mul_nonneg t1 t2
        generalize tk_stk (d (52 + 7 * q + 2) - n) (s / d (52 + 7 * q + 3)) (d (52 + 7 * q + 4) / d (52 + 7 * q + 1)) = st at t3 ⊢
        generalize s - s / d (52 + 7 * q + 3) * d (52 + 7 * q + 3) = o at r1 ⊢
        generalize d (52 + 7 * q + 6) + s / d (52 + 7 * q + 3) = bx
        generalize d (16 + 6 * j) - n * d (52 + 7 * q) = pt at e1 ⊢
        have h1 : tk_ok B (upd d (16 + 6 * j) pt) := by
          refine ok_C1 h (Nat.le_refl B) hj (fun i a b _ => updn _ _ (by omega)) ?_
          unfold okCd
          rw [upds, updn _ _ (by omega), updn _ _ (by omega), updn _ _ (by omega), updn _ _ (by omega), updn _ _ (by omega)]
          exact ⟨by omega, by omega, hC.2.2⟩
        refine ⟨ok_SP h1 (okS_c (ok_iff.mp h1).1 (fun i a _ => ?_)) (fun x hx => ?_) ?_ (fun i a b => ?_), Or.inl (gtE (show -100001 < pt.toInt by omega)), fun i hi => ?_⟩
        · (try dsimp only); rw [updn _ _ (by omega), updn _ _ (by omega), updn _ _ (by omega)]
        · rw [updn _ _ (by omega), updn _ _ (by omega), updn _ _ (by omega)] at hx
          have hx2 := (ok_iff.mp h1).2.2 x hx
          by_cases z : x = q
          · subst z
            unfold okPd at hx2 ⊢
            rw [updn _ _ (show 52 + 7 * x ≠ 52 + 7 * x + 6 by omega), updn _ _ (show 52 + 7 * x ≠ 52 + 7 * x + 2 by omega), updn _ _ (show 52 + 7 * x ≠ 52 + 7 * x + 5 by omega)]
            rw [updn _ _ (show 52 + 7 * x + 1 ≠ 52 + 7 * x + 6 by omega), updn _ _ (show 52 + 7 * x + 1 ≠ 52 + 7 * x + 2 by omega), updn _ _ (show 52 + 7 * x + 1 ≠ 52 + 7 * x + 5 by omega)]
            rw [updn _ _ (show 52 + 7 * x + 2 ≠ 52 + 7 * x + 6 by omega), upds]
            rw [updn _ _ (show 52 + 7 * x + 3 ≠ 52 + 7 * x + 6 by omega), updn _ _ (show 52 + 7 * x + 3 ≠ 52 + 7 * x + 2 by omega), updn _ _ (show 52 + 7 * x + 3 ≠ 52 + 7 * x + 5 by omega)]
            rw [updn _ _ (show 52 + 7 * x + 4 ≠ 52 + 7 * x + 6 by omega), updn _ _ (show 52 + 7 * x + 4 ≠ 52 + 7 * x + 2 by omega), updn _ _ (show 52 + 7 * x + 4 ≠ 52 + 7 * x + 5 by omega)]
            rw [updn _ _ (show 52 + 7 * x + 5 ≠ 52 + 7 * x + 6 by omega), updn _ _ (show 52 + 7 * x + 5 ≠ 52 + 7 * x + 2 by omega), upds]
            refine ⟨hx2.1, hx2.2.1, by omega, hx2.2.2.2.1, hx2.2.2.2.2.1, ?_⟩
            rw [updn _ _ (by omega)]
            omega
          · exact okPd_c hx2 (fun i a b => by rw [updn _ _ (by omega), updn _ _ (by omega), updn _ _ (by omega)])
        · (try dsimp only); rw [updn _ _ (by omega), updn _ _ (by omega), updn _ _ (by omega)]
        · (try dsimp only); rw [updn _ _ (by omega), updn _ _ (by omega), updn _ _ (by omega)]
        · (try dsimp only); rw [updn _ _ (by omega), updn _ _ (by omega), updn _ _ (by omega), updn _ _ (by omega)]
/-- the counter and its two snapshots -/
def tk_okA (B : Nat) (d : Nat → Int32) : Prop := tk_ok B d ∧ ∀ s, s < 2 → ¬ d (94 + 95 * s) = 0 → tk_ok B (fun i => d (95 + 95 * s + i))
theorem okA_mono {B' : Nat} (hB : B ≤ B') (h : tk_okA B d) : tk_okA B' d := ⟨ok_mono hB h.1, fun s hs hn => ok_mono hB (h.2 s hs hn)⟩
theorem okA_of {B' : Nat} (hB : B ≤ B') (h : tk_okA B d) {o : Int32 × (Nat → Int32)} (h1 : tk_ok B' o.2) (h2 : tk_far94 d o) : tk_okA B' o.2 := by
  refine ⟨h1, fun s hs hn => ?_⟩
  rw [h2 _ (by omega)] at hn
  exact ok_cong (ok_mono hB (h.2 s hs hn)) (fun i hi => h2 _ (by omega))
theorem sum_b {f : Nat → Int32} {M : Int} (hM : 0 ≤ M) (h7 : 7 * M ≤ 2147483647) : ∀ n, n ≤ 6 → (∀ i, i < n → 0 ≤ (f i).toInt ∧ (f i).toInt ≤ M) → 0 ≤ (tk_sum f n).toInt ∧ (tk_sum f n).toInt ≤ n * M
  | 0, _, _ => by rw [tk_sum, tI0]; omega
  | n + 1, hn, h => by
    have ih := sum_b hM h7 n (by omega) (fun i hi => h i (by omega))
    have hx := h n (by omega)
    have hb : (n : Int) * M ≤ 6 * M := Int.mul_le_mul_of_nonneg_right (by omega) hM
    have e : (tk_sum f n + f n).toInt = (tk_sum f n).toInt + (f n).toInt := tadd (by omega) (by omega)
    rw [tk_sum, e]
    have : ((n + 1 : Nat) : Int) * M = n * M + M := by rw [Int.natCast_add, Int.add_mul]; omega
    omega
theorem pts_b (h : tk_ok B d) (hB : B ≤ 300000000) : 0 ≤ (tk_pts d).toInt := by
  obtain ⟨n, hn, e, en, ei⟩ := ok_n h
  unfold tk_pts
  rw [en]
  exact (sum_b (M := B) (by omega) (by omega) n hn (fun i hi => by have := (ok_iff.mp h).2.1 i (by omega); exact ⟨this.1, this.2.1⟩)).1
theorem ok_takes (h : tk_okA B d) (hB : B ≤ 300000000) (s : Int32) : tk_okA B (tk_takes d s).2 ∧ tk_ans d (tk_takes d s) := by
  unfold tk_takes
  split
  · exact ⟨h, Or.inr ⟨Or.inl rfl, rfl⟩⟩
  · rename_i hs
    simp only [Bool.not_eq_false] at hs
    obtain ⟨s1, hs1, rfl⟩ := tk_inN (n := 1) (by decide) hs
    rw [nI_clamp (show s1 < 2 ^ 31 by omega)]
    have hp := pts_b h.1 hB
    refine ⟨⟨ok_cong h.1 (fun i hi => ?_), fun t ht hn => ?_⟩, Or.inl (gtE (show -100001 < (tk_pts d).toInt by omega))⟩
    · dsimp only; rw [if_neg (by omega), if_neg (by omega)]
    · dsimp only at hn ⊢
      by_cases q : t = s1
      · subst q
        refine ok_cong h.1 (fun i hi => ?_)
        rw [if_neg (by omega), if_pos (by omega), show 95 + 95 * t + i - (95 + 95 * t) = i by omega]
      · rw [if_neg (by omega), if_neg (by omega)] at hn
        refine ok_cong (h.2 t ht hn) (fun i hi => ?_)
        (try dsimp only)
        rw [if_neg (by omega), if_neg (by omega)]
theorem ok_rests (h : tk_okA B d) (hB : B ≤ 300000000) (s : Int32) : tk_okA B (tk_rests d s).2 ∧ tk_ans d (tk_rests d s) := by
  unfold tk_rests
  split
  · exact ⟨h, Or.inr ⟨Or.inl rfl, rfl⟩⟩
  · rename_i hs
    simp only [Bool.not_eq_false] at hs
    obtain ⟨s1, hs1, rfl⟩ := tk_inN (n := 1) (by decide) hs
    rw [nI_clamp (show s1 < 2 ^ 31 by omega)]
    split
    · exact ⟨h, Or.inr ⟨Or.inr (Or.inl rfl), rfl⟩⟩
    · rename_i hn
      have hk := h.2 s1 (by omega) hn
      have hp := pts_b hk hB
      refine ⟨⟨ok_cong hk (fun i hi => ?_), fun t ht hn => ?_⟩, Or.inl (gtE (by dsimp only; omega))⟩
      · dsimp only; rw [if_pos hi]
      · dsimp only at hn ⊢
        rw [if_neg (by omega)] at hn
        refine ok_cong (h.2 t ht hn) (fun i hi => ?_)
        (try dsimp only)
        rw [if_neg (by omega)]
end OPS
