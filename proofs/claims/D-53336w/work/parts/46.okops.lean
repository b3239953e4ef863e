/-! every action keeps the numbers in their ranges -/
def okS (d : Nat → Int32) : Prop :=
  (∀ k, k < 4 → 100 ≤ (d k).toInt ∧ (d k).toInt ≤ 5000 ∧ 0 ≤ (d (4 + k)).toInt ∧ (d (4 + k)).toInt ≤ 50) ∧
  (1 ≤ (d 8).toInt ∧ (d 8).toInt ≤ 1000) ∧ (0 ≤ (d 9).toInt ∧ (d 9).toInt ≤ 2000) ∧ (-(d 9).toInt ≤ (d 10).toInt ∧ (d 10).toInt ≤ (d 9).toInt) ∧
  (0 ≤ (d 11).toInt ∧ (d 11).toInt ≤ 3) ∧ (0 ≤ (d 12).toInt ∧ (d 12).toInt ≤ 100) ∧ (0 ≤ (d 14).toInt ∧ (d 14).toInt ≤ 6) ∧ (0 ≤ (d 15).toInt ∧ (d 15).toInt ≤ 6)
/-- six numbers are a customer -/
def okC (B : Nat) (a b k n r g : Int32) : Prop := 0 ≤ a.toInt ∧ a.toInt ≤ B ∧ (b = 0 ∨ (b = 1 ∧ (0 ≤ k.toInt ∧ k.toInt ≤ 3) ∧ (1 ≤ n.toInt ∧ n.toInt ≤ 500) ∧ (0 ≤ r.toInt ∧ r.toInt ≤ 3000000) ∧ (0 ≤ g.toInt ∧ g.toInt ≤ 60000)))
def okP (p w s m b o : Int32) : Prop := (1 ≤ p.toInt ∧ p.toInt ≤ 5000) ∧ (1 ≤ w.toInt ∧ w.toInt ≤ 20000) ∧ (0 ≤ s.toInt ∧ s.toInt ≤ 99) ∧ (1 ≤ m.toInt ∧ m.toInt ≤ 100000) ∧ (1 ≤ b.toInt ∧ b.toInt ≤ 100000) ∧ (0 ≤ o.toInt ∧ o.toInt < m.toInt)
def okCd (B : Nat) (d : Nat → Int32) (c : Nat) : Prop := okC B (d (16 + 6 * c)) (d (16 + 6 * c + 1)) (d (16 + 6 * c + 2)) (d (16 + 6 * c + 3)) (d (16 + 6 * c + 4)) (d (16 + 6 * c + 5))
def okPd (d : Nat → Int32) (p : Nat) : Prop := okP (d (52 + 7 * p)) (d (52 + 7 * p + 1)) (d (52 + 7 * p + 2)) (d (52 + 7 * p + 3)) (d (52 + 7 * p + 4)) (d (52 + 7 * p + 5))
theorem ok_iff {B : Nat} {d : Nat → Int32} : tk_ok B d ↔ okS d ∧ (∀ c : Nat, (c : Int) < (d 14).toInt → okCd B d c) ∧ (∀ p : Nat, (p : Int) < (d 15).toInt → okPd d p) := by
  constructor
  · rintro ⟨h1, h2, h3, h4, h5, h6, h7, h8, h9, h10⟩
    exact ⟨⟨h1, h2, h3, h4, h5, h6, h7, h8⟩, h9, h10⟩
  · rintro ⟨⟨h1, h2, h3, h4, h5, h6, h7, h8⟩, h9, h10⟩
    exact ⟨h1, h2, h3, h4, h5, h6, h7, h8, h9, h10⟩
theorem okC_mono {B B' : Nat} (hB : B ≤ B') {a b k n r g : Int32} (h : okC B a b k n r g) : okC B' a b k n r g := ⟨h.1, by have := h.2.1; omega, h.2.2⟩
theorem okCd_c {B : Nat} {d d' : Nat → Int32} {c : Nat} (h : okCd B d c) (e : ∀ i, 16 + 6 * c ≤ i → i < 16 + 6 * c + 6 → d' i = d i) : okCd B d' c := by
  unfold okCd
  rw [e (16 + 6 * c) (by omega) (by omega), e (16 + 6 * c + 1) (by omega) (by omega), e (16 + 6 * c + 2) (by omega) (by omega), e (16 + 6 * c + 3) (by omega) (by omega), e (16 + 6 * c + 4) (by omega) (by omega), e (16 + 6 * c + 5) (by omega) (by omega)]
  exact h
theorem okPd_c {d d' : Nat → Int32} {p : Nat} (h : okPd d p) (e : ∀ i, 52 + 7 * p ≤ i → i < 52 + 7 * p + 6 → d' i = d i) : okPd d' p := by
  unfold okPd
  rw [e (52 + 7 * p) (by omega) (by omega), e (52 + 7 * p + 1) (by omega) (by omega), e (52 + 7 * p + 2) (by omega) (by omega), e (52 + 7 * p + 3) (by omega) (by omega), e (52 + 7 * p + 4) (by omega) (by omega), e (52 + 7 * p + 5) (by omega) (by omega)]
  exact h
theorem okS_c {d d' : Nat → Int32} (h : okS d) (e : ∀ i, i < 16 → i ≠ 13 → d' i = d i) : okS d' := by
  obtain ⟨h1, h2, h3, h4, h5, h6, h7, h8⟩ := h
  refine ⟨fun k hk => ?_, ?_, ?_, ?_, ?_, ?_, ?_, ?_⟩
  · rw [e k (by omega) (by omega), e (4 + k) (by omega) (by omega)]; exact h1 k hk
  · rw [e 8 (by omega) (by omega)]; exact h2
  · rw [e 9 (by omega) (by omega)]; exact h3
  · rw [e 9 (by omega) (by omega), e 10 (by omega) (by omega)]; exact h4
  · rw [e 11 (by omega) (by omega)]; exact h5
  · rw [e 12 (by omega) (by omega)]; exact h6
  · rw [e 14 (by omega) (by omega)]; exact h7
  · rw [e 15 (by omega) (by omega)]; exact h8
theorem ok_mono {B B' : Nat} (hB : B ≤ B') {d : Nat → Int32} (h : tk_ok B d) : tk_ok B' d := by
  rw [ok_iff] at h ⊢
  exact ⟨h.1, fun c hc => okC_mono hB (h.2.1 c hc), h.2.2⟩
theorem ok_cong {B : Nat} {d d' : Nat → Int32} (h : tk_ok B d) (e : ∀ i, i < 94 → d' i = d i) : tk_ok B d' := by
  have h8 := h.2.2.2.2.2.2.2.1
  have h7 := h.2.2.2.2.2.2.1
  rw [ok_iff] at h ⊢
  refine ⟨okS_c h.1 (fun i a _ => e i (by omega)), fun c hc => ?_, fun p hp => ?_⟩
  · rw [e 14 (by omega)] at hc
    exact okCd_c (h.2.1 c hc) (fun i a b => e i (by omega))
  · rw [e 15 (by omega)] at hp
    exact okPd_c (h.2.2 p hp) (fun i a b => e i (by omega))
/-- the scalars change alone -/
theorem ok_S {B : Nat} {d d' : Nat → Int32} (h : tk_ok B d) (hs : okS d') (e14 : d' 14 = d 14) (e15 : d' 15 = d 15) (e : ∀ i, 16 ≤ i → i < 94 → d' i = d i) : tk_ok B d' := by
  have h8 := h.2.2.2.2.2.2.2.1
  have h7 := h.2.2.2.2.2.2.1
  rw [ok_iff] at h ⊢
  refine ⟨hs, fun c hc => ?_, fun p hp => ?_⟩
  · rw [e14] at hc
    exact okCd_c (h.2.1 c hc) (fun i a b => e i (by omega) (by omega))
  · rw [e15] at hp
    exact okPd_c (h.2.2 p hp) (fun i a b => e i (by omega) (by omega))
theorem ok_SC {B B' : Nat} {d d' : Nat → Int32} (h : tk_ok B d) (hs : okS d') (hC : ∀ c : Nat, (c : Int) < (d' 14).toInt → okCd B' d' c) (e15 : d' 15 = d 15) (e : ∀ i, 52 ≤ i → i < 94 → d' i = d i) : tk_ok B' d' := by
  have h8 := h.2.2.2.2.2.2.2.1
  rw [ok_iff] at h ⊢
  refine ⟨hs, hC, fun p hp => ?_⟩
  rw [e15] at hp
  exact okPd_c (h.2.2 p hp) (fun i a b => e i (by omega) (by omega))
theorem ok_SP {B : Nat} {d d' : Nat → Int32} (h : tk_ok B d) (hs : okS d') (hP : ∀ p : Nat, (p : Int) < (d' 15).toInt → okPd d' p) (e14 : d' 14 = d 14) (e : ∀ i, 16 ≤ i → i < 52 → d' i = d i) : tk_ok B d' := by
  have h7 := h.2.2.2.2.2.2.1
  rw [ok_iff] at h ⊢
  refine ⟨hs, fun c hc => ?_, hP⟩
  rw [e14] at hc
  exact okCd_c (h.2.1 c hc) (fun i a b => e i (by omega) (by omega))
theorem updn (f : Nat → Int32) {k j : Nat} (x : Int32) (h : j ≠ k) : upd f k x j = f j := pk_un h
theorem upds (f : Nat → Int32) (k : Nat) (x : Int32) : upd f k x k = x := pk_us
/-- an answer: a refusal, with nothing changed, or none -/
def tk_ans (d : Nat → Int32) (o : Int32 × (Nat → Int32)) : Prop := -100001 < o.1 ∨ ((o.1 = -100001 ∨ o.1 = -100002 ∨ o.1 = -100003) ∧ o.2 = d)
def tk_far94 (d : Nat → Int32) (o : Int32 × (Nat → Int32)) : Prop := ∀ i, 94 ≤ i → o.2 i = d i
theorem gtE {r : Int32} (h : -100001 < r.toInt) : (-100001 : Int32) < r := by rw [Int32.lt_iff_toInt_lt]; exact h
section OPS
variable {B : Nat} {d : Nat → Int32}
theorem ok_kinds (h : tk_ok B d) (k w s : Int32) : tk_ok B (tk_kinds d k w s).2 ∧ tk_ans d (tk_kinds d k w s) ∧ tk_far94 d (tk_kinds d k w s) := by
  unfold tk_kinds
  split
  · exact ⟨h, Or.inr ⟨Or.inl rfl, rfl⟩, fun _ _ => rfl⟩
  · rename_i hc
    simp only [Bool.not_eq_false, Bool.and_eq_true] at hc
    obtain ⟨⟨c1, c2⟩, c3⟩ := hc
    obtain ⟨kk, hkk, rfl⟩ := tk_k4 c1
    have w2 := tk_inI c2
    have s2 := tk_inI c3
    rw [show (100 : Int32).toInt = 100 from by decide, show (5000 : Int32).toInt = 5000 from by decide] at w2
    rw [tI0, show (50 : Int32).toInt = 50 from by decide] at s2
    rw [nI_clamp (show kk < 2 ^ 31 by omega)]
    have hk := h.1
    refine ⟨ok_S h ⟨fun k hk2 => ?_, ?_, ?_, ?_, ?_, ?_, ?_, ?_⟩ ?_ ?_ ?_, Or.inl (gtE (by have := hk kk hkk; show -100001 < (d kk).toInt; omega)), fun i hi => ?_⟩
    · dsimp only
      by_cases q : k = kk
      · subst q
        rw [updn _ _ (by omega), upds, upds]
        exact ⟨w2.1, w2.2, s2.1, s2.2⟩
      · rw [updn _ _ (by omega), updn _ _ (by omega), updn _ _ (by omega), updn _ _ (by omega)]
        exact hk k hk2
    · dsimp only; rw [updn _ _ (by omega), updn _ _ (by omega)]; exact h.2.1
    · dsimp only; rw [updn _ _ (by omega), updn _ _ (by omega)]; exact h.2.2.1
    · dsimp only; rw [updn _ _ (by omega), updn _ _ (by omega), updn _ _ (by omega), updn _ _ (by omega)]; exact h.2.2.2.1
    · dsimp only; rw [updn _ _ (by omega), updn _ _ (by omega)]; exact h.2.2.2.2.1
    · dsimp only; rw [updn _ _ (by omega), updn _ _ (by omega)]; exact h.2.2.2.2.2.1
    · dsimp only; rw [updn _ _ (by omega), updn _ _ (by omega)]; exact h.2.2.2.2.2.2.1
    · dsimp only; rw [updn _ _ (by omega), updn _ _ (by omega)]; exact h.2.2.2.2.2.2.2.1
    · dsimp only; rw [updn _ _ (by omega), updn _ _ (by omega)]
    · dsimp only; rw [updn _ _ (by omega), updn _ _ (by omega)]
    · intro i a b; dsimp only; rw [updn _ _ (by omega), updn _ _ (by omega)]
    · dsimp only; rw [updn _ _ (by omega), updn _ _ (by omega)]
theorem ok_scales (h : tk_ok B d) (s l : Int32) : tk_ok B (tk_scales d s l).2 ∧ tk_ans d (tk_scales d s l) ∧ tk_far94 d (tk_scales d s l) := by
  unfold tk_scales
  split
  · exact ⟨h, Or.inr ⟨Or.inl rfl, rfl⟩, fun _ _ => rfl⟩
  · rename_i hc
    simp only [Bool.not_eq_false, Bool.and_eq_true] at hc
    obtain ⟨c1, c2⟩ := hc
    have s2 := tk_inI c1
    have l2 := tk_inI c2
    rw [tI1, show (1000 : Int32).toInt = 1000 from by decide] at s2
    rw [tI0, show (2000 : Int32).toInt = 2000 from by decide] at l2
    have hb : -l.toInt ≤ (if l < d 10 then l else if d 10 < -l then -l else d 10).toInt ∧ (if l < d 10 then l else if d 10 < -l then -l else d 10).toInt ≤ l.toInt := by
      have hn : (-l).toInt = -l.toInt := tneg (by omega)
      split
      · omega
      · split
        · omega
        · rename_i q1 q2
          rw [Int32.lt_iff_toInt_lt] at q1 q2
          rw [hn] at q2
          omega
    generalize (if l < d 10 then l else if d 10 < -l then -l else d 10) = b at hb ⊢
    refine ⟨ok_S h ⟨fun k hk2 => ?_, ?_, ?_, ?_, ?_, ?_, ?_, ?_⟩ ?_ ?_ ?_, Or.inl (gtE (show -100001 < b.toInt by omega)), fun i hi => ?_⟩
    · dsimp only; rw [updn _ _ (by omega), updn _ _ (by omega), updn _ _ (by omega), updn _ _ (by omega), updn _ _ (by omega), updn _ _ (by omega)]; exact h.1 k hk2
    · dsimp only; rw [updn _ _ (by omega), updn _ _ (by omega), upds]; exact s2
    · dsimp only; rw [updn _ _ (by omega), upds]; exact l2
    · dsimp only; rw [updn _ _ (by omega), upds, upds]; exact hb
    · dsimp only; rw [updn _ _ (by omega), updn _ _ (by omega), updn _ _ (by omega)]; exact h.2.2.2.2.1
    · dsimp only; rw [updn _ _ (by omega), updn _ _ (by omega), updn _ _ (by omega)]; exact h.2.2.2.2.2.1
    · dsimp only; rw [updn _ _ (by omega), updn _ _ (by omega), updn _ _ (by omega)]; exact h.2.2.2.2.2.2.1
    · dsimp only; rw [updn _ _ (by omega), updn _ _ (by omega), updn _ _ (by omega)]; exact h.2.2.2.2.2.2.2.1
    · dsimp only; rw [updn _ _ (by omega), updn _ _ (by omega), updn _ _ (by omega)]
    · dsimp only; rw [updn _ _ (by omega), updn _ _ (by omega), updn _ _ (by omega)]
    · intro i a b; dsimp only; rw [updn _ _ (by omega), updn _ _ (by omega), updn _ _ (by omega)]
    · dsimp only; rw [updn _ _ (by omega), updn _ _ (by omega), updn _ _ (by omega)]
theorem ok_bias (h : tk_ok B d) (b : Int32) : tk_ok B (tk_sets d 10 b (-(d 9)) (d 9)).2 ∧ tk_ans d (tk_sets d 10 b (-(d 9)) (d 9)) ∧ tk_far94 d (tk_sets d 10 b (-(d 9)) (d 9)) := by
  unfold tk_sets
  split
  · exact ⟨h, Or.inr ⟨Or.inl rfl, rfl⟩, fun _ _ => rfl⟩
  · rename_i hc
    simp only [Bool.not_eq_false] at hc
    have b2 := tk_inI hc
    have h9 := h.2.2.1
    have h10 := h.2.2.2.1
    rw [tneg (by omega)] at b2
    refine ⟨ok_S h ⟨fun k hk2 => ?_, ?_, ?_, ?_, ?_, ?_, ?_, ?_⟩ ?_ ?_ ?_, Or.inl (gtE (show -100001 < (d 10).toInt by omega)), fun i hi => ?_⟩
    · dsimp only; rw [updn _ _ (by omega), updn _ _ (by omega)]; exact h.1 k hk2
    · dsimp only; rw [updn _ _ (by omega)]; exact h.2.1
    · dsimp only; rw [updn _ _ (by omega)]; exact h9
    · dsimp only; rw [updn _ _ (by omega), upds]; exact b2
    · dsimp only; rw [updn _ _ (by omega)]; exact h.2.2.2.2.1
    · dsimp only; rw [updn _ _ (by omega)]; exact h.2.2.2.2.2.1
    · dsimp only; rw [updn _ _ (by omega)]; exact h.2.2.2.2.2.2.1
    · dsimp only; rw [updn _ _ (by omega)]; exact h.2.2.2.2.2.2.2.1
    · dsimp only; rw [updn _ _ (by omega)]
    · dsimp only; rw [updn _ _ (by omega)]
    · intro i a b; dsimp only; rw [updn _ _ (by omega)]
    · dsimp only; rw [updn _ _ (by omega)]
theorem ok_rule (h : tk_ok B d) (b : Int32) : tk_ok B (tk_sets d 11 b 0 3).2 ∧ tk_ans d (tk_sets d 11 b 0 3) ∧ tk_far94 d (tk_sets d 11 b 0 3) := by
  unfold tk_sets
  split
  · exact ⟨h, Or.inr ⟨Or.inl rfl, rfl⟩, fun _ _ => rfl⟩
  · rename_i hc
    simp only [Bool.not_eq_false] at hc
    have b2 := tk_inI hc
    have h9 := h.2.2.2.2.1
    rw [tI0, show (3 : Int32).toInt = 3 from by decide] at b2
    refine ⟨ok_S h ⟨fun k hk2 => ?_, ?_, ?_, ?_, ?_, ?_, ?_, ?_⟩ ?_ ?_ ?_, Or.inl (gtE (show -100001 < (d 11).toInt by omega)), fun i hi => ?_⟩
    · dsimp only; rw [updn _ _ (by omega), updn _ _ (by omega)]; exact h.1 k hk2
    · dsimp only; rw [updn _ _ (by omega)]; exact h.2.1
    · dsimp only; rw [updn _ _ (by omega)]; exact h.2.2.1
    · dsimp only; rw [updn _ _ (by omega), updn _ _ (by omega)]; exact h.2.2.2.1
    · dsimp only; rw [upds]; exact b2
    · dsimp only; rw [updn _ _ (by omega)]; exact h.2.2.2.2.2.1
    · dsimp only; rw [updn _ _ (by omega)]; exact h.2.2.2.2.2.2.1
    · dsimp only; rw [updn _ _ (by omega)]; exact h.2.2.2.2.2.2.2.1
    · dsimp only; rw [updn _ _ (by omega)]
    · dsimp only; rw [updn _ _ (by omega)]
    · intro i a b; dsimp only; rw [updn _ _ (by omega)]
    · dsimp only; rw [updn _ _ (by omega)]
theorem ok_fee (h : tk_ok B d) (b : Int32) : tk_ok B (tk_sets d 12 b 0 100).2 ∧ tk_ans d (tk_sets d 12 b 0 100) ∧ tk_far94 d (tk_sets d 12 b 0 100) := by
  unfold tk_sets
  split
  · exact ⟨h, Or.inr ⟨Or.inl rfl, rfl⟩, fun _ _ => rfl⟩
  · rename_i hc
    simp only [Bool.not_eq_false] at hc
    have b2 := tk_inI hc
    have h9 := h.2.2.2.2.2.1
    rw [tI0, show (100 : Int32).toInt = 100 from by decide] at b2
    refine ⟨ok_S h ⟨fun k hk2 => ?_, ?_, ?_, ?_, ?_, ?_, ?_, ?_⟩ ?_ ?_ ?_, Or.inl (gtE (show -100001 < (d 12).toInt by omega)), fun i hi => ?_⟩
    · dsimp only; rw [updn _ _ (by omega), updn _ _ (by omega)]; exact h.1 k hk2
    · dsimp only; rw [updn _ _ (by omega)]; exact h.2.1
    · dsimp only; rw [updn _ _ (by omega)]; exact h.2.2.1
    · dsimp only; rw [updn _ _ (by omega), updn _ _ (by omega)]; exact h.2.2.2.1
    · dsimp only; rw [updn _ _ (by omega)]; exact h.2.2.2.2.1
    · dsimp only; rw [upds]; exact b2
    · dsimp only; rw [updn _ _ (by omega)]; exact h.2.2.2.2.2.2.1
    · dsimp only; rw [updn _ _ (by omega)]; exact h.2.2.2.2.2.2.2.1
    · dsimp only; rw [updn _ _ (by omega)]
    · dsimp only; rw [updn _ _ (by omega)]
    · intro i a b; dsimp only; rw [updn _ _ (by omega)]
    · dsimp only; rw [updn _ _ (by omega)]
end OPS
