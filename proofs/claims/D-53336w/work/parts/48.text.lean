/-! programs: tokens of a text t of L characters, from a place p on -/
def tk_w (f : Nat → Bool) (L : Nat) : Nat → Nat → Nat
  | 0, p => p
  | n + 1, p => if (decide (p < L) && f p) = true then tk_w f L n (p + 1) else p
def tk_spc (t : Nat → Int32) (j : Nat) : Bool := decide (t j = 32)
def tk_low (t : Nat → Int32) (j : Nat) : Bool := tk_in (t j) 97 122
def tk_dig (t : Nat → Int32) (j : Nat) : Bool := tk_in (t j) 48 57
theorem tk_wY {f : Nat → Bool} {L p : Nat} (hp : p < L) (h : f p = true) : tk_w f L (L - p) p = tk_w f L (L - (p + 1)) (p + 1) := by
  rw [show L - p = (L - (p + 1)) + 1 by omega, tk_w, if_pos (by simp [hp, h])]
theorem tk_wN {f : Nat → Bool} {L p : Nat} (h : L ≤ p ∨ f p = false) : tk_w f L (L - p) p = p := by
  cases hn : L - p with
  | zero => rw [tk_w]
  | succ n =>
    rw [tk_w, if_neg]
    intro q
    simp only [Bool.and_eq_true, decide_eq_true_eq] at q
    rcases h with h | h
    · omega
    · rw [h] at q; exact absurd q.2 (by decide)
theorem tk_w_b {f : Nat → Bool} {L : Nat} : ∀ (n p : Nat), p ≤ L → p ≤ tk_w f L n p ∧ tk_w f L n p ≤ L
  | 0, p, h => by rw [tk_w]; omega
  | n + 1, p, h => by
    rw [tk_w]
    split
    · rename_i q
      simp only [Bool.and_eq_true, decide_eq_true_eq] at q
      have := tk_w_b (f := f) (L := L) n (p + 1) (by omega)
      omega
    · omega
/-- where the token begins, what it is (0: the end, 1 letters, 2 digits, 3 another), where it ends -/
def tk_ba (t : Nat → Int32) (L p : Nat) : Nat := tk_w (tk_spc t) L (L - p) p
def tk_sr (t : Nat → Int32) (L p : Nat) : Nat := if tk_ba t L p = L then 0 else if tk_low t (tk_ba t L p) = true then 1 else if tk_dig t (tk_ba t L p) = true then 2 else 3
def tk_f (t : Nat → Int32) (so : Nat) (j : Nat) : Bool := (decide (so = 1) && tk_low t j) || (decide (so = 2) && tk_dig t j)
def tk_to (t : Nat → Int32) (L p : Nat) : Nat := tk_w (tk_f t (tk_sr t L p)) L (L - tk_ba t L p) (tk_ba t L p) + (if tk_sr t L p = 3 then 1 else 0)
theorem tk_ba_b {t : Nat → Int32} {L p : Nat} (h : p ≤ L) : p ≤ tk_ba t L p ∧ tk_ba t L p ≤ L := tk_w_b _ _ h
theorem tk_to_b {t : Nat → Int32} {L p : Nat} (h : p ≤ L) : tk_ba t L p ≤ tk_to t L p ∧ tk_to t L p ≤ L ∧ (tk_sr t L p ≠ 0 → tk_ba t L p < tk_to t L p) ∧ tk_sr t L p ≤ 3 ∧ (tk_sr t L p ≠ 0 → tk_ba t L p < L) := by
  have hb := tk_ba_b (t := t) h
  have h3 : tk_sr t L p ≤ 3 := by unfold tk_sr; split <;> (try split) <;> (try split) <;> omega
  have h0 : tk_sr t L p ≠ 0 → tk_ba t L p < L := by
    intro q
    unfold tk_sr at q
    split at q
    · exact absurd rfl q
    · omega
  have h1 : tk_sr t L p = 1 ∨ tk_sr t L p = 2 → tk_f t (tk_sr t L p) (tk_ba t L p) = true := by
    intro q
    unfold tk_sr at q ⊢
    split at q
    · omega
    · rename_i a
      rw [if_neg a]
      split at q
      · rename_i b
        rw [if_pos b]
        simp [tk_f, b]
      · rename_i b
        rw [if_neg b]
        split at q
        · rename_i c
          rw [if_pos c]
          simp [tk_f, c]
        · omega
  have hw := tk_w_b (f := tk_f t (tk_sr t L p)) (L := L) (L - tk_ba t L p) (tk_ba t L p) hb.2
  unfold tk_to
  by_cases q : tk_sr t L p = 3
  · rw [if_pos q, tk_wN (Or.inr (by simp [tk_f, q]))]
    have := h0 (by omega)
    omega
  · rw [if_neg q]
    by_cases z : tk_sr t L p = 0
    · omega
    · have hl := h0 z
      rw [tk_wY hl (h1 (by omega))] at hw ⊢
      have := tk_w_b (f := tk_f t (tk_sr t L p)) (L := L) (L - (tk_ba t L p + 1)) (tk_ba t L p + 1) (by omega)
      omega
theorem tk_wX {t : Nat → Int32} {so L k : Nat} (h : (decide (k < L) && tk_f t so k) = false) : tk_w (tk_f t so) L (L - k) k = k := by
  refine tk_wN ?_
  by_cases q : k < L
  · rw [decide_eq_true q, Bool.true_and] at h; exact Or.inr h
  · exact Or.inl (by omega)
theorem tk_wT {t : Nat → Int32} {so L k : Nat} (h : (decide (k < L) && tk_f t so k) = true) : k < L ∧ tk_w (tk_f t so) L (L - k) k = tk_w (tk_f t so) L (L - (k + 1)) (k + 1) := by
  simp only [Bool.and_eq_true, decide_eq_true_eq] at h
  exact ⟨h.1, tk_wY h.1 h.2⟩
theorem tk_bT {a b : Bool} (h : (a && b) = true) : b = true := by simp only [Bool.and_eq_true] at h; exact h.2
theorem tk_bF {k L : Nat} {b : Bool} (h : (decide (k < L) && b) = false) (hk : k < L) : ¬ b = true := by rw [decide_eq_true hk, Bool.true_and] at h; rw [h]; decide
theorem tk_f1 {t : Nat → Int32} {so k : Nat} (h : so = 1) : tk_f t so k = tk_low t k := by simp [tk_f, h]
theorem tk_f2 {t : Nat → Int32} {so k : Nat} (h : so = 2) : tk_f t so k = tk_dig t k := by simp [tk_f, h]
theorem tk_f0 {t : Nat → Int32} {so k : Nat} (h : so ≠ 1) (h2 : so ≠ 2) : tk_f t so k = false := by simp [tk_f, h, h2]
def tk_app (S : Nat → Nat → Int32) (L : Nat) (x : Int32) : Int32 × (Nat → Nat → Int32) := if tk_in x 1 255 = false then (-100001, S) else if L = 140 then (-100003, S) else (nI (L + 1), su (su S 4 (upd (S 4) L x)) 7 (su (S 7) 1 (nI (L + 1))))
theorem tk_chr {x : Int32} (h : tk_in x 1 255 = true) : vp_nar .char (x.toUInt32 % 65536).toInt32 = x := by
  rw [pk_vc, pk_char]
  have h2 := tk_inI h
  obtain ⟨j, a, -, e⟩ := tk_nIof (x := x) (n := 255) (by have : (1 : Int32).toInt = 1 := by decide
                                                         omega) (by have : (255 : Int32).toInt = 255 := by decide
                                                                    omega)
  rw [e, pk_tn (by omega), Nat.mod_eq_of_lt (by omega)]
def tk_failq (hf : Int32) (f : Nat → Int32) (w : Int32) : Int32 := if tk_in w 0 4 = false then -100001 else if hf = 0 then -100009 else f w.toNatClampNeg
/-- what reading a token does to the reference's numbers -/
def tk_rs (S S' : Nat → Nat → Int32) (L p : Nat) : Prop := (∀ j, j ≠ 7 → S' j = S j) ∧ S' 7 3 = nI (tk_ba (S 4) L p) ∧ S' 7 4 = nI (tk_to (S 4) L p) ∧ S' 7 5 = nI (tk_sr (S 4) L p) ∧ ∀ j, j ≠ 3 → j ≠ 4 → j ≠ 5 → S' 7 j = S 7 j
/-- n characters from s on as a number to the base m, a character as its distance from c -/
def tk_fold (m c : Int32) (t : Nat → Int32) (s : Nat) : Nat → Int32
  | 0 => 0
  | n + 1 => m * tk_fold m c t s n + t (s + n) - c
def tk_word (t : Nat → Int32) (s e : Nat) : Int32 := if e - s < 6 then tk_fold 32 96 t s (e - s) else 0
def tk_nums (w : Int32) : Int32 := if w = 2745 then 3 else if w = 114085 then 1 else if w = 370116 then 3 else if w = 611717 then 1 else if w = 3540269 then 2 else if w = 17377093 then 5 else if w = 20022661 then 2 else if w = 24290536 then 3 else -1
def tk_isn (t : Nat → Int32) (s e so : Nat) : Bool := decide (so = 2) && (decide (e - s ≤ 6) && (decide (e - s = 1) || !decide (t s = 48)))
def tk_isnP (t : Nat → Int32) (L p : Nat) : Bool := tk_isn t (tk_ba t L p) (tk_to t L p) (tk_sr t L p)
def tk_valP (t : Nat → Int32) (L p : Nat) : Int32 := tk_fold 10 48 t (tk_ba t L p) (tk_to t L p - tk_ba t L p)
/-- behind k tokens -/
def tk_ps (t : Nat → Int32) (L p : Nat) : Nat → Nat
  | 0 => p
  | k + 1 => tk_to t L (tk_ps t L p k)
theorem tk_ps_b {t : Nat → Int32} {L p : Nat} (h : p ≤ L) : ∀ k, p ≤ tk_ps t L p k ∧ tk_ps t L p k ≤ L
  | 0 => ⟨Nat.le_refl _, h⟩
  | k + 1 => by
    have ih := tk_ps_b (t := t) h k
    have := tk_to_b (t := t) ih.2
    have := tk_ba_b (t := t) ih.2
    rw [tk_ps]
    omega
/-- m numbers and the end of a command: are they there; where the last token that was read begins -/
def tk_rno (t : Nat → Int32) (L : Nat) : Nat → Nat → Bool × Nat
  | 0, p => (decide (tk_sr t L p = 3) && decide (t (tk_ba t L p) = 59), tk_ba t L p)
  | n + 1, p => if tk_isnP t L p = true then tk_rno t L n (tk_to t L p) else (false, tk_ba t L p)
theorem tk_rnoY {t : Nat → Int32} {L p m k : Nat} (hk : k < m) (h : tk_isnP t L (tk_ps t L p k) = true) : tk_rno t L (m - k) (tk_ps t L p k) = tk_rno t L (m - (k + 1)) (tk_ps t L p (k + 1)) := by
  rw [show m - k = (m - (k + 1)) + 1 by omega, tk_rno, if_pos h]
  rfl
theorem tk_rnoN {t : Nat → Int32} {L p m k : Nat} (hk : k < m) (h : tk_isnP t L (tk_ps t L p k) = false) : tk_rno t L (m - k) (tk_ps t L p k) = (false, tk_ba t L (tk_ps t L p k)) := by
  rw [show m - k = (m - (k + 1)) + 1 by omega, tk_rno, if_neg (by rw [h]; decide)]
/-- what reading m numbers does -/
def tk_rn (S S' : Nat → Nat → Int32) (L p m : Nat) : Prop := (∀ j, j ≠ 6 → j ≠ 7 → S' j = S j) ∧ S' 7 3 = nI (tk_rno (S 4) L m p).2 ∧ (∀ j, j ≠ 3 → j ≠ 4 → j ≠ 5 → S' 7 j = S 7 j) ∧
  ((tk_rno (S 4) L m p).1 = true → S' 7 4 = nI (tk_ps (S 4) L p (m + 1)) ∧ ∀ i, i < m → S' 6 i = tk_valP (S 4) L (tk_ps (S 4) L p i))
/-- a command is done -/
def tk_does (d g : Nat → Int32) (w : Int32) : Int32 × (Nat → Int32) := if w = 114085 then tk_comes d (g 0) else if w = 370116 then tk_kinds d (g 0) (g 1) (g 2) else if w = 611717 then tk_sets d 11 (g 0) 0 3 else if w = 3540269 then tk_claims d (g 0) (g 1) else
  if w = 17377093 then tk_adds d (g 0) (g 1) (g 2) (g 3) (g 4) else if w = 20022661 then tk_scales d (g 0) (g 1) else if w = 24290536 then tk_weighs d (g 0) (g 1) (g 2) 0 else tk_buys d (g 0) (g 1) (g 2)
theorem ok_does {B : Nat} {d : Nat → Int32} (h : tk_ok B d) (hB0 : 9999 ≤ B) (hB : B ≤ 1000000000) (g : Nat → Int32) (w : Int32) : tk_ok (B + 60000) (tk_does d g w).2 ∧ tk_ans d (tk_does d g w) ∧ tk_far94 d (tk_does d g w) := by
  have m : ∀ {o : Int32 × (Nat → Int32)}, tk_ok B o.2 ∧ tk_ans d o ∧ tk_far94 d o → tk_ok (B + 60000) o.2 ∧ tk_ans d o ∧ tk_far94 d o := fun q => ⟨ok_mono (by omega) q.1, q.2⟩
  unfold tk_does
  split
  · exact m (ok_comes h hB0 _)
  · split
    · exact m (ok_kinds h _ _ _)
    · split
      · exact m (ok_rule h _)
      · split
        · exact ok_claims h hB _ _
        · split
          · exact m (ok_adds h _ _ _ _ _)
          · split
            · exact m (ok_scales h _ _)
            · split
              · exact ok_weighs h hB _ _ _ _
              · exact m (ok_buys h _ _ _)
def tk_wordP (t : Nat → Int32) (L p : Nat) : Int32 := if tk_sr t L p = 1 then tk_word t (tk_ba t L p) (tk_to t L p) else 0
def tk_many (t : Nat → Int32) (L p : Nat) : Nat := (tk_nums (tk_wordP t L p)).toNatClampNeg
/-- a program's run from p on, done commands done: (it ends well, the array, kind, place, code, done) -/
def tk_run (t : Nat → Int32) (L : Nat) : Nat → (Nat → Int32) → Nat → Int32 → Bool × (Nat → Int32) × Int32 × Nat × Int32 × Int32
  | 0, d, _, n => (true, d, 0, 0, 0, n)
  | f + 1, d, p, n =>
    if tk_sr t L p = 0 then (true, d, 0, 0, 0, n) else
    if tk_nums (tk_wordP t L p) < 0 then (false, d, 1, tk_ba t L p, -100009, n) else
    if (tk_rno t L (tk_many t L p) (tk_to t L p)).1 = false then (false, d, 1, (tk_rno t L (tk_many t L p) (tk_to t L p)).2, -100009, n) else
    if -100001 < (tk_does d (fun i => tk_valP t L (tk_ps t L (tk_to t L p) i)) (tk_wordP t L p)).1 then
      tk_run t L f (tk_does d (fun i => tk_valP t L (tk_ps t L (tk_to t L p) i)) (tk_wordP t L p)).2 (tk_ps t L (tk_to t L p) (tk_many t L p + 1)) (n + 1)
    else (false, d, if (tk_does d (fun i => tk_valP t L (tk_ps t L (tk_to t L p) i)) (tk_wordP t L p)).1 = -100001 then 2 else 3, tk_ba t L p, (tk_does d (fun i => tk_valP t L (tk_ps t L (tk_to t L p) i)) (tk_wordP t L p)).1, n)
