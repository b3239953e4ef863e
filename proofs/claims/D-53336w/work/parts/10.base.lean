/-! the classes, the arrays, rows of the reference's world -/
set_option maxRecDepth 100000
abbrev vwCl : List vw_C := [(RX0, TX0, 4), (RX1, TX1, 2), (RX2, TX2, 10), (RX3, TX3, 15), (RX4, TX4, 2), (RX5, TX5, 7), (RX6, TX6, 2), (RX7, TX7, 4), (RX8, TX8, 5), (RX9, TX9, 3), (RJ2, TJ2, 3), (RJ3, TJ3, 3), (RJ5, TJ5, 4), (RJ6, TJ6, 4), (RJ8, TJ8, 4), (RX10, TX10, 7), (RX12, TX12, 7), (RX13, TX13, 7)]
/-- the arrays' classes -/
abbrev tysG (cA : Nat → ClassId) : List (ClassId × FieldType) := [(cA 0, .int), (cA 1, .char), (cA 2, .byte), (cA 3, .object "java/lang/Object"), (cA 4, .object "TicketScales$Counter"), (cA 5, .object "TicketScales$Guess")]
abbrev rmL (n mc ms : Nat) : Room := { frames := n, cells := mc, slots := ms, locals := 200 * n }
def su {α : Type} (f : Nat → α) (k : Nat) (v : α) : Nat → α := fun j => cond (Nat.beq j k) v (f j)
theorem su_s {α : Type} (f : Nat → α) (k : Nat) (v : α) : su f k v k = v := by simp [su]
theorem su_n {α : Type} (f : Nat → α) {k j : Nat} (v : α) (h : j ≠ k) : su f k v j = f j := by
  have : Nat.beq j k = false := by
    cases q : Nat.beq j k with
    | false => rfl
    | true => exact absurd (Nat.eq_of_beq_eq_true q) h
  simp [su, this]
theorem su_su {α : Type} (f : Nat → α) (k : Nat) (v w : α) : su (su f k v) k w = su f k w := by
  funext j
  by_cases h : j = k
  · subst h; rw [su_s, su_s]
  · rw [su_n _ _ h, su_n _ _ h, su_n _ _ h]
theorem su_self {α : Type} (f : Nat → α) (k : Nat) : su f k (f k) = f := by
  funext j
  by_cases h : j = k
  · subst h; rw [su_s]
  · rw [su_n _ _ h]
theorem ixA {a b : Int32} {x y : Nat} (ha : a = nI x) (hb : b = nI y) : a + b = nI (x + y) := by rw [ha, hb, nI_add]
theorem ixM {a b : Int32} {x y : Nat} (ha : a = nI x) (hb : b = nI y) : a * b = nI (x * y) := by rw [ha, hb, pk_mul]
theorem ixS {a b : Int32} {x y : Nat} (ha : a = nI x) (hb : b = nI y) (h : y ≤ x) : a - b = nI (x - y) := by rw [ha, hb, pk_sub h]
theorem neqT {x y : Int32} {a b : Nat} (hx : x = nI a) (hy : y = nI b) (ha : a < 2 ^ 31) (hb : b < 2 ^ 31) (h : x = y) : a = b := (nI_eq ha hb).mp (by rw [← hx, ← hy]; exact h)
theorem neqF {x y : Int32} {a b : Nat} (hx : x = nI a) (hy : y = nI b) (ha : a < 2 ^ 31) (hb : b < 2 ^ 31) (h : ¬ x = y) : a ≠ b := fun q => h (by rw [hx, hy, q])
theorem nltT {x y : Int32} {a b : Nat} (hx : x = nI a) (hy : y = nI b) (ha : a < 2 ^ 31) (hb : b < 2 ^ 31) (h : x < y) : a < b := (nI_ltI ha hb).mp (by rw [← hx, ← hy]; exact h)
theorem nltF {x y : Int32} {a b : Nat} (hx : x = nI a) (hy : y = nI b) (ha : a < 2 ^ 31) (hb : b < 2 ^ 31) (h : ¬ x < y) : b ≤ a := Nat.not_lt.mp (fun q => h (by rw [hx, hy]; exact (nI_ltI ha hb).mpr q))
theorem ngtT {x y : Int32} {a b : Nat} (hx : x = nI a) (hy : y = nI b) (ha : a < 2 ^ 31) (hb : b < 2 ^ 31) (h : y < x) : b < a := nltT hy hx hb ha h
theorem ngtF {x y : Int32} {a b : Nat} (hx : x = nI a) (hy : y = nI b) (ha : a < 2 ^ 31) (hb : b < 2 ^ 31) (h : ¬ y < x) : a ≤ b := nltF hy hx hb ha h
def pB (r : Int32) (b : Bool) : Prop := (r = 1 ∧ b = true) ∨ (r = 0 ∧ b = false)
/-- the reference's world: ad 7 the object, ad 0 .. ad 6 d, aside, begun, was, text, failed, got; S a their contents, S 7 states, length, hasFailed, from, at, sort, least, greatest -/
abbrev mF (ad : Nat → Nat) (S : Nat → Nat → Int32) : List Value := [.ref (ad 0), .ref (ad 1), .ref (ad 2), .ref (ad 3), .int (S 7 0), .ref (ad 4), .int (S 7 1), .ref (ad 5), .int (S 7 2), .int (S 7 3), .int (S 7 4), .int (S 7 5), .ref (ad 6), .int (S 7 6), .int (S 7 7)]
abbrev mW (cA : Nat → ClassId) (ad : Nat → Nat) (S : Nat → Nat → Int32) : va_W := [(ad 7, .inr (3, mF ad S)), (ad 0, .inl (cA 0, 284, .inl (S 0))), (ad 1, .inl (cA 0, 284, .inl (S 1))), (ad 2, .inl (cA 0, 284, .inl (S 2))), (ad 3, .inl (cA 0, 1420, .inl (S 3))), (ad 4, .inl (cA 1, 140, .inl (S 4))), (ad 5, .inl (cA 0, 5, .inl (S 5))), (ad 6, .inl (cA 0, 5, .inl (S 6)))]
def mA (ad : Nat → Nat) : Nat → Prop := fun q => ∃ i, i < 8 ∧ q = ad i
def mSt (D : va_G) (cA : Nat → ClassId) (ad : Nat → Nat) (A : Nat → Prop) (H0 H : Heap) (locs : List Loc) (S : Nat → Nat → Int32) : Prop := va_P D vwCl (mW cA ad S) H ∧ va_D A (mW cA ad S) ∧ va_S A H0 H locs
def mPre (D : va_G) (cA : Nat → ClassId) (ad : Nat → Nat) (S : Nat → Nat → Int32) (As : List Value) : Array Value → State → Prop := va_Pc (.ref (ad 7) :: As) (fun U => va_P D vwCl (mW cA ad S) U.heap ∧ va_K D vwCl (tysG cA) U ∧ va_D (mA ad) (mW cA ad S))
def mEnd (D : va_G) (cA : Nat → ClassId) (ad : Nat → Nat) (S : Nat → Nat → Int32) (t : State) : Prop := va_P D vwCl (mW cA ad S) t.heap ∧ va_D (mA ad) (mW cA ad S)
theorem mPre_blind {D : va_G} {cA : Nat → ClassId} {ad : Nat → Nat} {S : Nat → Nat → Int32} {As : List Value} : FrameBlind (mPre D cA ad S As) := fun a U g mk q => by
  obtain ⟨q0, qP, qK, qD⟩ := q
  exact ⟨q0, qP, va_K.moved (u := U) (U := U.calling g mk a) (Vm.Alike.refl U.vm) qK, qD⟩
theorem m_fld {x y : Int32} {o : Option Value} (h : o = some (.int x)) (h2 : x = y) : o = some (.int y) := by rw [h, h2]
section MROWS
variable {p : Program} {l : Launch} {e : Env} {R : Room} {s : State} {m : MethodId} {args : Array Value} {below : List Frame} {meth : Method} {c : Code} {H : Heap} {locs : List Loc} {cells slots : Nat} {Q : State → Prop}
variable {cc : ByteArray} {pc : Nat} {ls : Array Slot} {rest : List Value} {D : va_G} {cA : Nat → ClassId} {ad : Nat → Nat} {A : Nat → Prop} {H0 : Heap} {S : Nat → Nat → Int32}
theorem mPreV {As : List Value} (hK : va_K D vwCl (tysG cA) s) (hM : mSt D cA ad (mA ad) H0 H locs S) : PreV s H RX3 (ad 7) (mPre D cA ad S As) As :=
  ⟨mPre_blind, va_recv hK hM.1 (ci := 3) (q0 := 0) rfl rfl, fun U hU hW => ⟨rfl, by rw [hU]; exact hM.1, va_K.moved hW.alike hK, hM.2.1⟩⟩
theorem m_iald (hx : p.tables.exec = Jvm.exec) (hb : c.code = cc) (hK : va_K D vwCl (tysG cA) s) (hM : mSt D cA ad A H0 H locs S) (k q : Nat) {n : Nat} (ha : (mW cA ad S)[q]? = some (ad k, .inl (cA 0, n, .inl (S k)))) {i : Int32} (j : Nat) (hi : i = nI j) (hj : j < n) {v : Int32} (hv : S k j = v) (hdg : decode cc pc = .ok (.iaload, 1)) (hn : n < 2 ^ 31)
    (kk : W p l e R s m args below meth c H locs cells slots Q (F0 m (pc + 1) ls (.int v :: rest))) : W p l e R s m args below meth c H locs cells slots Q (F0 m pc ls (.int i :: .ref (ad k) :: rest)) := by
  subst hi hv
  refine va_iald hx hb hK hM.1 q 0 ha rfl (vp_in_nI hj hn) hdg ?_
  rw [nI_clamp (Nat.lt_trans hj hn)]
  exact kk
theorem m_cald (hx : p.tables.exec = Jvm.exec) (hb : c.code = cc) (hK : va_K D vwCl (tysG cA) s) (hM : mSt D cA ad A H0 H locs S) {i : Int32} (j : Nat) (hi : i = nI j) (hj : j < 140) {v : Int32} (hv : S 4 j = v) (hdg : decode cc pc = .ok (.caload, 1))
    (kk : W p l e R s m args below meth c H locs cells slots Q (F0 m (pc + 1) ls (.int v :: rest))) : W p l e R s m args below meth c H locs cells slots Q (F0 m pc ls (.int i :: .ref (ad 4) :: rest)) := by
  subst hi hv
  refine va_cald hx hb hK hM.1 5 1 rfl rfl (vp_in_nI hj (by decide)) hdg ?_
  rw [nI_clamp (Nat.lt_trans hj (by decide))]
  exact kk
theorem m_iast (hx : p.tables.exec = Jvm.exec) (hb : c.code = cc) (hK : va_K D vwCl (tysG cA) s) (hM : mSt D cA ad A H0 H locs S) (k q : Nat) {n : Nat} (ha : (mW cA ad S)[q]? = some (ad k, .inl (cA 0, n, .inl (S k)))) (hset : ∀ f, (mW cA ad S).set q (ad k, .inl (cA 0, n, .inl f)) = mW cA ad (su S k f)) {i x : Int32} (j : Nat) (hi : i = nI j) (hj : j < n) (hdg : decode cc pc = .ok (.iastore, 1)) (hn : n < 2 ^ 31)
    (kk : ∀ (H1 : Heap) (locs1 : List Loc) (S1 : Nat → Nat → Int32), S1 = su S k (upd (S k) j x) → mSt D cA ad A H0 H1 locs1 S1 → W p l e R s m args below meth c H1 locs1 cells slots Q (F0 m (pc + 1) ls rest)) : W p l e R s m args below meth c H locs cells slots Q (F0 m pc ls (.int x :: .int i :: .ref (ad k) :: rest)) := by
  subst hi
  refine va_iast hx hb hK hM.1 hM.2.1 hM.2.2 q 0 ha rfl (vp_in_nI hj hn) hdg (fun H1 locs1 hP hD hS => ?_)
  rw [nI_clamp (Nat.lt_trans hj hn), hset] at hP hD
  exact kk H1 locs1 _ rfl ⟨hP, hD, hS⟩
theorem m_cast (hx : p.tables.exec = Jvm.exec) (hb : c.code = cc) (hK : va_K D vwCl (tysG cA) s) (hM : mSt D cA ad A H0 H locs S) {i x : Int32} (j : Nat) (hi : i = nI j) (hj : j < 140) (hdg : decode cc pc = .ok (.castore, 1))
    (kk : ∀ (H1 : Heap) (locs1 : List Loc) (S1 : Nat → Nat → Int32), S1 = su S 4 (upd (S 4) j (vp_nar .char x)) → mSt D cA ad A H0 H1 locs1 S1 → W p l e R s m args below meth c H1 locs1 cells slots Q (F0 m (pc + 1) ls rest)) : W p l e R s m args below meth c H locs cells slots Q (F0 m pc ls (.int x :: .int i :: .ref (ad 4) :: rest)) := by
  subst hi
  refine va_cast hx hb hK hM.1 hM.2.1 hM.2.2 5 1 rfl rfl (vp_in_nI hj (by decide)) hdg (fun H1 locs1 hP hD hS => ?_)
  rw [nI_clamp (Nat.lt_trans hj (by decide))] at hP hD
  exact kk H1 locs1 _ rfl ⟨hP, hD, hS⟩
theorem m_get (hx : p.tables.exec = Jvm.exec) (hb : c.code = cc) {Ts : List Cond} (hts : ∀ w ∈ Ts, w.before args s = true) (hin : ∀ w ∈ wsX30, w ∈ Ts) (hown : s.vm.findClass RX3 = some m.cls) (hK : va_K D vwCl (tysG cA) s) (hM : mSt D cA ad A H0 H locs S) (k : Nat) (hk : k < 15) {index : Nat} (hlink : (Cond.fieldLink RX3 index (TX3 k).1 (TX3 k).2.1 (TX3 k).2.2.1).before args s = true) {v : Value} (hv : (mF ad S)[k]? = some v) (hdg : decode cc pc = .ok (.getfield index, 3))
    (kk : W p l e R s m args below meth c H locs cells slots Q (F0 m (pc + 3) ls (v :: rest))) : W p l e R s m args below meth c H locs cells slots Q (F0 m pc ls (.ref (ad 7) :: rest)) :=
  va_get hx hb hts hin hown hK hM.1 0 (ci := 3) (fs := mF ad S) (C := RX3) (T := TX3) (N := 15) rfl rfl k hk hlink (fun _ h => h) hv hdg kk
theorem m_put (hx : p.tables.exec = Jvm.exec) (hb : c.code = cc) {Ts : List Cond} (hts : ∀ w ∈ Ts, w.before args s = true) (hin : ∀ w ∈ wsX30, w ∈ Ts) (hown : s.vm.findClass RX3 = some m.cls) (hK : va_K D vwCl (tysG cA) s) (hM : mSt D cA ad A H0 H locs S) (k j : Nat) (hk : k < 15) {index : Nat} (hlink : (Cond.fieldLink RX3 index (TX3 k).1 (TX3 k).2.1 (TX3 k).2.2.1).before args s = true) (hfin : (TX3 k).2.2.2 = false) {x : Int32} (hn : narrow (tyX3 k) (.int x) = .int x) (hf : fits (tyX3 k) (.int x) = true) (hset : (mW cA ad S).set 0 (ad 7, .inr (3, (mF ad S).set k (.int x))) = mW cA ad (su S 7 (su (S 7) j x))) (hdg : decode cc pc = .ok (.putfield index, 3))
    (kk : ∀ (H1 : Heap) (locs1 : List Loc) (S1 : Nat → Nat → Int32), S1 = su S 7 (su (S 7) j x) → mSt D cA ad A H0 H1 locs1 S1 → W p l e R s m args below meth c H1 locs1 cells slots Q (F0 m (pc + 3) ls rest)) : W p l e R s m args below meth c H locs cells slots Q (F0 m pc ls (.int x :: .ref (ad 7) :: rest)) := by
  refine va_put hx hb hts hin tyX3 tyX3_ok nmX3 hown hK hM.1 hM.2.1 hM.2.2 0 (ci := 3) (fs := mF ad S) (C := RX3) (T := TX3) (N := 15) rfl rfl k hk hlink (fun _ h => h) hfin (tyX3_ok k hk) hn hf hk hdg (fun H1 locs1 hP hD hS => ?_)
  rw [hset] at hP hD
  exact kk H1 locs1 _ rfl ⟨hP, hD, hS⟩
end MROWS

