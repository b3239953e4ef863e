/-! arraycopy over single cells; lists -/
theorem nI_nn {j : Nat} (h : j < 2 ^ 31) : ¬ nI j < 0 := fun q => by
  rw [Int32.lt_iff_toInt_lt, nI_toInt h] at q
  have : (0 : Int32).toInt = 0 := by decide
  omega
section COPY
variable {p : Program} {l : Launch} {e : Env} {R : Room} {s : State} {m : MethodId} {args : Array Value} {below : List Frame} {meth : Method} {c : Code} {H : Heap} {locs : List Loc} {cells slots : Nat} {Q : State → Prop}
variable {cc : ByteArray} {pc : Nat} {ls : Array Slot} {rest : List Value} {D : va_G} {A : Nat → Prop} {H0 : Heap} {tys : List (ClassId × FieldType)} {a : Nat}
theorem r_copyi (hexec : p.tables.exec = Jvm.exec) (hb : c.code = cc) (hml : c.maxLocals = ls.size) {own : String} {index : Nat} (hown : s.vm.findClass own = some m.cls) (hlink : (Cond.methodLink own index arraycopyName).before args s = true) (hnat : (Cond.native arraycopyName).before args s = true) (hstat : (Cond.static arraycopyName).before args s = true) (hini : (Cond.initialized "java/lang/System").before args s = true)
    (hK : va_K D vwCl tys s) (hS : va_S A H0 H locs) {a0 : Nat} {c0 c1 : ClassId} {n0 n1 : Nat} {f g : Nat → Int32} {ty : FieldType} (hc0 : va_at D vwCl (a0, .inl (c0, n0, .inl f)) H) (hc1 : va_at D vwCl (a, .inl (c1, n1, .inl g)) H) (hA : A a) (t0 t1 : Nat) (ht0 : tys[t0]? = some (c0, ty)) (ht1 : tys[t1]? = some (c1, ty)) (hprim : refKind ty = false)
    {sp dp n : Int32} (i j k : Nat) (hsp : sp = nI i) (hdp : dp = nI j) (hn : n = nI k) (h4 : i + k ≤ n0) (h5 : j + k ≤ n1) (hb0 : n0 < 2 ^ 31) (hb1 : n1 < 2 ^ 31) (hfit : ∀ z, z < k → fits ty (.int (f (i + z))) = true)
    (hframes : 1 ≤ R.frames) (hlocals : (rest.map fun v => v.category).sum + (nativeFrameWords "java/lang/System" "arraycopy" 5 + 11) ≤ R.locals) (hdg : decode cc pc = .ok (.invokestatic index, 3))
    (kk : ∀ (H1 : Heap) (locs1 : List Loc), hS1 D H H1 a (.inl (c1, n1, .inl (va_cpy f g i j k))) → va_S A H0 H1 locs1 → W p l e R s m args below meth c H1 locs1 cells slots Q (F0 m (pc + 3) ls rest)) : W p l e R s m args below meth c H locs cells slots Q (F0 m pc ls (.int n :: .int dp :: .ref a :: .int sp :: .ref a0 :: rest)) := by
  subst hsp hdp hn
  have zi : (nI i).toInt = (i : Int) := nI_toInt (by omega)
  have zj : (nI j).toInt = (j : Int) := nI_toInt (by omega)
  have zk : (nI k).toInt = (k : Int) := nI_toInt (by omega)
  have ci : (nI i).toNatClampNeg = i := nI_clamp (by omega)
  have cj : (nI j).toNatClampNeg = j := nI_clamp (by omega)
  have ck : (nI k).toNatClampNeg = k := nI_clamp (by omega)
  have hc0' : H[a0]? = some (vp_cell c0 (n0, .inl f)) := hc0
  have hc1' : H[a]? = some (vp_cell c1 (n1, .inl g)) := hc1
  intro T hT X
  obtain ⟨-, k0, hk0, cm0, hkk0⟩ := (hK.2 t0 _ ht0).1 n0 (fun j => .int (f j))
  obtain ⟨-, k1, hk1, cm1, hkk1⟩ := (hK.2 t1 _ ht1).1 n1 (fun j => .int (g j))
  obtain ⟨vm', X', step⟩ := X.arraycopy hexec hown hlink hnat hstat hini (src := a0) (dst := a) (cs := vp_cell c0 (n0, .inl f)) (cd := vp_cell c1 (n1, .inl g)) (srcPos := nI i) (destPos := nI j) (n := nI k) (by rw [hT]; exact hc0') (by rw [hT]; exact hc1')
    (fun _ h => by cases h) (fun _ h => by cases h) (fun h => by cases h) (fun h => by cases h) hk0 hk1 hkk0 hkk1 (by simp [hprim]) (nI_nn (by omega)) (nI_nn (by omega)) (nI_nn (by omega))
    (by rw [zi, zk]; show ¬ _ > ((arrV c0 n0 (fun j => .int (f j))).slots.size : Int); rw [arrV_size]; omega)
    (by rw [zj, zk]; show ¬ _ > ((arrV c1 n1 (fun j => .int (g j))).slots.size : Int); rw [arrV_size]; omega)
    (fun vm₁ _ z hz => by
      rw [ck] at hz
      have e : (vp_cell c0 (n0, .inl f)).slots.getD ((nI i).toNatClampNeg + z) .null = .int (f (i + z)) := by
        show (arrV c0 n0 (fun j => .int (f j))).slots.getD _ _ = _
        rw [ci, Array.getD_eq_getD_getElem?, arrV_read _ _ (by omega)]
        rfl
      refine ⟨?_, ?_⟩
      · rw [e]
        exact hfit z hz
      · rw [e]
        exact trivial)
    (g := F0 m pc ls (.int (nI k) :: .int (nI j) :: .ref a :: .int (nI i) :: .ref a0 :: rest)) rfl (by rw [hml]) (rest := rest) rfl (by rw [hb]; exact hdg) hframes (by show 2 * 0 + _ + _ ≤ _; omega)
  have e1 : copied (vp_cell c0 (n0, .inl f)) (vp_cell c1 (n1, .inl g)) (nI i) (nI j) (nI k) = vp_cell c1 (n1, .inl (va_cpy f g i j k)) := by
    rw [vp_cell_i, vp_cell_i, vp_cell_i]
    refine Eq.trans ?_ (va_copied (fun z : Int32 => Value.int z) c0 c1 f g (n1 := n1) (sp := i) (dp := j) (n := k) h4)
    show Cell.storeRun _ (nI j).toNatClampNeg (Cell.stretch _ (nI i).toNatClampNeg (nI k).toNatClampNeg) = _
    rw [ci, cj, ck]
  rw [e1] at X' step
  have hl : a < H.size := (Array.getElem?_eq_some_iff.mp hc1').1
  have hheap : ((T.setVm vm').setCell a (vp_cell c1 (n1, .inl (va_cpy f g i j k)))).heap = H.setIfInBounds a (vp_cell c1 (n1, .inl (va_cpy f g i j k))) := by rw [← hT]; rfl
  have oq : ∀ q : Nat, q ≠ a → (H.setIfInBounds a (vp_cell c1 (n1, .inl (va_cpy f g i j k))))[q]? = H[q]? := fun q hq => by simp [Array.getElem?_setIfInBounds, Ne.symm hq]
  obtain ⟨t, a1, b1⟩ := kk _ _ ⟨show (H.setIfInBounds a _)[a]? = some _ by simp [Array.getElem?_setIfInBounds, hl], by simp, oq⟩ ⟨by simp; exact hS.1, fun q g1 g2 => by
      rw [oq q (fun e => g2 (by rw [e]; exact hA))]
      exact hS.2.1 q g1 g2, fun q hq => by
      rcases List.mem_append.mp hq with h | h
      · exact hS.2.2 q h
      · obtain ⟨z, -, hz⟩ := List.mem_map.mp h
        rw [← hz]
        exact hA⟩ _ hheap X'
  exact ⟨t, step t a1, b1⟩
/-- references, each to a cell whose class may be stored there, or null -/
theorem r_copyq (hexec : p.tables.exec = Jvm.exec) (hb : c.code = cc) (hml : c.maxLocals = ls.size) {own : String} {index : Nat} (hown : s.vm.findClass own = some m.cls) (hlink : (Cond.methodLink own index arraycopyName).before args s = true) (hnat : (Cond.native arraycopyName).before args s = true) (hstat : (Cond.static arraycopyName).before args s = true) (hini : (Cond.initialized "java/lang/System").before args s = true)
    (hK : va_K D vwCl tys s) (hS : va_S A H0 H locs) {a0 : Nat} {c0 c1 : ClassId} {n0 n1 : Nat} {f g : Nat → Option Nat} {E0 E1 : String} (hc0 : va_at D vwCl (a0, .inl (c0, n0, .inr (.inr (.inr (.inr f))))) H) (hc1 : va_at D vwCl (a, .inl (c1, n1, .inr (.inr (.inr (.inr g))))) H) (hA : A a) (t0 t1 : Nat) (ht0 : tys[t0]? = some (c0, .object E0)) (ht1 : tys[t1]? = some (c1, .object E1))
    {sp dp n : Int32} (i j k : Nat) (hsp : sp = nI i) (hdp : dp = nI j) (hn : n = nI k) (h4 : i + k ≤ n0) (h5 : j + k ≤ n1) (hb0 : n0 < 2 ^ 31) (hb1 : n1 < 2 ^ 31)
    (hel : ∀ z : Nat, z < k → ∀ y : Nat, f (i + z) = some y → ∃ (cellV : Cell) (C : String), H[y]? = some cellV ∧ cellV.vm.isStatics = false ∧ s.vm.findClass C = some cellV.cls ∧ va_Nw (.castable C E1) s)
    (hframes : 1 ≤ R.frames) (hlocals : (rest.map fun v => v.category).sum + (nativeFrameWords "java/lang/System" "arraycopy" 5 + 11) ≤ R.locals) (hdg : decode cc pc = .ok (.invokestatic index, 3))
    (kk : ∀ (H1 : Heap) (locs1 : List Loc), hS1 D H H1 a (.inl (c1, n1, .inr (.inr (.inr (.inr (va_cpy f g i j k)))))) → va_S A H0 H1 locs1 → W p l e R s m args below meth c H1 locs1 cells slots Q (F0 m (pc + 3) ls rest)) : W p l e R s m args below meth c H locs cells slots Q (F0 m pc ls (.int n :: .int dp :: .ref a :: .int sp :: .ref a0 :: rest)) := by
  subst hsp hdp hn
  have zi : (nI i).toInt = (i : Int) := nI_toInt (by omega)
  have zj : (nI j).toInt = (j : Int) := nI_toInt (by omega)
  have zk : (nI k).toInt = (k : Int) := nI_toInt (by omega)
  have ci : (nI i).toNatClampNeg = i := nI_clamp (by omega)
  have cj : (nI j).toNatClampNeg = j := nI_clamp (by omega)
  have ck : (nI k).toNatClampNeg = k := nI_clamp (by omega)
  have hc0' : H[a0]? = some (vp_cell c0 (n0, .inr (.inr (.inr (.inr f))))) := hc0
  have hc1' : H[a]? = some (vp_cell c1 (n1, .inr (.inr (.inr (.inr g))))) := hc1
  intro T hT X
  obtain ⟨-, k0, hk0, cm0, hkk0⟩ := (hK.2 t0 _ ht0).1 n0 (fun j => va_rf (f j))
  obtain ⟨-, k1, hk1, cm1, hkk1⟩ := (hK.2 t1 _ ht1).1 n1 (fun j => va_rf (g j))
  obtain ⟨vm', X', step⟩ := X.arraycopy hexec hown hlink hnat hstat hini (src := a0) (dst := a) (cs := vp_cell c0 (n0, .inr (.inr (.inr (.inr f))))) (cd := vp_cell c1 (n1, .inr (.inr (.inr (.inr g))))) (srcPos := nI i) (destPos := nI j) (n := nI k) (by rw [hT]; exact hc0') (by rw [hT]; exact hc1')
    (fun _ h => by cases h) (fun _ h => by cases h) (fun h => by cases h) (fun h => by cases h) hk0 hk1 hkk0 hkk1 rfl (nI_nn (by omega)) (nI_nn (by omega)) (nI_nn (by omega))
    (by rw [zi, zk]; show ¬ _ > ((arrV c0 n0 (fun j => va_rf (f j))).slots.size : Int); rw [arrV_size]; omega)
    (by rw [zj, zk]; show ¬ _ > ((arrV c1 n1 (fun j => va_rf (g j))).slots.size : Int); rw [arrV_size]; omega)
    (fun vm₁ hal z hz => by
      rw [ck] at hz
      have e : (vp_cell c0 (n0, .inr (.inr (.inr (.inr f))))).slots.getD ((nI i).toNatClampNeg + z) .null = va_rf (f (i + z)) := by
        show (arrV c0 n0 (fun j => va_rf (f j))).slots.getD _ _ = _
        rw [ci, Array.getD_eq_getD_getElem?, arrV_read _ _ (by omega)]
        rfl
      rw [e]
      cases hy : f (i + z) with
      | none => exact ⟨rfl, trivial⟩
      | some y =>
        obtain ⟨cellV, C, g1, g2, g3, g4⟩ := hel z hz y hy
        obtain ⟨x1, x2, y1, y2, y3⟩ := Cond.castable_spec (va_Nw.use (A := args) rfl g4)
        obtain ⟨kA, comp, r1, r2, r3, -⟩ := (hK.2 t1 _ ht1).2
        cases hk1.symm.trans r1
        cases hkk1.symm.trans r2
        cases y1.symm.trans g3
        cases y2.symm.trans r3
        obtain ⟨kC, hkC, -⟩ := Vm.findClass_spec g3
        obtain ⟨kE, hkE, -⟩ := Vm.findClass_spec r3
        obtain ⟨kC', hkC', -⟩ := hal.2.2 _ _ hkC
        obtain ⟨kE', hkE', -⟩ := hal.2.2 _ _ hkE
        refine ⟨rfl, cellV, (show T.heap[y]? = some cellV by rw [hT]; exact g1), (fun q h => by rw [h] at g2; cases g2), ⟨kC', hkC'⟩, ?_, ?_⟩
        · exact ⟨kE', hkE'⟩
        · show vm₁.assignable _ _ = true
          rw [hal.assignable]
          exact y3)
    (g := F0 m pc ls (.int (nI k) :: .int (nI j) :: .ref a :: .int (nI i) :: .ref a0 :: rest)) rfl (by rw [hml]) (rest := rest) rfl (by rw [hb]; exact hdg) hframes (by show 2 * 0 + _ + _ ≤ _; omega)
  have e1 : copied (vp_cell c0 (n0, .inr (.inr (.inr (.inr f))))) (vp_cell c1 (n1, .inr (.inr (.inr (.inr g))))) (nI i) (nI j) (nI k) = vp_cell c1 (n1, .inr (.inr (.inr (.inr (va_cpy f g i j k))))) := by
    rw [vp_cell_q, vp_cell_q, vp_cell_q]
    refine Eq.trans ?_ (va_copied (fun z => va_rf z) c0 c1 f g (n1 := n1) (sp := i) (dp := j) (n := k) h4)
    show Cell.storeRun _ (nI j).toNatClampNeg (Cell.stretch _ (nI i).toNatClampNeg (nI k).toNatClampNeg) = _
    rw [ci, cj, ck]
  rw [e1] at X' step
  have hl : a < H.size := (Array.getElem?_eq_some_iff.mp hc1').1
  have hheap : ((T.setVm vm').setCell a (vp_cell c1 (n1, .inr (.inr (.inr (.inr (va_cpy f g i j k))))))).heap = H.setIfInBounds a (vp_cell c1 (n1, .inr (.inr (.inr (.inr (va_cpy f g i j k)))))) := by rw [← hT]; rfl
  have oq : ∀ q : Nat, q ≠ a → (H.setIfInBounds a (vp_cell c1 (n1, .inr (.inr (.inr (.inr (va_cpy f g i j k)))))))[q]? = H[q]? := fun q hq => by simp [Array.getElem?_setIfInBounds, Ne.symm hq]
  obtain ⟨t, a1, b1⟩ := kk _ _ ⟨show (H.setIfInBounds a _)[a]? = some _ by simp [Array.getElem?_setIfInBounds, hl], by simp, oq⟩ ⟨by simp; exact hS.1, fun q g1 g2 => by
      rw [oq q (fun e => g2 (by rw [e]; exact hA))]
      exact hS.2.1 q g1 g2, fun q hq => by
      rcases List.mem_append.mp hq with h | h
      · exact hS.2.2 q h
      · obtain ⟨z, -, hz⟩ := List.mem_map.mp h
        rw [← hz]
        exact hA⟩ _ hheap X'
  exact ⟨t, step t a1, b1⟩
end COPY
theorem cast_asg {C E : String} {s : State} (hca : va_Nw (.castable C E) s) (c0 t1 : ClassId) (h1 : s.vm.findClass C = some c0) (h2 : s.vm.findClass E = some t1) : s.vm.assignable c0 t1 = true := by
  obtain ⟨x1, x2, y1, y2, y3⟩ := Cond.castable_spec (va_Nw.use (A := #[]) rfl hca)
  cases y1.symm.trans h1
  cases y2.symm.trans h2
  exact y3
/-- an object that may stand in a list -/
def lobj (D : va_G) (_ : Nat → ClassId) (_ : Nat → Nat) (H : Heap) (v : Nat) : Prop := ∃ (ci : Nat) (r : vw_C) (vs : List Value), va_at D vwCl (v, .inr (ci, vs)) H ∧ vwCl[ci]? = some r ∧ Cond.castable r.1 "java/lang/Object" ∈ lw_tbl
def alf (n : Nat) (el : Nat → Nat) : Nat → Option Nat := fun j => if j < n then some (el j) else none
theorem alf_lt {n j : Nat} {el : Nat → Nat} (h : j < n) : alf n el j = some (el j) := if_pos h
theorem lobj.S {D : va_G} {cA : Nat → ClassId} {Z : Nat → Nat} {H H1 : Heap} {v a : Nat} {e : va_E} (h : lobj D cA Z H v) (hs : hS1 D H H1 a e) (hn : v ≠ a) : lobj D cA Z H1 v := by
  obtain ⟨ci, r, vs, h1, h2⟩ := h
  exact ⟨ci, r, vs, atK h1 hs hn, h2⟩
theorem lobj.N {D : va_G} {cA : Nat → ClassId} {Z : Nat → Nat} {H H1 : Heap} {v : Nat} {e : va_E} (h : lobj D cA Z H v) (hs : hN1 D H H1 e) : lobj D cA Z H1 v := by
  obtain ⟨ci, r, vs, h1, h2⟩ := h
  exact ⟨ci, r, vs, atN h1 hs, h2⟩
theorem lobj.C {D : va_G} {cA : Nat → ClassId} {Z : Nat → Nat} {H H1 : Heap} {v : Nat} {A : Nat → Prop} (h : lobj D cA Z H v) (hs : hC A H H1) (hn : ¬ A v) : lobj D cA Z H1 v := by
  obtain ⟨ci, r, vs, h1, h2⟩ := h
  exact ⟨ci, r, vs, atC h1 hs hn, h2⟩
theorem lobj.lt {D : va_G} {cA : Nat → ClassId} {Z : Nat → Nat} {H : Heap} {v : Nat} (h : lobj D cA Z H v) : v < H.size := by
  obtain ⟨ci, r, vs, h1, h2⟩ := h
  exact at_lt h1
/-- a list of at most ten elements -/
def AL (D : va_G) (cA : Nat → ClassId) (Z : Nat → Nat) (H : Heap) (a ed : Nat) (mo : Int32) (n : Nat) (el : Nat → Nat) : Prop :=
  va_at D vwCl (a, .inr (10, [.int mo, .ref ed, .int (nI n)])) H ∧ ((n = 0 ∧ ed = Z 0) ∨ (ed ≠ Z 0 ∧ va_at D vwCl (ed, .inl (cA 3, 10, .inr (.inr (.inr (.inr (alf n el)))))) H))
def upE (el : Nat → Nat) (n v : Nat) : Nat → Nat := fun j => if j = n then v else el j
theorem alf_up {n v : Nat} {el : Nat → Nat} : va_up (alf n el) n (some v) = alf (n + 1) (upE el n v) := by
  funext j
  simp only [va_up, alf, upE]
  by_cases h : j = n
  · subst h; simp
  · simp only [h, if_false]
    by_cases h2 : j < n
    · rw [if_pos h2, if_pos (by omega)]
    · rw [if_neg h2, if_neg (by omega)]
theorem alf_up0 {v : Nat} {el : Nat → Nat} : va_up (fun _ => none) 0 (some v) = alf 1 (upE el 0 v) := by
  have := alf_up (n := 0) (v := v) (el := el)
  rw [show alf 0 el = fun _ => none from funext fun j => if_neg (Nat.not_lt_zero j)] at this
  exact this
theorem AL_ne0 {D : va_G} {ed z : Nat} {c : ClassId} {f : Nat → Option Nat} {ty : FieldType} {g : Nat → Value} {F : Nat → Prop} {U : State} {H : Heap} (h : va_at D vwCl (ed, .inl (c, 10, .inr (.inr (.inr (.inr f))))) H) (h0 : va_T ty z 0 g F U H) : ed ≠ z := fun q => by
  subst q
  obtain ⟨cell, h1, -, -, -, h5, -⟩ := h0
  have h2 : H[ed]? = some (vp_cell c (10, .inr (.inr (.inr (.inr f))))) := h
  rw [h2] at h1
  cases h1
  rw [vp_cell_q, arrV_size] at h5
  exact absurd h5 (by decide)
theorem AL.arr {D : va_G} {cA : Nat → ClassId} {Z : Nat → Nat} {H : Heap} {a ed : Nat} {mo : Int32} {n : Nat} {el : Nat → Nat} (h : AL D cA Z H a ed mo n el) (hn : 0 < n) : va_at D vwCl (ed, .inl (cA 3, 10, .inr (.inr (.inr (.inr (alf n el)))))) H := by
  rcases h.2 with ⟨q, -⟩ | ⟨-, q⟩
  · omega
  · exact q
theorem lobj_el {D : va_G} {cA : Nat → ClassId} {Z : Nat → Nat} {H : Heap} {y : Nat} {s : State} (hK : va_K D vwCl (tysG cA) s) (hE : Ex s) (h : lobj D cA Z H y) : ∃ (cellV : Cell) (C : String), H[y]? = some cellV ∧ cellV.vm.isStatics = false ∧ s.vm.findClass C = some cellV.cls ∧ va_Nw (.castable C "java/lang/Object") s := by
  obtain ⟨ci, r, vs, h1, h2, h3⟩ := h
  obtain ⟨cell, a1, a2, a3⟩ := rcv (C := r.1) (T := r.2.1) (N := r.2.2) hK h1 h2
  exact ⟨cell, r.1, a1, a2, a3, hE.2.2.1 _ _ h3⟩
def remE (el : Nat → Nat) (j : Nat) : Nat → Nat := fun q => if q < j then el q else el (q + 1)
theorem alf_rem {n j : Nat} {el : Nat → Nat} (h : j < n) : va_up (va_cpy (alf n el) (alf n el) (j + 1) j (n - 1 - j)) (n - 1) none = alf (n - 1) (remE el j) := by
  funext q
  simp only [va_up, va_cpy, alf, remE]
  by_cases h1 : q = n - 1
  · rw [if_pos h1, if_neg (by omega)]
  · rw [if_neg h1]
    by_cases h2 : j ≤ q ∧ q < j + (n - 1 - j)
    · rw [if_pos h2, if_pos (by omega), if_pos (by omega), if_neg (by omega)]
      congr 2
      omega
    · rw [if_neg h2]
      by_cases h3 : q < n
      · rw [if_pos h3, if_pos (by omega), if_pos (by omega)]
      · rw [if_neg h3, if_neg (by omega)]
theorem alf_rem1 {n j : Nat} {el : Nat → Nat} (h : j < n) (h2 : n - 1 ≤ j) : va_up (alf n el) (n - 1) none = alf (n - 1) (remE el j) := by
  funext q
  simp only [va_up, alf, remE]
  by_cases h1 : q = n - 1
  · rw [if_pos h1, if_neg (by omega)]
  · rw [if_neg h1]
    by_cases h3 : q < n
    · rw [if_pos h3, if_pos (by omega), if_pos (by omega)]
    · rw [if_neg h3, if_neg (by omega)]
