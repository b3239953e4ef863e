/-! the system's small words; a method of a class whose other methods the machine runs itself -/
def jmax (a b : Int32) : Int32 := if a < b then b else a
def jmin (a b : Int32) : Int32 := if b < a then b else a
def jabs (a : Int32) : Int32 := if a < 0 then -a else a
def jfd (a b : Int32) : Int32 := if a ^^^ b < 0 ∧ ¬ a / b * b = a then a / b - 1 else a / b
def jminl (a b : Int64) : Int64 := if 0 < lg_cmp a b then b else a
theorem Met.ofWF {l : Launch} {y : MethodName} {ws ws' : List Cond} {rm : Room} {Pc : Array Value → State → Prop} {Qc : Array Value → State → Outcome → State → Prop} {mc ms : Nat} {free : Addr → Prop} {cc : ByteArray} {maxL : Nat} {ret : Option FieldType}
    (hy : plainFor y = true) (hw : ws = Cond.code y cc maxL ret :: ws')
    (body : ∀ p e s m args below meth c s₁, BodyLoose p l y (headSpec ws rm) cc maxL ret e s m args below meth c s₁ → c.maxLocals = maxL → Pc args s →
      W p l e (headSpec ws rm).room s m args below meth c s.heap [] 0 0 (MQ below Qc args s mc ms free) (entryFrame m args maxL)) : Met l y ws rm Pc Qc mc ms free := by
  refine MetFree.of_bodySF (code := cc) (maxLocals := maxL) (ret := ret) hy ?_ ?_
  · intro args s m h hn
    obtain ⟨meth, c, h1, h2, h3, h4, h5, h6, -, -⟩ := Cond.code_spec hn (atoms_spec (ws := ws) h _ (by rw [hw]; exact List.mem_cons_self))
    exact ⟨meth, c, h1, h2, h3, h4, h5, h6⟩
  · intro p e s m args below meth c s₁ B hml hP _
    have hh0 : s₁.heap = s.heap := by rw [B.state]; rfl
    obtain ⟨t, a1, o, b1, b2, b3⟩ := body p e s m args below meth c s₁ B hml hP s₁ hh0 (Stand.of_body B)
    exact ⟨t, o, a1, b1, b2, ⟨b3.1, b3.2⟩⟩
theorem nar_q {C : String} (r : Option Nat) : narrow (.object C) (va_rf r) = va_rf r := by cases r <;> rfl
theorem fit_q {C : String} (r : Option Nat) : fits (.object C) (va_rf r) = true := by cases r <;> rfl
theorem O_rcv {E : String} {t : Nat} {A : Nat → Prop} {U : State} {H : Heap} (h : va_O E t A U H) : ∃ cell : Cell, H[t]? = some cell ∧ cell.vm.isStatics = false ∧ U.vm.findClass E = some cell.cls := by
  obtain ⟨cell, h1, h2, h3, -⟩ := h
  exact ⟨cell, h1, h2, h3⟩
/-- a call through an interface, of an object whose class is known by its name -/
theorem g_runF {p : Program} {l : Launch} {e : Env} {R : Room} {s : State} {m : MethodId} {args : Array Value} {below : List Frame} {meth : Method} {c : Code} {H : Heap} {locs : List Loc} {cells slots : Nat} {x y : MethodName} {bytes cc : ByteArray} {maxL nL mc ms n index count : Nat} {ret : Option FieldType} {ws : List Cond} {rm : Room} {Pc : Array Value → State → Prop} {Qc : Array Value → State → Outcome → State → Prop} {free : Addr → Prop} {Ts : List Cond} {own C : String} {b : Addr} {As rest : List Value} {g : JFrame}
    (S : CallFix p m c cc nL s args Ts own) (hM : Met l y ws rm Pc Qc mc ms free) (cw : va_CI R s args own C index x y bytes maxL ret ws rm mc ms n) (hp : PreV s H C b Pc As)
    (hg : g.method = m) (hn : As.length = n) (hsize : g.locals.size = nL) (hstack : g.stack = As.reverse ++ .ref b :: rest) (hW : 2 * g.monitorRoom + (rest.map fun v => v.category).sum ≤ 8) (hdg : decode cc g.pc = .ok (.invokeinterface index count, 5)) (hf : cells + mc ≤ R.cells ∧ slots + ms ≤ R.slots) :
    va_Run5 p l e R s m args below meth c H locs cells slots mc ms g rest (Qc (Value.ref b :: As).toArray) (free) := by
  obtain ⟨w1, w2, w3, w4, w5, w6⟩ := cw.back
  have hback := back_of (l := l) (R := R) (p := p) (e := e) (below := below) (s := s) (sargs := args) (len := 5) (W := 8) (bytes := bytes) (maxL := maxL) (ret := ret) hM hp.1 w1 w2 w3 w4 w5 w6 (fun a' U hW => word_at hW (Or.inl (by first | rfl | simp [Cond.onTables, Cond.keeps, Cond.steady])) cw.init)
  obtain ⟨s1, s2, s3, s4, -⟩ := S
  obtain ⟨-, ⟨cellB, hcB, hoB, hclB⟩, hPc⟩ := hp
  obtain ⟨kB, hkB, -⟩ := fc_name hclB
  intro T hT X
  obtain ⟨v, vm₁, ⟨U', l2, c2, z2⟩, hW₁, X', ⟨g', mk, t, L, e1, e2, hq, h1, hL, h2, h3⟩, st⟩ := va_callIF X s1 (C := C) (bytes := bytes) (maxL := maxL) (ret := ret) s4 cw.link cw.decl cw.face cw.sel cw.inst cw.pub cw.unh cw.cast cw.code cw.notMH hback (by rw [hT]; exact hcB) hoB hclB hkB hg (hsize.trans s3.symm) (argsL := As) (rest := rest) (fun sig h => hn.trans (cw.len sig h)) hstack hW (by rw [s2]; exact hdg)
    (fun vm₁ hW₁ => ⟨hf.1, hf.2, hPc (T.setVm vm₁) hT hW₁⟩)
  dsimp only [Pt.U, Pt.locs, Pt.cells, Pt.slots] at X' e1 e2 h1 h2 h3 st
  subst h1; subst h2; subst h3
  exact ⟨v, (T.setVm vm₁).calling g' mk (Value.ref b :: As).toArray, t, U', L, hT, X', hL, e1, e2, hq, st⟩
theorem jml (a b e : Int32) : (jminl 99 (a.toInt64 + b.toInt64 * e.toInt64)).toInt32 = tk_stk a b e := by
  unfold jminl tk_stk lg_cmp
  generalize a.toInt64 + b.toInt64 * e.toInt64 = z
  by_cases h : (99 : Int64) < z
  · have h2 : ¬ (99 : Int64) > z := fun q => by rw [gt_iff_lt, Int64.lt_iff_toInt_lt] at q; rw [Int64.lt_iff_toInt_lt] at h; omega
    have h3 : ¬ (99 : Int64) = z := fun q => by rw [Int64.lt_iff_toInt_lt, ← q] at h; omega
    rw [if_pos h, if_neg h2, if_neg h3]
    rfl
  · rw [if_neg h]
    by_cases h2 : (99 : Int64) > z
    · rw [if_pos h2]; rfl
    · have h3 : (99 : Int64) = z := by
        rw [← Int64.toInt_inj]
        rw [Int64.lt_iff_toInt_lt] at h
        rw [gt_iff_lt, Int64.lt_iff_toInt_lt] at h2
        omega
      rw [if_neg h2, if_pos h3, ← h3]
      rfl
theorem jlii (x : Int32) : x.toInt64.toInt32 = x := by simp
theorem g_wsF {own : String} {idx : Nat} {C : String} {x y : MethodName} {b : ByteArray} {L : Nat} {r : Option FieldType} (h1 : Cond.methodLink own idx x ∈ lw_all) (h2 : Cond.selects C x y ∈ lw_all) (h3 : Cond.instanceMethod y ∈ lw_all) (h4 : Cond.initialized y.cls ∈ lw_all) (h5 : Cond.code y b L r ∈ lw_all) : GoodIn lw_all (va_wsF own idx C x y (ws_ y b L r)) := by
  refine lw_app ?_ (lw_meth h5)
  intro w hw
  simp only [List.mem_cons, List.not_mem_nil, or_false] at hw
  rcases hw with e | e | e | e
  · rw [e]; exact h1
  · rw [e]; exact h2
  · rw [e]; exact h3
  · rw [e]; exact h4
/-- a call through an interface that lands in its default method -/
theorem g_runD {p : Program} {l : Launch} {e : Env} {R : Room} {s : State} {m : MethodId} {args : Array Value} {below : List Frame} {meth : Method} {c : Code} {H : Heap} {locs : List Loc} {cells slots : Nat} {x y : MethodName} {bytes cc : ByteArray} {maxL nL mc ms n index count : Nat} {ret : Option FieldType} {ws ws' : List Cond} {rm : Room} {Pc : Array Value → State → Prop} {Qc : Array Value → State → Outcome → State → Prop} {free : Addr → Prop} {Ts : List Cond} {own C : String} {b : Addr} {As rest : List Value} {g : JFrame}
    (S : CallFix p m c cc nL s args Ts own) (hM : Met l y ws rm Pc Qc mc ms free) (hp : PreV s H C b Pc As)
    (hG : GoodIn Ts ws) (hw : ws = Cond.code y bytes maxL ret :: ws') (hrc : rm.cells = mc) (hrs : rm.slots = ms) (hlink : (Cond.methodLink own index x).before args s = true) (hinst : (Cond.instanceMethod y).before args s = true) (hini : (Cond.initialized y.cls).before args s = true)
    (hface : (Cond.interfaceMethod x.cls x.cls x.name x.desc) ∈ lw_tbl ∧ (Cond.publicMethod y) ∈ lw_tbl ∧ (Cond.castable C x.cls) ∈ lw_tbl ∧ (Cond.declares x) ∈ lw_tbl ∧ (Cond.unhidden C x.name x.desc) ∈ lw_tbl) (hE : Ex s) (hL : lD C x y s)
    (hd : x.cls ≠ "java/lang/invoke/MethodHandle" ∧ x.cls ≠ "java/lang/invoke/VarHandle" ∧ (parseMethodDescriptor x.desc).map (fun d => d.parameters.length) = some n) (hR : rm.frames + 1 ≤ R.frames ∧ 8 + (maxL + 11) + rm.locals ≤ R.locals)
    (hg : g.method = m) (hn : As.length = n) (hsize : g.locals.size = nL) (hstack : g.stack = As.reverse ++ .ref b :: rest) (hW : 2 * g.monitorRoom + (rest.map fun v => v.category).sum ≤ 8) (hdg : decode cc g.pc = .ok (.invokeinterface index count, 5)) (hf : cells + mc ≤ R.cells ∧ slots + ms ≤ R.slots) :
    va_Run5 p l e R s m args below meth c H locs cells slots mc ms g rest (Qc (Value.ref b :: As).toArray) (free) := by
  have hcw : Cond.code y bytes maxL ret ∈ ws := by rw [hw]; exact List.mem_cons_self
  obtain ⟨s1, s2, s3, s4, s5⟩ := S
  obtain ⟨f1, f2, f3, f4, f5⟩ := hface
  have hFw := hE.2.2.2.1 C x y ⟨hd.1, hd.2.1⟩ f4 f1 f2 f5 f3
  have hback := back_of (l := l) (R := R) (p := p) (e := e) (below := below) (s := s) (sargs := args) (len := 5) (W := 8) (bytes := bytes) (maxL := maxL) (ret := ret) hM hp.1 hrc hrs hR.1 hR.2 (pay_in s5 hG) hcw (fun a' U hW => word_at hW (Or.inl (by first | rfl | simp [Cond.onTables, Cond.keeps, Cond.steady])) hini)
  obtain ⟨-, ⟨cellB, hcB, hoB, hclB⟩, hPc⟩ := hp
  obtain ⟨kB, hkB, -⟩ := fc_name hclB
  intro T hT X
  obtain ⟨v, vm₁, ⟨U', l2, c2, z2⟩, hW₁, X', ⟨g', mk, t, L, e1, e2, hq, h1, hL1, h2, h3⟩, st⟩ := X.interfaceBackD s1 (C := C) s4 hlink (va_any rfl hFw.1) (va_any rfl hFw.2.1) (show (Cond.landsInDefault C x y).before args s = true from hL.1) hinst (va_any rfl hFw.2.2.1) (va_any rfl hFw.2.2.2.2) ⟨hd.1, hd.2.1⟩ hback hclB hkB ⟨cellB, by rw [hT]; exact hcB, rfl, hoB⟩ hg (hsize.trans s3.symm) (s₀ := T.setTop g) (Steps.refl _) (argsL := As) (rest := rest) (fun sig h => by
      have h2 := hd.2.2
      rw [h] at h2
      exact hn.trans (Option.some.inj h2).symm) hstack hW (by rw [s2]; exact hdg)
    (fun vm₁ hW₁ => ⟨hf.1, hf.2, hPc (T.setVm vm₁) hT hW₁⟩)
  dsimp only [Pt.U, Pt.locs, Pt.cells, Pt.slots] at X' e1 e2 h1 h2 h3 st
  subst h1; subst h2; subst h3
  exact ⟨v, (T.setVm vm₁).calling g' mk (Value.ref b :: As).toArray, t, U', L, hT, X', hL1, e1, e2, hq, fun target h => st.trans h⟩
theorem W.gq {p : Program} {l : Launch} {e : Env} {R : Room} {s : State} {m : MethodId} {args : Array Value} {below : List Frame} {meth : Method} {c : Code} {H : Heap} {locs : List Loc} {cells slots : Nat} {Q : State → Prop} {g : JFrame} (k : ∀ Q0 : State → Prop, Q = Q0 → W p l e R s m args below meth c H locs cells slots Q0 g) : W p l e R s m args below meth c H locs cells slots Q g := k Q rfl
