/-! what every method of the system is called with: the tables' words that don't ride in the lists, the statics -/
theorem fc_name {vm : Vm} {n : String} {c : ClassId} (h : vm.findClass n = some c) : ∃ k, vm.classes[c]? = some k ∧ k.name = n := by
  obtain ⟨hlt, hp, _⟩ := Array.findIdx?_eq_some_iff_getElem.mp h
  refine ⟨vm.classes[c], by simp [hlt], ?_⟩
  simp only [Bool.and_eq_true, beq_iff_eq] at hp
  exact hp.1.1.1
theorem fc_inj {vm : Vm} {n1 n2 : String} {c : ClassId} (h1 : vm.findClass n1 = some c) (h2 : vm.findClass n2 = some c) : n1 = n2 := by
  obtain ⟨k1, a1, b1⟩ := fc_name h1
  obtain ⟨k2, a2, b2⟩ := fc_name h2
  rw [a1] at a2
  cases a2
  exact b1.symm.trans b2
/-- a default method is what a class's object runs -/
def lD (C : String) (x y : MethodName) (U : State) : Prop := (Cond.landsInDefault C x y).before #[] U = true ∧ (Cond.declares x).before #[] U = true
theorem lD.moved {C : String} {x y : MethodName} (hx : x.cls ≠ "java/lang/invoke/MethodHandle" ∧ x.cls ≠ "java/lang/invoke/VarHandle") {u U : State} (hvm : u.vm.Alike U.vm) (h : lD C x y u) : lD C x y U := by
  obtain ⟨h1, h2⟩ := h
  obtain ⟨r, meth, hn, -⟩ := Cond.declares_spec h2
  have e1 : (Cond.landsInDefault C x y).before #[] (u.setVm U.vm) = true := (Cond.landsInDefault_setVm (args := #[]) (args' := #[]) hvm (State.methodFound?_setVm_of_named hvm hn hx)).trans h1
  have e2 : (Cond.declares x).before #[] (u.setVm U.vm) = true := by rw [Cond.declares_setVm hvm]; exact h2
  exact ⟨e1, e2⟩
def lDs (U : State) : Prop := lD "TicketScales$Nearest" yX18_of yX18_of U ∧ lD "TicketScales$Least" yX18_of yX18_of U ∧ lD "TicketScales$Greatest" yX18_of yX18_of U ∧ lD "TicketScales$Middle" yX18_of yX18_of U
theorem lDs.moved {u U : State} (hvm : u.vm.Alike U.vm) (h : lDs u) : lDs U := by
  have hx : yX18_of.cls ≠ "java/lang/invoke/MethodHandle" ∧ yX18_of.cls ≠ "java/lang/invoke/VarHandle" := by decide
  exact ⟨h.1.moved hx hvm, h.2.1.moved hx hvm, h.2.2.1.moved hx hvm, h.2.2.2.moved hx hvm⟩
/-- the words that don't ride in the lists -/
def Ex (U : State) : Prop :=
  (∀ (a : String) (i : Nat) (b n d h : String), Cond.fieldLinkNest a i b n d h ∈ lw_tbl → va_Nw (Cond.fieldLinkNest a i b n d h) U) ∧
  (∀ (a : String) (i : Nat) (x : MethodName) (h : String), Cond.methodLinkNest a i x h ∈ lw_tbl → va_Nw (Cond.methodLinkNest a i x h) U) ∧
  (∀ (C T : String), Cond.castable C T ∈ lw_tbl → va_Nw (Cond.castable C T) U) ∧
  (∀ (C : String) (x y : MethodName), (x.cls ≠ "java/lang/invoke/MethodHandle" ∧ x.cls ≠ "java/lang/invoke/VarHandle") → Cond.declares x ∈ lw_tbl → Cond.interfaceMethod x.cls x.cls x.name x.desc ∈ lw_tbl → Cond.publicMethod y ∈ lw_tbl → Cond.unhidden C x.name x.desc ∈ lw_tbl → Cond.castable C x.cls ∈ lw_tbl → va_Fw C x y U) ∧
  (∀ C : String, Cond.arrayOver (.object C) ∈ lw_tbl → va_AO C U) ∧ lDs U
theorem Ex.same {u U : State} (h : u.vm = U.vm) (hE : Ex u) : Ex U := by
  obtain ⟨h1, h2, h3, h4, h5, h6⟩ := hE
  exact ⟨fun a i b n d x q => (h1 a i b n d x q).same rfl h, fun a i x y q => (h2 a i x y q).same rfl h, fun C T q => (h3 C T q).same rfl h,
    fun C x y hx a b c d e => (h4 C x y hx a b c d e).moved hx (h ▸ Vm.Alike.refl u.vm), fun C q => (h5 C q).moved (h ▸ Vm.Alike.refl u.vm), h6.moved (h ▸ Vm.Alike.refl u.vm)⟩
theorem Ex.warm {s U : State} (hW : s.WarmedH U.vm) (hE : Ex s) : Ex U := by
  obtain ⟨h1, h2, h3, h4, h5, h6⟩ := hE
  exact ⟨fun a i b n d x q => (h1 a i b n d x q).warmF hW, fun a i x y q => (h2 a i x y q).warmM hW, fun C T q => (h3 C T q).warmC hW,
    fun C x y hx a b c d e => (h4 C x y hx a b c d e).moved hx hW.alike, fun C q => (h5 C q).moved hW.alike, h6.moved hW.alike⟩
/-- the statics: Z 0 the empty array of lists, Z 1 the guesses, Z 2 .. Z 5 its objects -/
def En (Z : Nat → Nat) (F : Nat → Prop) (U : State) (H : Heap) : Prop :=
  (va_Z "java/util/ArrayList" "DEFAULTCAPACITY_EMPTY_ELEMENTDATA" "[Ljava/lang/Object;" (.ref (Z 0)) F U H ∧ va_T (.object "java/lang/Object") (Z 0) 0 (fun _ => .null) F U H) ∧
  va_Z "java/lang/String" "COMPACT_STRINGS" "Z" (.int 1) F U H ∧
  (va_Z "TicketScales" "GUESSES" "[LTicketScales$Guess;" (.ref (Z 1)) F U H ∧ va_T (.object "TicketScales$Guess") (Z 1) 4 (fun j => .ref (Z (2 + j))) F U H) ∧
  (va_O "TicketScales$Nearest" (Z 2) F U H ∧ va_O "TicketScales$Least" (Z 3) F U H ∧ va_O "TicketScales$Greatest" (Z 4) F U H ∧ va_O "TicketScales$Middle" (Z 5) F U H)
theorem En.moved {Z : Nat → Nat} {F : Nat → Prop} {u U : State} {H : Heap} (hvm : u.vm.Alike U.vm) (h : En Z F u H) : En Z F U H :=
  ⟨⟨h.1.1.moved hvm, h.1.2.moved hvm⟩, h.2.1.moved hvm, ⟨h.2.2.1.1.moved hvm, h.2.2.1.2.moved hvm⟩, h.2.2.2.1.moved hvm, h.2.2.2.2.1.moved hvm, h.2.2.2.2.2.1.moved hvm, h.2.2.2.2.2.2.moved hvm⟩
theorem En.kept {Z : Nat → Nat} {F : Nat → Prop} {U : State} {H H1 : Heap} (h : En Z F U H) (hc : hC F H H1) : En Z F U H1 :=
  ⟨⟨h.1.1.kept hc.2, h.1.2.kept hc.2⟩, h.2.1.kept hc.2, ⟨h.2.2.1.1.kept hc.2, h.2.2.1.2.kept hc.2⟩, h.2.2.2.1.kept hc.2, h.2.2.2.2.1.kept hc.2, h.2.2.2.2.2.1.kept hc.2, h.2.2.2.2.2.2.kept hc.2⟩
theorem En.narrow {Z : Nat → Nat} {F G : Nat → Prop} {U : State} {H : Heap} (h : En Z F U H) (hg : ∀ q, G q → F q) : En Z G U H :=
  ⟨⟨h.1.1.narrow hg, h.1.2.narrow hg⟩, h.2.1.narrow hg, ⟨h.2.2.1.1.narrow hg, h.2.2.1.2.narrow hg⟩, h.2.2.2.1.narrow hg, h.2.2.2.2.1.narrow hg, h.2.2.2.2.2.1.narrow hg, h.2.2.2.2.2.2.narrow hg⟩
/-- a method's start: the heap H, the tables, the statics outside F -/
def cP (D : va_G) (cA : Nat → ClassId) (Z : Nat → Nat) (F : Nat → Prop) (H : Heap) (As : List Value) : Array Value → State → Prop := va_Pc As (fun U => U.heap = H ∧ va_K D vwCl (tysG cA) U ∧ Ex U ∧ En Z F U H)
theorem cP_blind {D : va_G} {cA : Nat → ClassId} {Z : Nat → Nat} {F : Nat → Prop} {H : Heap} {As : List Value} : FrameBlind (cP D cA Z F H As) := fun a U g mk q => by
  obtain ⟨q0, qh, qK, qE, qN⟩ := q
  exact ⟨q0, qh, va_K.moved (u := U) (U := U.calling g mk a) (Vm.Alike.refl U.vm) qK, qE.same rfl, qN.moved (u := U) (U := U.calling g mk a) (Vm.Alike.refl U.vm)⟩
/-- class numbers are apart -/
theorem K_cc {D : va_G} {tys : List (ClassId × FieldType)} {s : State} (hK : va_K D vwCl tys s) {i j : Nat} {r q : vw_C} (hi : vwCl[i]? = some r) (hj : vwCl[j]? = some q) (hn : r.1 ≠ q.1) : D.1 i ≠ D.1 j := fun h => by
  have h1 := (hK.1 i r hi).2.1
  have h2 := (hK.1 j q hj).2.1
  rw [h] at h1
  exact hn (fc_inj h1 h2)
def clsOf (D : va_G) (e : va_E) : ClassId := match e with
  | .inl x => x.1
  | .inr o => D.1 o.1
theorem at_cls {D : va_G} {a : Nat} {e : va_E} {H : Heap} (h : va_at D vwCl (a, e) H) : ∃ cell : Cell, H[a]? = some cell ∧ cell.cls = clsOf D e := by
  match e, h with
  | .inl (k, n, f), h =>
    refine ⟨_, h, ?_⟩
    match f with
    | .inl _ => rfl
    | .inr (.inl _) => rfl
    | .inr (.inr (.inl _)) => rfl
    | .inr (.inr (.inr (.inl _))) => rfl
    | .inr (.inr (.inr (.inr _))) => rfl
  | .inr o, h =>
    obtain ⟨r, -, cell, h1, h2, -⟩ := h
    exact ⟨cell, h1, h2⟩
/-- cells of different classes are apart -/
theorem at_ne {D : va_G} {a b : Nat} {e e' : va_E} {H : Heap} (h : va_at D vwCl (a, e) H) (h' : va_at D vwCl (b, e') H) (hn : clsOf D e ≠ clsOf D e') : a ≠ b := fun q => by
  subst q
  obtain ⟨c1, a1, b1⟩ := at_cls h
  obtain ⟨c2, a2, b2⟩ := at_cls h'
  rw [a1] at a2
  cases a2
  exact hn (b1.symm.trans b2)
theorem at_lt {D : va_G} {a : Nat} {e : va_E} {H : Heap} (h : va_at D vwCl (a, e) H) : a < H.size := h.lt
theorem toCR {p : Program} {l : Launch} {e : Env} {R : Room} {s : State} {m : MethodId} {args : Array Value} {below : List Frame} {meth : Method} {c : Code} {H : Heap} {locs : List Loc} {cells slots mc ms : Nat} {g : JFrame} {rest : List Value} {Qa : State → Outcome → State → Prop} {free : Addr → Prop}
    (h : va_Run p l e R s m args below meth c H locs cells slots mc ms g rest Qa free) : CallRun p l e R s m args below meth c H locs cells slots mc ms g rest Qa free := fun T hT X => by
  obtain ⟨v, st₀, t, T', L, a1, a2, a3, a4, a5, a6, a7⟩ := h T hT X
  exact ⟨v, st₀, t, T', L, a1, a2, a3, a4, a6, a7⟩
/-- class numbers and array classes are apart -/
theorem K_ca {D : va_G} {cA : Nat → ClassId} {s : State} (hK : va_K D vwCl (tysG cA) s) {i : Nat} (k : Nat) {r : vw_C} {c : ClassId} {ty : FieldType} (hi : vwCl[i]? = some r) (hk : (tysG cA)[k]? = some (c, ty)) (hn : r.1 ≠ "[" ++ ty.toString) : D.1 i ≠ c := fun h => by
  have h1 := (hK.1 i r hi).2.1
  have h2 := (hK.2 k _ hk).2
  have h3 : s.vm.findClass ("[" ++ ty.toString) = some c := by
    cases ty with
    | object C => obtain ⟨_, _, _, _, _, h⟩ := h2; exact h
    | _ => exact h2
  rw [h] at h1
  exact hn (fc_inj h1 h3)
theorem K_aa {D : va_G} {cA : Nat → ClassId} {s : State} (hK : va_K D vwCl (tysG cA) s) (j k : Nat) {c c' : ClassId} {ty ty' : FieldType} (hj : (tysG cA)[j]? = some (c, ty)) (hk : (tysG cA)[k]? = some (c', ty')) (hn : "[" ++ ty.toString ≠ "[" ++ ty'.toString) : c ≠ c' := fun h => by
  have nm : ∀ (k : Nat) (c : ClassId) (ty : FieldType), (tysG cA)[k]? = some (c, ty) → s.vm.findClass ("[" ++ ty.toString) = some c := by
    intro k c ty hk
    have h2 := (hK.2 k _ hk).2
    cases ty with
    | object C => obtain ⟨_, _, _, _, _, h⟩ := h2; exact h
    | _ => exact h2
  have h1 := nm j c ty hj
  have h2 := nm k c' ty' hk
  rw [h] at h1
  exact hn (fc_inj h1 h2)
theorem cP_at {D : va_G} {cA : Nat → ClassId} {Z : Nat → Nat} {F : Nat → Prop} {H : Heap} {As : List Value} {s : State} (hK : va_K D vwCl (tysG cA) s) (hE : Ex s) (hN : En Z F s H) (U : State) (hU : U.heap = H) (hW : s.WarmedH U.vm) : cP D cA Z F H As As.toArray U := ⟨rfl, hU, va_K.moved hW.alike hK, hE.warm hW, hN.moved hW.alike⟩
theorem cP_S {D : va_G} {cA : Nat → ClassId} {Z : Nat → Nat} {F : Nat → Prop} {H : Heap} {As : List Value} {s : State} (hK : va_K D vwCl (tysG cA) s) (hE : Ex s) (hN : En Z F s H) : PreS s H (cP D cA Z F H As) As := ⟨cP_blind, fun U hU hW => cP_at hK hE hN U hU hW⟩
theorem cP_V {D : va_G} {cA : Nat → ClassId} {Z : Nat → Nat} {F : Nat → Prop} {H : Heap} {As : List Value} {s : State} {C : String} {b : Addr} (hK : va_K D vwCl (tysG cA) s) (hE : Ex s) (hN : En Z F s H) (hR : ∃ cellB : Cell, H[b]? = some cellB ∧ cellB.vm.isStatics = false ∧ s.vm.findClass C = some cellB.cls) : PreV s H C b (cP D cA Z F H (.ref b :: As)) As := ⟨cP_blind, hR, fun U hU hW => cP_at hK hE hN U hU hW⟩
