/-! THE INVOKING INSTRUCTIONS -/
set_option maxRecDepth 100000
/-- what every call asks of its callee y: its head word hd, maxL locals, n parameters -/
def lc_ (y : MethodName) (hd : Cond) (maxL n : Nat) : Prop := hd ∈ lw_all ∧ Cond.initialized y.cls ∈ lw_all ∧ (y.cls ≠ "java/lang/invoke/MethodHandle" ∧ y.cls ≠ "java/lang/invoke/VarHandle") ∧ (parseMethodDescriptor y.desc).map (fun d => d.parameters.length) = some n ∧ hc_ hd y maxL
/-- the entry idx of own's pool names y: its own link, or a nest mate's -/
def ml_ (own : String) (idx : Nat) (y : MethodName) : Prop := Cond.methodLink own idx y ∈ lw_all ∨ ∃ host : String, Cond.methodLinkNest own idx y host ∈ nw_
def lV_ (own : String) (idx : Nat) (C : String) (y : MethodName) (hd : Cond) (maxL n : Nat) : Prop := lc_ y hd maxL n ∧ ml_ own idx y ∧ Cond.instanceMethod y ∈ lw_all ∧ Cond.selects C y y ∈ lw_all
def lS_ (own : String) (idx : Nat) (y : MethodName) (cc : ByteArray) (maxL : Nat) (ret : Option FieldType) (n : Nat) : Prop := lc_ y (.code y cc maxL ret) maxL n ∧ ml_ own idx y ∧ Cond.static y ∈ lw_all
def lI_ (own : String) (idx : Nat) (y : MethodName) (cc : ByteArray) (maxL : Nat) (n : Nat) : Prop := lc_ y (.code y cc maxL none) maxL n ∧ ml_ own idx y ∧ Cond.instanceMethod y ∈ lw_all ∧ y.name = "<init>"
/-- an overriding method y, chosen for the class C where x is named -/
def lU_ (own : String) (idx : Nat) (C owner : String) (x y : MethodName) (hd : Cond) (maxL n : Nat) : Prop := lc_ y hd maxL n ∧ Cond.methodLink own idx x ∈ lw_all ∧ Cond.sameMethod x.cls owner x.name x.desc ∈ lw_all ∧ Cond.instanceMethod y ∈ lw_all ∧ Cond.selects C x y ∈ lw_all ∧ (owner ≠ "java/lang/invoke/MethodHandle" ∧ owner ≠ "java/lang/invoke/VarHandle") ∧ (parseMethodDescriptor x.desc).map (fun d => d.parameters.length) = some n ∧ (Cond.declares ⟨owner, x.name, x.desc⟩ ∈ nw_ ∨ (Cond.instanceMethod ⟨owner, x.name, x.desc⟩ ∈ lw_all ∧ ∃ (b0 : ByteArray) (m0 : Nat) (r0 : Option FieldType), Cond.code ⟨owner, x.name, x.desc⟩ b0 m0 r0 ∈ lw_all))
/-- super.y() -/
def lP_ (own : String) (idx : Nat) (y : MethodName) (cc : ByteArray) (maxL : Nat) (ret : Option FieldType) (n : Nat) : Prop := lc_ y (.code y cc maxL ret) maxL n ∧ Cond.methodLink own idx y ∈ lw_all ∧ Cond.sameMethod y.cls y.cls y.name y.desc ∈ lw_all ∧ Cond.superclass own y.cls ∈ lw_all ∧ Cond.instanceMethod y ∈ lw_all ∧ y.name ≠ "<init>"
theorem ds_ {e : Env} {s : State} {mk : MethodId} {av : Array Value} : ∀ acts : List Action, (doInvoke e s acts mk av).1 = (doInvoke e s [] mk av).1 := fun acts => by rw [doInvoke_state, doInvoke_state]
section IVK
variable {p : Program} {l : Launch} {e : Env} {R : Room} {s : State} {m : MethodId} {args : Array Value} {below : List Frame} {meth : Method} {c : Code} {H : Heap} {g : JFrame} {rest As : List Value}
theorem iv_V (hx : p.tables.exec = Jvm.exec) {own C : String} {idx : Nat} {y : MethodName} {hd : Cond} {maxL n : Nat} (hown : s.vm.findClass own = some m.cls) (hts : ∀ w ∈ lw_all, w.before args s = true) (hnw : ∀ w ∈ nw_, va_Nw w s) (h : lV_ own idx C y hd maxL n) {a : Nat} {cell : Cell} (hcell : H[a]? = some cell) (hobj : cell.vm.isStatics = false) (hcls : s.vm.findClass C = some cell.cls)
    (hg : g.method = m) (hn : As.length = n) (hst : g.stack = As.reverse ++ .ref a :: rest) (hdg : decode c.code g.pc = .ok (.invokevirtual idx, 3)) : iv_ p l e R s m args below meth c H g rest y (Value.ref a :: As).toArray := by
  intro T locs cells slots hT X
  obtain ⟨⟨hhd, hini, hy, hpar, hcd⟩, hml, hin, hsel⟩ := h
  obtain ⟨mk, methM, hnamed, hmethM, hstM, habM⟩ := Cond.instanceMethod_spec (hts _ hin)
  obtain ⟨methM', cM, hmethM', -, -, hsigM⟩ := hcd args s mk (hts _ hhd) hnamed
  cases hmethM.symm.trans hmethM'
  obtain ⟨c2, r2, m2, q1, q2, q3, q4, kP, hkP, hkPi⟩ := Cond.selects_spec (hts _ hsel)
  cases hcls.symm.trans q1
  cases (State.methodFound?_of_named hnamed hy).symm.trans q2
  cases hnamed.symm.trans q3
  have hselP : selectMethod e.platform s.vm cell.cls mk = .method mk := by rw [Launch.admits_selectMethod X.admits]; exact q4
  have hlen : As.length = methM.sig.parameters.length := by
    rw [hsigM] at hpar
    exact hn.trans (Option.some.inj hpar).symm
  rcases hml with hl | ⟨host, hl⟩
  · obtain ⟨vm₁, X₁, hstep₁⟩ := X.invokevirtual hx hown (hts _ hl) hnamed hmethM hstM hkP hkPi hy (a := a) (cell := cell) (by rw [hT]; exact hcell) (fun z h => by rw [h] at hobj; cases hobj) hselP hmethM habM hkP hkPi (g := g) hg (argsL := As) (rest := rest) hlen hst hdg
    exact ⟨vm₁, mk, X₁, X₁.named hnamed, fun target h => hstep₁ _ fun acts => by rw [ds_]; exact h⟩
  · obtain ⟨vm₁, X₁, hstep₁⟩ := X.invokevirtualNest hx hown (va_Nw.use rfl (hnw _ hl)) hnamed hmethM hstM hkP hkPi hy (a := a) (cell := cell) (by rw [hT]; exact hcell) (fun z h => by rw [h] at hobj; cases hobj) hselP hmethM habM hkP hkPi (g := g) hg (argsL := As) (rest := rest) hlen hst hdg
    exact ⟨vm₁, mk, X₁, X₁.named hnamed, fun target h => hstep₁ _ fun acts => by rw [ds_]; exact h⟩
theorem iv_U (hx : p.tables.exec = Jvm.exec) {own C owner : String} {idx : Nat} {x y : MethodName} {hd : Cond} {maxL n : Nat} (hown : s.vm.findClass own = some m.cls) (hts : ∀ w ∈ lw_all, w.before args s = true) (hnw : ∀ w ∈ nw_, va_Nw w s) (h : lU_ own idx C owner x y hd maxL n) {a : Nat} {cell : Cell} (hcell : H[a]? = some cell) (hobj : cell.vm.isStatics = false) (hcls : s.vm.findClass C = some cell.cls)
    (hg : g.method = m) (hn : As.length = n) (hst : g.stack = As.reverse ++ .ref a :: rest) (hdg : decode c.code g.pc = .ok (.invokevirtual idx, 3)) : iv_ p l e R s m args below meth c H g rest y (Value.ref a :: As).toArray := by
  intro T locs cells slots hT X
  obtain ⟨⟨hhd, hini, hy, hpar0, hcd⟩, hl, hsame, hin, hsel, howner, hpar, hdecl⟩ := h
  have hd0 : va_Decl s ⟨owner, x.name, x.desc⟩ := by
    rcases hdecl with h | ⟨h1, b0, m0, r0, h2⟩
    · exact va_Decl.abs (hnw _ h)
    · exact va_Decl.of (hts _ h1) (hts _ h2)
  obtain ⟨r0, r, hn0, hrm, hstR, hsigR⟩ := hd0
  obtain ⟨cn, ck, r1, hcn, hck, hni, hf, hn1⟩ := Cond.sameMethod_found (hts _ hsame)
  cases hn0.symm.trans hn1
  obtain ⟨mk, methM, hnamed, hmethM, -, habM⟩ := Cond.instanceMethod_spec (hts _ hin)
  obtain ⟨c2, r2, m2, q1, q2, q3, q4, kP, hkP, hkPi⟩ := Cond.selects_spec (hts _ hsel)
  cases hcls.symm.trans q1
  cases hf.symm.trans q2
  cases hnamed.symm.trans q3
  have hselP : selectMethod e.platform s.vm cell.cls r0 = .method mk := by rw [Launch.admits_selectMethod X.admits]; exact q4
  have hlen : As.length = r.sig.parameters.length := by
    have hsg : parseMethodDescriptor x.desc = some r.sig := hsigR
    rw [hsg] at hpar
    exact hn.trans (Option.some.inj hpar).symm
  obtain ⟨vm₁, X₁, hstep₁⟩ := X.invokevirtualUp hx hown (hts _ hl) (hts _ hsame) howner hn0 hrm hstR (a := a) (cell := cell) (by rw [hT]; exact hcell) (fun z h => by rw [h] at hobj; cases hobj) hselP hmethM habM hkP hkPi (g := g) hg (argsL := As) (rest := rest) hlen hst hdg
  exact ⟨vm₁, mk, X₁, X₁.named hnamed, fun target h => hstep₁ _ fun acts => by rw [ds_]; exact h⟩
theorem iv_S (hx : p.tables.exec = Jvm.exec) {own : String} {idx : Nat} {y : MethodName} {cc : ByteArray} {maxL n : Nat} {ret : Option FieldType} (hown : s.vm.findClass own = some m.cls) (hts : ∀ w ∈ lw_all, w.before args s = true) (hnw : ∀ w ∈ nw_, va_Nw w s) (h : lS_ own idx y cc maxL ret n)
    (hg : g.method = m) (hn : As.length = n) (hst : g.stack = As.reverse ++ rest) (hdg : decode c.code g.pc = .ok (.invokestatic idx, 3)) : iv_ p l e R s m args below meth c H g rest y As.toArray := by
  intro T locs cells slots hT X
  obtain ⟨⟨hhd, hini, hy, hpar, hcd⟩, hml, hstt⟩ := h
  obtain ⟨mk, hnamed⟩ := Cond.code_named (hts _ hhd)
  obtain ⟨methM, cM, hmethM, -, -, hsigM⟩ := hcd args s mk (hts _ hhd) hnamed
  have hstatic : methM.isStatic = true := Cond.static_spec hnamed hmethM (hts _ hstt)
  obtain ⟨kP, hkP, -⟩ := className_of_methodNamed hnamed
  have hinitP : kP.init = .initialized := Cond.initialized_spec (findClass_of_methodNamed hnamed) hkP (hts _ hini)
  have hlen : As.length = methM.sig.parameters.length := by
    rw [hsigM] at hpar
    exact hn.trans (Option.some.inj hpar).symm
  rcases hml with hl | ⟨host, hl⟩
  · obtain ⟨vm₁, X₁, hstep₁⟩ := X.invokestatic hx hown (hts _ hl) hnamed hmethM hstatic hkP hinitP hy (g := g) hg (argsL := As) (rest := rest) hlen hst hdg
    exact ⟨vm₁, mk, X₁, X₁.named hnamed, fun target h => hstep₁ _ fun acts => by rw [ds_]; exact h⟩
  · obtain ⟨vm₁, X₁, hstep₁⟩ := X.invokestaticNest hx hown (va_Nw.use rfl (hnw _ hl)) hnamed hmethM hstatic hkP hinitP hy (g := g) hg (argsL := As) (rest := rest) hlen hst hdg
    exact ⟨vm₁, mk, X₁, X₁.named hnamed, fun target h => hstep₁ _ fun acts => by rw [ds_]; exact h⟩
theorem iv_I (hx : p.tables.exec = Jvm.exec) {own : String} {idx : Nat} {y : MethodName} {cc : ByteArray} {maxL n : Nat} (hown : s.vm.findClass own = some m.cls) (hts : ∀ w ∈ lw_all, w.before args s = true) (hnw : ∀ w ∈ nw_, va_Nw w s) (h : lI_ own idx y cc maxL n) {a : Nat}
    (hg : g.method = m) (hn : As.length = n) (hst : g.stack = As.reverse ++ .ref a :: rest) (hdg : decode c.code g.pc = .ok (.invokespecial idx, 3)) : iv_ p l e R s m args below meth c H g rest y (Value.ref a :: As).toArray := by
  intro T locs cells slots hT X
  obtain ⟨⟨hhd, hini, hy, hpar, hcd⟩, hml, hin, hnm⟩ := h
  subst hg
  have hpl : e.platform.magicAccessors = ({} : Platform).magicAccessors := by rw [X.admits.platform]
  have hlen : ∀ sig, parseMethodDescriptor y.desc = some sig → As.length = sig.parameters.length := by
    intro sig hs
    rw [hs] at hpar
    exact hn.trans (Option.some.inj hpar).symm
  rcases hml with hl | ⟨host, hl⟩
  · obtain ⟨mk, methM, cM, kP, vm₁, hnamed, hmethM, hcodeM, -, hlocalsM, -, hkP, -, hW₁, hstep₁⟩ := Steps.initColdArgs (e := e) X.here hx X.warmed hpl hown hnm hy (hts _ hl) (hts _ hin) (hts _ hhd) (f := g) rfl hlen hst hdg
    have X₁ := X.noted hW₁
    exact ⟨vm₁, mk, X₁, X₁.named hnamed, fun target h => hstep₁ _ fun acts => by rw [ds_]; exact h⟩
  · obtain ⟨mk, methM, cM, kP, vm₁, hnamed, hmethM, hcodeM, -, hlocalsM, -, hkP, -, hW₁, hstep₁⟩ := Steps.initColdArgsNest (e := e) X.here hx X.warmed hpl hown hnm hy (va_Nw.use rfl (hnw _ hl)) (hts _ hin) (hts _ hhd) (f := g) rfl hlen hst hdg
    have X₁ := X.noted hW₁
    exact ⟨vm₁, mk, X₁, X₁.named hnamed, fun target h => hstep₁ _ fun acts => by rw [ds_]; exact h⟩
theorem iv_P (hx : p.tables.exec = Jvm.exec) {own : String} {idx : Nat} {y : MethodName} {cc : ByteArray} {maxL n : Nat} {ret : Option FieldType} (hown : s.vm.findClass own = some m.cls) (hts : ∀ w ∈ lw_all, w.before args s = true) (h : lP_ own idx y cc maxL ret n) {a : Nat} {cell : Cell} {kB : Class} (hcell : H[a]? = some cell) (hobj : cell.vm.isStatics = false) (hkB : s.vm.classes[cell.cls]? = some kB)
    (hg : g.method = m) (hn : As.length = n) (hst : g.stack = As.reverse ++ .ref a :: rest) (hdg : decode c.code g.pc = .ok (.invokespecial idx, 3)) : iv_ p l e R s m args below meth c H g rest y (Value.ref a :: As).toArray := by
  intro T locs cells slots hT X
  obtain ⟨⟨hhd, hini, hy, hpar, hcd⟩, hl, hsame, hsup, hin, hno⟩ := h
  obtain ⟨mk, methM, hnamed, hmethM, hstM, habM⟩ := Cond.instanceMethod_spec (hts _ hin)
  obtain ⟨methM', cM, hmethM', -, -, hsigM⟩ := hcd args s mk (hts _ hhd) hnamed
  cases hmethM.symm.trans hmethM'
  obtain ⟨ps, dk, kp, hps, hdk, hkp, hsuper, -, -, hnid⟩ := Cond.superclass_spec hown (hts _ hsup)
  have hn2 : s.methodNamed? ⟨y.cls, y.name, y.desc⟩ = some mk := hnamed
  have hpm : ps = mk.cls := Option.some.inj (hps.symm.trans (findClass_of_methodNamed hnamed))
  have hsub : s.vm.isSubclass ps mk.cls = true := by rw [hpm]; simp [Vm.isSubclass, Vm.isSubclassAux]
  have hlen : As.length = methM.sig.parameters.length := by
    rw [hsigM] at hpar
    exact hn.trans (Option.some.inj hpar).symm
  obtain ⟨vm₁, X₁, hstep₁⟩ := X.invokespecialUp hx hown (hts _ hl) (hts _ hsame) hn2 hmethM hstM habM hno hdk hnid hps hsuper hsub (a := a) (cell := cell) (by rw [hT]; exact hcell) (fun z h => by rw [h] at hobj; cases hobj) hkB (g := g) hg (argsL := As) (rest := rest) hlen hst hdg
  exact ⟨vm₁, mk, X₁, X₁.named hnamed, fun target h => hstep₁ _ h⟩
end IVK
section GCALL
variable {l : Launch} {D : dd_} {b : Nat} {M : mc_} {Q : Outcome → so_ → Prop} {cc : ByteArray} {pc : Nat} {ls : List (Option Value)} {st : List Value} {σ : so_} {kc ks : Nat}
/-- any invocation, in a method without handlers -/
theorem go_inv {y : MethodName} {hd : Cond} {rm : Room} {maxL : Nat} {av rest : List Value} {ig : Instr} {Qc : Outcome → so_ → Prop} (hct : CT_ l D b y hd rm av σ Qc) (hcd : hc_ hd y maxL) (hhd : hd ∈ lw_all) (hini : Cond.initialized y.cls ∈ lw_all) (hh : M.2.2.2.2.2 = [])
    (hinv : ∀ (p : Program) (e : Env) (s : State) (m : MethodId) (args : Array Value) (below : List Frame) (meth : Method) (c : Code) (H : Heap) (la : Array Slot), cx_ M cc p l s m args meth c → wd_ D b σ s H → iv_ p l e M.2.2.2.2.1 s m args below meth c H (F0 m pc la st) rest y av.toArray)
    (d : decode cc pc = .ok (ig, 3)) (hrest : (rest.map fun v => v.category).sum ≤ 12) (hR1 : rm.frames + 1 ≤ M.2.2.2.2.1.frames) (hR2 : 12 + (maxL + 11) + rm.locals ≤ M.2.2.2.2.1.locals) (hk1 : kc + rm.cells ≤ M.2.2.2.2.1.cells) (hk2 : ks + rm.slots ≤ M.2.2.2.2.1.slots)
    (kr : ∀ (v : Option Value) (σ2 : so_), Qc (.returned v) σ2 → G_ l D b M Q cc (pc + 3) ls (v.toList ++ rest) σ2 (kc + rm.cells) (ks + rm.slots)) (kt : ∀ (x : Nat) (σ2 : so_), Qc (.threw x) σ2 → Q (.threw x) σ2) : G_ l D b M Q cc pc ls st σ kc ks := by
  intro p e s m args below meth c H locs la C hw hs hl
  refine w_call hct C.2.2.2.2.2.2.2.2.2 C.2.2.2.2.2.2.1 hcd hhd hini (hinv p e s m args below meth c H la C hw) rfl (hl.1.trans C.2.2.1.symm) (by rw [C.2.1]; exact d) (lv_room12 hrest) hR1 hR2 hk1 hk2 hw hs (fun v σ2 H2 L2 hq hw2 hs2 => kr v σ2 hq p e s m args below meth c H2 L2 la C hw2 hs2 hl) (fun x σ2 L2 T hq hw2 hs2 X => ?_)
  have hlocks := C.2.2.2.2.1
  have hno : c.exceptionTable.toList = [] := List.map_eq_nil_iff.mp (C.2.2.2.2.2.2.2.2.1.trans hh)
  obtain ⟨a1, a2, a3, a4, a5⟩ := (stand_widen X hk1 hk2).leaveThrown x (g := F0 m pc la rest) rfl rfl rfl (by rw [hno]; intro y hy; cases hy)
  exact ⟨_, a1, .threw x, σ2, a2, a3, kt x σ2 hq, hw2.warm a4, ⟨hs2.1, hs2.2.1⟩, L2, ⟨a4, a5⟩, hs2.2.2⟩
theorem recv_ {s : State} {H : Heap} {a c : Nat} {q : vw_C} (hw : wd_ D b σ s H) (hT : σ.1 a = some (.inl c)) (hc : CL_[c]? = some q) : ∃ cell : Cell, H[a]? = some cell ∧ cell.vm.isStatics = false ∧ s.vm.findClass q.1 = some cell.cls ∧ ∃ kB, s.vm.classes[cell.cls]? = some kB := by
  obtain ⟨-, r, h1, ⟨cell, g1, g2, g3, -⟩, -⟩ := hw.2.1.2.2.2 a _ hT
  obtain ⟨hf, kC, hkC, -⟩ := (hw.1.1 c q hc).2
  exact ⟨cell, g1, by rw [g3]; rfl, by rw [g2]; exact hf, kC, by rw [g2]; exact hkC⟩
theorem go_callV {y : MethodName} {hd : Cond} {rm : Room} {maxL n idx a c : Nat} {C : String} {q : vw_C} {As rest : List Value} {Qc : Outcome → so_ → Prop} (h : lV_ M.1 idx C y hd maxL n) (hct : CT_ l D b y hd rm (.ref a :: As) σ Qc) (d : decode cc pc = .ok (.invokevirtual idx, 3)) (hT : σ.1 a = some (.inl c)) (hc : CL_[c]? = some q) (hC : q.1 = C) (hn : As.length = n) (hst : st = As.reverse ++ .ref a :: rest) (hh : M.2.2.2.2.2 = [])
    (hrest : (rest.map fun v => v.category).sum ≤ 12) (hR1 : rm.frames + 1 ≤ M.2.2.2.2.1.frames) (hR2 : 12 + (maxL + 11) + rm.locals ≤ M.2.2.2.2.1.locals) (hk1 : kc + rm.cells ≤ M.2.2.2.2.1.cells) (hk2 : ks + rm.slots ≤ M.2.2.2.2.1.slots)
    (kr : ∀ (v : Option Value) (σ2 : so_), Qc (.returned v) σ2 → G_ l D b M Q cc (pc + 3) ls (v.toList ++ rest) σ2 (kc + rm.cells) (ks + rm.slots)) (kt : ∀ (x : Nat) (σ2 : so_), Qc (.threw x) σ2 → Q (.threw x) σ2) : G_ l D b M Q cc pc ls st σ kc ks := by
  refine go_inv hct h.1.2.2.2.2 h.1.1 h.1.2.1 hh (fun p e s m args below meth c0 H la X hw => ?_) d hrest hR1 hR2 hk1 hk2 kr kt
  obtain ⟨cell, r1, r2, r3, -⟩ := recv_ hw hT hc
  exact iv_V X.1 X.2.2.2.2.2.1 X.2.2.2.2.2.2.1 hw.1.2.2.1 h r1 r2 (by rw [← hC]; exact r3) rfl hn hst (by rw [X.2.1]; exact d)
theorem go_callU {x y : MethodName} {hd : Cond} {rm : Room} {maxL n idx a c : Nat} {C owner : String} {q : vw_C} {As rest : List Value} {Qc : Outcome → so_ → Prop} (h : lU_ M.1 idx C owner x y hd maxL n) (hct : CT_ l D b y hd rm (.ref a :: As) σ Qc) (d : decode cc pc = .ok (.invokevirtual idx, 3)) (hT : σ.1 a = some (.inl c)) (hc : CL_[c]? = some q) (hC : q.1 = C) (hn : As.length = n) (hst : st = As.reverse ++ .ref a :: rest) (hh : M.2.2.2.2.2 = [])
    (hrest : (rest.map fun v => v.category).sum ≤ 12) (hR1 : rm.frames + 1 ≤ M.2.2.2.2.1.frames) (hR2 : 12 + (maxL + 11) + rm.locals ≤ M.2.2.2.2.1.locals) (hk1 : kc + rm.cells ≤ M.2.2.2.2.1.cells) (hk2 : ks + rm.slots ≤ M.2.2.2.2.1.slots)
    (kr : ∀ (v : Option Value) (σ2 : so_), Qc (.returned v) σ2 → G_ l D b M Q cc (pc + 3) ls (v.toList ++ rest) σ2 (kc + rm.cells) (ks + rm.slots)) (kt : ∀ (x : Nat) (σ2 : so_), Qc (.threw x) σ2 → Q (.threw x) σ2) : G_ l D b M Q cc pc ls st σ kc ks := by
  refine go_inv hct h.1.2.2.2.2 h.1.1 h.1.2.1 hh (fun p e s m args below meth c0 H la X hw => ?_) d hrest hR1 hR2 hk1 hk2 kr kt
  obtain ⟨cell, r1, r2, r3, -⟩ := recv_ hw hT hc
  exact iv_U X.1 X.2.2.2.2.2.1 X.2.2.2.2.2.2.1 hw.1.2.2.1 h r1 r2 (by rw [← hC]; exact r3) rfl hn hst (by rw [X.2.1]; exact d)
theorem go_callS {y : MethodName} {bytes : ByteArray} {ret : Option FieldType} {rm : Room} {maxL n idx : Nat} {As rest : List Value} {Qc : Outcome → so_ → Prop} (h : lS_ M.1 idx y bytes maxL ret n) (hct : CT_ l D b y (.code y bytes maxL ret) rm As σ Qc) (d : decode cc pc = .ok (.invokestatic idx, 3)) (hn : As.length = n) (hst : st = As.reverse ++ rest) (hh : M.2.2.2.2.2 = [])
    (hrest : (rest.map fun v => v.category).sum ≤ 12) (hR1 : rm.frames + 1 ≤ M.2.2.2.2.1.frames) (hR2 : 12 + (maxL + 11) + rm.locals ≤ M.2.2.2.2.1.locals) (hk1 : kc + rm.cells ≤ M.2.2.2.2.1.cells) (hk2 : ks + rm.slots ≤ M.2.2.2.2.1.slots)
    (kr : ∀ (v : Option Value) (σ2 : so_), Qc (.returned v) σ2 → G_ l D b M Q cc (pc + 3) ls (v.toList ++ rest) σ2 (kc + rm.cells) (ks + rm.slots)) (kt : ∀ (x : Nat) (σ2 : so_), Qc (.threw x) σ2 → Q (.threw x) σ2) : G_ l D b M Q cc pc ls st σ kc ks := by
  refine go_inv hct h.1.2.2.2.2 h.1.1 h.1.2.1 hh (fun p e s m args below meth c0 H la X hw => ?_) d hrest hR1 hR2 hk1 hk2 kr kt
  exact iv_S X.1 X.2.2.2.2.2.1 X.2.2.2.2.2.2.1 hw.1.2.2.1 h rfl hn hst (by rw [X.2.1]; exact d)
theorem go_callI {y : MethodName} {bytes : ByteArray} {rm : Room} {maxL n idx a : Nat} {As rest : List Value} {Qc : Outcome → so_ → Prop} (h : lI_ M.1 idx y bytes maxL n) (hct : CT_ l D b y (.code y bytes maxL none) rm (.ref a :: As) σ Qc) (d : decode cc pc = .ok (.invokespecial idx, 3)) (hn : As.length = n) (hst : st = As.reverse ++ .ref a :: rest) (hh : M.2.2.2.2.2 = [])
    (hrest : (rest.map fun v => v.category).sum ≤ 12) (hR1 : rm.frames + 1 ≤ M.2.2.2.2.1.frames) (hR2 : 12 + (maxL + 11) + rm.locals ≤ M.2.2.2.2.1.locals) (hk1 : kc + rm.cells ≤ M.2.2.2.2.1.cells) (hk2 : ks + rm.slots ≤ M.2.2.2.2.1.slots)
    (kr : ∀ (v : Option Value) (σ2 : so_), Qc (.returned v) σ2 → G_ l D b M Q cc (pc + 3) ls (v.toList ++ rest) σ2 (kc + rm.cells) (ks + rm.slots)) (kt : ∀ (x : Nat) (σ2 : so_), Qc (.threw x) σ2 → Q (.threw x) σ2) : G_ l D b M Q cc pc ls st σ kc ks := by
  refine go_inv hct h.1.2.2.2.2 h.1.1 h.1.2.1 hh (fun p e s m args below meth c0 H la X hw => ?_) d hrest hR1 hR2 hk1 hk2 kr kt
  exact iv_I X.1 X.2.2.2.2.2.1 X.2.2.2.2.2.2.1 hw.1.2.2.1 h rfl hn hst (by rw [X.2.1]; exact d)
theorem go_callP {y : MethodName} {bytes : ByteArray} {ret : Option FieldType} {rm : Room} {maxL n idx a c : Nat} {q : vw_C} {As rest : List Value} {Qc : Outcome → so_ → Prop} (h : lP_ M.1 idx y bytes maxL ret n) (hct : CT_ l D b y (.code y bytes maxL ret) rm (.ref a :: As) σ Qc) (d : decode cc pc = .ok (.invokespecial idx, 3)) (hT : σ.1 a = some (.inl c)) (hc : CL_[c]? = some q) (hn : As.length = n) (hst : st = As.reverse ++ .ref a :: rest) (hh : M.2.2.2.2.2 = [])
    (hrest : (rest.map fun v => v.category).sum ≤ 12) (hR1 : rm.frames + 1 ≤ M.2.2.2.2.1.frames) (hR2 : 12 + (maxL + 11) + rm.locals ≤ M.2.2.2.2.1.locals) (hk1 : kc + rm.cells ≤ M.2.2.2.2.1.cells) (hk2 : ks + rm.slots ≤ M.2.2.2.2.1.slots)
    (kr : ∀ (v : Option Value) (σ2 : so_), Qc (.returned v) σ2 → G_ l D b M Q cc (pc + 3) ls (v.toList ++ rest) σ2 (kc + rm.cells) (ks + rm.slots)) (kt : ∀ (x : Nat) (σ2 : so_), Qc (.threw x) σ2 → Q (.threw x) σ2) : G_ l D b M Q cc pc ls st σ kc ks := by
  refine go_inv hct h.1.2.2.2.2 h.1.1 h.1.2.1 hh (fun p e s m args below meth c0 H la X hw => ?_) d hrest hR1 hR2 hk1 hk2 kr kt
  obtain ⟨cell, r1, r2, -, kB, r4⟩ := recv_ hw hT hc
  exact iv_P X.1 X.2.2.2.2.2.1 X.2.2.2.2.2.2.1 h r1 r2 r4 rfl hn hst (by rw [X.2.1]; exact d)
/-- Object's own constructor -/
theorem go_obj {idx a : Nat} (h : Cond.methodLink M.1 idx objectInit ∈ lw_all) (d : decode cc pc = .ok (.invokespecial idx, 3)) (hrest : (st.map fun v => v.category).sum ≤ 8) (hR1 : 1 ≤ M.2.2.2.2.1.frames) (hR2 : 39 ≤ M.2.2.2.2.1.locals) (k : G_ l D b M Q cc (pc + 3) ls st σ kc ks) : G_ l D b M Q cc pc ls (.ref a :: st) σ kc ks := by
  intro p e s m args below meth c H locs la C hw hs hl
  have hts := C.2.2.2.2.2.2.1
  refine W.objInit C.1 C.2.1 C.2.2.2.2.2.1 (hts _ h) (hts _ q114) (hts _ q115) rfl (hl.1.trans C.2.2.1.symm) rfl d ?_ ?_ ?_
  · exact hR1
  · show 2 * 0 + (st.map fun v => v.category).sum + 12 ≤ M.2.2.2.2.1.locals
    omega
  · exact k p e s m args below meth c H locs la C hw hs hl
end GCALL
/-! the common ends of a contract: it returns, with this answer and this store -/
def qi_ (r : Int32) (σ : so_) : Outcome → so_ → Prop := fun o σ2 => o = .returned (some (.int r)) ∧ σ2 = σ
def qv_ (σ : so_) : Outcome → so_ → Prop := fun o σ2 => o = .returned none ∧ σ2 = σ
def qr_ (a : Nat) (σ : so_) : Outcome → so_ → Prop := fun o σ2 => o = .returned (some (.ref a)) ∧ σ2 = σ
section KQ
variable {l : Launch} {D : dd_} {b : Nat} {M : mc_} {Q : Outcome → so_ → Prop} {cc : ByteArray} {pc : Nat} {ls : List (Option Value)} {rest : List Value} {σ : so_} {kc ks : Nat}
theorem kr_i {r : Int32} (k : G_ l D b M Q cc pc ls (.int r :: rest) σ kc ks) : ∀ (v : Option Value) (σ2 : so_), qi_ r σ (.returned v) σ2 → G_ l D b M Q cc pc ls (v.toList ++ rest) σ2 kc ks := by
  rintro v σ2 ⟨h1, rfl⟩
  cases h1
  exact k
theorem kr_v (k : G_ l D b M Q cc pc ls rest σ kc ks) : ∀ (v : Option Value) (σ2 : so_), qv_ σ (.returned v) σ2 → G_ l D b M Q cc pc ls (v.toList ++ rest) σ2 kc ks := by
  rintro v σ2 ⟨h1, rfl⟩
  cases h1
  exact k
theorem kr_r {a : Nat} (k : G_ l D b M Q cc pc ls (.ref a :: rest) σ kc ks) : ∀ (v : Option Value) (σ2 : so_), qr_ a σ (.returned v) σ2 → G_ l D b M Q cc pc ls (v.toList ++ rest) σ2 kc ks := by
  rintro v σ2 ⟨h1, rfl⟩
  cases h1
  exact k
theorem kt_i {r : Int32} {σ0 : so_} : ∀ (x : Nat) (σ2 : so_), qi_ r σ0 (.threw x) σ2 → Q (.threw x) σ2 := fun x σ2 h => by cases h.1
theorem kt_v {σ0 : so_} : ∀ (x : Nat) (σ2 : so_), qv_ σ0 (.threw x) σ2 → Q (.threw x) σ2 := fun x σ2 h => by cases h.1
theorem kt_r {a : Nat} {σ0 : so_} : ∀ (x : Nat) (σ2 : so_), qr_ a σ0 (.threw x) σ2 → Q (.threw x) σ2 := fun x σ2 h => by cases h.1
end KQ
