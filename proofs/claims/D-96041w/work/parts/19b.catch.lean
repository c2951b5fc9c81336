/-! THE CATCH: one handler, its class perhaps not yet resolved -/
set_option maxRecDepth 100000
theorem fh_cold {e : Env} {s : State} {f : JFrame} {a : Addr} {meth : Method} {code : Code} {x : ExceptionTableEntry} {c : ClassId} {vm' : Vm} {cell : Cell} (hm : s.vm.method? f.method = some meth) (hc : meth.code = some code) (htab : code.exceptionTable.toList = [x]) (hx : covers x f.pc = true) (h0 : x.catchType ≠ 0)
    (hg : (Jvm.resolveClass f.method.cls x.catchType).Gives e.toSetting s.vm (.ok c) vm') (hsz : vm'.classes.size ≤ s.vm.classes.size) (hcell : s.heap[a]? = some cell) (hobj : ∀ k, cell.vm ≠ .statics k) {k1 k2 : Class} (hk : vm'.classes[cell.cls]? = some k1) (hcl : vm'.classes[c]? = some k2) (hfit : vm'.assignable cell.cls c = true) :
    ∀ (Q : Handler → Pre) (E : CtlPost) (d : Bool) (acts : List Action), wp (findHandler f a) Q E e d acts s ↔ Q (.found x.handlerPc) d acts (s.setVm vm') := by
  intro Q E d acts
  rw [W.findHandler_eq hm hc, htab]
  obtain ⟨ha, ht⟩ := hg.op (op := VmOp.resolveClass f.method.cls x.catchType) rfl
  simp only [covers] at hx
  have hcell' : (s.setVm vm').heap[a]? = some cell := hcell
  simp [findHandler.go, hx, h0, ha, ht, hsz, hcell, hobj, hk, hcl, hfit, VmOp.dirties, VmOp.acts]
theorem sc_cold {e : Env} {s : State} {a : Addr} {f : JFrame} {r : List Frame} {pc : Nat} {vm' : Vm} (hf : ∀ (Q : Handler → Pre) (E : CtlPost) (d : Bool) (acts : List Action), wp (findHandler f a) Q E e d acts s ↔ Q (.found pc) d acts (s.setVm vm')) :
    (stepThrowing e s a (.java f :: r)).Is ((s.setVm vm').setFrames (.java { f with pc := pc, stack := [.ref a] } :: r)) [] := by
  simp only [stepThrowing, searchFrame, vmDo]
  generalize hr : Sem.go _ e false [] s = res
  obtain ⟨as, rfl, ha⟩ := Sem.eq_ok_of hr (a := Handler.found pc) (s' := s.setVm vm') (acts' := []) (by simp [hf _ _ _ _])
  exact ⟨rfl, ha⟩
theorem st_caught {tb : Tables} {e : Env} {s target : State} {g : JFrame} {c : Code} {below : List Frame} {a : Addr} {vm' : Vm} (h : At s g.method c below) {pc : Nat} (hf : ∀ (Q : Handler → Pre) (E : CtlPost) (d : Bool) (acts : List Action), wp (findHandler g a) Q E e d acts ((s.setTop g).pushFrame (.throwing a)) ↔ Q (.found pc) d acts (((s.setTop g).pushFrame (.throwing a)).setVm vm'))
    (hrest : Steps tb e below ((s.setVm vm').setTop { g with pc := pc, stack := [.ref a] }) target) :
    Steps tb e below ((s.setTop g).pushFrame (.throwing a)) target := by
  obtain ⟨hgo, hw⟩ := h.throwing a
  refine Steps.head hgo hw ?_
  rw [stepThread_throwing (frames_entered h.top _), (sc_cold (s := (s.setTop g).pushFrame (.throwing a)) hf).1]
  obtain ⟨g₀, hg⟩ := Option.isSome_iff_exists.mp h.top
  obtain ⟨r, hr⟩ := State.topJava?_eq_some.mp hg
  have hr' : (s.setVm vm').frames = .java g₀ :: r := hr
  have e1 : (((s.setTop g).pushFrame (.throwing a)).setVm vm').setFrames (.java { g with pc := pc, stack := [.ref a] } :: s.frames.tail) = (s.setVm vm').setTop { g with pc := pc, stack := [.ref a] } := by
    rw [State.setTop_of_frames _ hr', State.pushFrame, State.setTop_of_frames _ hr, State.setFrames_setFrames, hr]
    show ((s.setFrames _).setVm vm').setFrames _ = _
    have e2 : ∀ fs : List Frame, (s.setFrames fs).setVm vm' = (s.setVm vm').setFrames fs := fun fs => rfl
    rw [e2, State.setFrames_setFrames]
    rfl
  rw [e1]
  exact hrest
section CATCH
variable {l : Launch} {D : dd_} {b : Nat} {M : mc_} {Q : Outcome → so_ → Prop} {cc : ByteArray} {pc : Nat} {ls : List (Option Value)} {st : List Value} {σ : so_} {kc ks : Nat}
/-- an invocation under one handler for Refusal -/
theorem go_invH {y : MethodName} {hd : Cond} {rm : Room} {maxL : Nat} {av rest : List Value} {ig : Instr} {Qc : Outcome → so_ → Prop} {s0 e0 h0 ct : Nat} (hct : CT_ l D b y hd rm av σ Qc) (hcd : hc_ hd y maxL) (hhd : hd ∈ lw_all) (hini : Cond.initialized y.cls ∈ lw_all) (hh : M.2.2.2.2.2 = [(s0, e0, h0, ct)]) (hcov : (decide (s0 ≤ pc) && decide (pc < e0)) = true) (hc0 : ct ≠ 0) (hcl : Cond.classLink M.1 ct "GoodHalfEmpty$Refusal" ∈ lw_all)
    (hinv : ∀ (p : Program) (e : Env) (s : State) (m : MethodId) (args : Array Value) (below : List Frame) (meth : Method) (c : Code) (H : Heap) (la : Array Slot), cx_ M cc p l s m args meth c → wd_ D b σ s H → iv_ p l e M.2.2.2.2.1 s m args below meth c H (F0 m pc la st) rest y av.toArray)
    (d : decode cc pc = .ok (ig, 3)) (hrest : (rest.map fun v => v.category).sum ≤ 12) (hR1 : rm.frames + 1 ≤ M.2.2.2.2.1.frames) (hR2 : 12 + (maxL + 11) + rm.locals ≤ M.2.2.2.2.1.locals) (hk1 : kc + rm.cells ≤ M.2.2.2.2.1.cells) (hk2 : ks + rm.slots ≤ M.2.2.2.2.1.slots)
    (kr : ∀ (v : Option Value) (σ2 : so_), Qc (.returned v) σ2 → G_ l D b M Q cc (pc + 3) ls (v.toList ++ rest) σ2 (kc + rm.cells) (ks + rm.slots)) (kt : ∀ (x : Nat) (σ2 : so_), Qc (.threw x) σ2 → (σ2.1 x = some (.inl 18) ∨ σ2.1 x = some (.inl 20)) ∧ G_ l D b M Q cc h0 ls [.ref x] σ2 (kc + rm.cells) (ks + rm.slots)) : G_ l D b M Q cc pc ls st σ kc ks := by
  intro p e s m args below meth c H locs la C hw hs hl
  refine w_call hct C.2.2.2.2.2.2.2.2.2 C.2.2.2.2.2.2.1 hcd hhd hini (hinv p e s m args below meth c H la C hw) rfl (hl.1.trans C.2.2.1.symm) (by rw [C.2.1]; exact d) (lv_room12 hrest) hR1 hR2 hk1 hk2 hw hs (fun v σ2 H2 L2 hq hw2 hs2 => kr v σ2 hq p e s m args below meth c H2 L2 la C hw2 hs2 hl) (fun x σ2 L2 T hq hw2 hs2 X => ?_)
  obtain ⟨hx, kg⟩ := kt x σ2 hq
  have hts := C.2.2.2.2.2.2.1
  have hpl : e.platform.magicAccessors = ({} : Platform).magicAccessors := by rw [X.admits.platform]
  obtain ⟨cT, hcT, hlk⟩ := Cond.classLink_spec C.2.2.2.2.2.1 (hts _ hcl) e.platform hpl
  obtain ⟨dk, _, _, kt0, hd0, _, _, _, _, hkt0, _, hopen⟩ := hlk.here
  have hlk0 := X.warmed.classLinks hlk
  have hW' : s.WarmedH (T.vm.noted m.cls ct (.cls cT)) := X.warmed.noted hd0 hopen (State.rightAt_cls hlk)
  have hobj : ∃ (cell : Cell) (kB : Class), T.heap[x]? = some cell ∧ (∀ k, cell.vm ≠ .statics k) ∧ s.vm.classes[cell.cls]? = some kB ∧ s.vm.assignable cell.cls cT = true := by
    rcases hx with hx | hx
    · obtain ⟨-, r, h1, ⟨cell, g1, g2, g3, -⟩, -⟩ := hw2.2.1.2.2.2 x _ hx
      obtain ⟨hf, kC, hkC, -⟩ := (hw2.1.1 18 _ rfl).2
      obtain ⟨c2, t2, w1, w2, w3⟩ := Cond.castable_spec (hw2.1.2.2.1 _ (nw_in q1472 rfl))
      cases (show s.vm.findClass "GoodHalfEmpty$Refused" = some _ from hf).symm.trans w1
      cases hcT.symm.trans w2
      exact ⟨cell, kC, g1, (fun k h => by rw [g3] at h; cases h), by rw [g2]; exact hkC, by rw [g2]; exact w3⟩
    · obtain ⟨-, r, h1, ⟨cell, g1, g2, g3, -⟩, -⟩ := hw2.2.1.2.2.2 x _ hx
      obtain ⟨hf, kC, hkC, -⟩ := (hw2.1.1 20 _ rfl).2
      obtain ⟨c2, t2, w1, w2, w3⟩ := Cond.castable_spec (hw2.1.2.2.1 _ (nw_in q1471 rfl))
      cases (show s.vm.findClass "GoodHalfEmpty$Fault" = some _ from hf).symm.trans w1
      cases hcT.symm.trans w2
      exact ⟨cell, kC, g1, (fun k h => by rw [g3] at h; cases h), by rw [g2]; exact hkC, by rw [g2]; exact w3⟩
  obtain ⟨cell, kB, g1, g2, g3, g4⟩ := hobj
  obtain ⟨kB', hkB', -⟩ := hW'.alike.2.2 _ _ g3
  obtain ⟨kt', hkt', -⟩ := hW'.alike.2.2 _ _ hkt0
  have htab0 := C.2.2.2.2.2.2.2.2.1.trans hh
  obtain ⟨xe, htab, hxe⟩ : ∃ xe : ExceptionTableEntry, c.exceptionTable.toList = [xe] ∧ (xe.startPc, xe.endPc, xe.handlerPc, xe.catchType) = (s0, e0, h0, ct) := by
    cases ht : c.exceptionTable.toList with
    | nil => rw [ht] at htab0; cases htab0
    | cons xe t =>
      rw [ht] at htab0
      cases t with
      | nil => exact ⟨xe, rfl, by simpa using htab0⟩
      | cons y t => simp at htab0
  have e1 : xe.startPc = s0 := congrArg (fun z : Nat × Nat × Nat × Nat => z.1) hxe
  have e2 : xe.endPc = e0 := congrArg (fun z : Nat × Nat × Nat × Nat => z.2.1) hxe
  have e3 : xe.handlerPc = h0 := congrArg (fun z : Nat × Nat × Nat × Nat => z.2.2.1) hxe
  have e4 : xe.catchType = ct := congrArg (fun z : Nat × Nat × Nat × Nat => z.2.2.2) hxe
  subst e3; subst e4
  have hU : ∀ (S : State), S.vm = T.vm → S.heap = T.heap → ∀ (Q : Handler → Pre) (E : CtlPost) (d : Bool) (acts : List Action), wp (findHandler (F0 m pc la rest) x) Q E e d acts S ↔ Q (.found xe.handlerPc) d acts (S.setVm (T.vm.noted m.cls xe.catchType (.cls cT))) := by
    intro S hS1 hS2
    refine fh_cold (f := F0 m pc la rest) (meth := meth) (code := c) (x := xe) (c := cT) (cell := cell) (by rw [hS1]; exact X.method') X.code htab (by simp only [covers]; rw [e1, e2]; exact hcov) hc0 (by rw [hS1]; exact resolveClass_links e.toSetting hlk0) ?_ (by rw [hS2]; exact g1) g2 hkB' hkt' (by rw [hW'.alike.assignable]; exact g4)
    rw [hS1]
    exact Nat.le_of_eq (by simp [Vm.noted])
  obtain ⟨t, b1, b2⟩ := kg p e s m args below meth c T.heap L2 la C hw2 hs2 hl (T.setVm (T.vm.noted m.cls xe.catchType (.cls cT))) rfl (X.noted hW')
  refine ⟨t, ?_, b2⟩
  exact st_caught (g := F0 m pc la rest) (c := c) X.here (pc := xe.handlerPc) (hU _ (by simp [State.pushFrame, State.setFrames, State.setTop, State.modifyTopJava]) (by simp [State.pushFrame, State.setFrames, State.setTop, State.modifyTopJava])) b1
theorem go_callVH {y : MethodName} {hd : Cond} {rm : Room} {maxL n idx a c : Nat} {C : String} {q : vw_C} {As rest : List Value} {Qc : Outcome → so_ → Prop} {s0 e0 h0 ct : Nat} (h : lV_ M.1 idx C y hd maxL n) (hct : CT_ l D b y hd rm (.ref a :: As) σ Qc) (d : decode cc pc = .ok (.invokevirtual idx, 3)) (hT : σ.1 a = some (.inl c)) (hc : CL_[c]? = some q) (hC : q.1 = C) (hn : As.length = n) (hst : st = As.reverse ++ .ref a :: rest) (hh : M.2.2.2.2.2 = [(s0, e0, h0, ct)]) (hcov : (decide (s0 ≤ pc) && decide (pc < e0)) = true) (hc0 : ct ≠ 0) (hcl : Cond.classLink M.1 ct "GoodHalfEmpty$Refusal" ∈ lw_all)
    (hrest : (rest.map fun v => v.category).sum ≤ 12) (hR1 : rm.frames + 1 ≤ M.2.2.2.2.1.frames) (hR2 : 12 + (maxL + 11) + rm.locals ≤ M.2.2.2.2.1.locals) (hk1 : kc + rm.cells ≤ M.2.2.2.2.1.cells) (hk2 : ks + rm.slots ≤ M.2.2.2.2.1.slots)
    (kr : ∀ (v : Option Value) (σ2 : so_), Qc (.returned v) σ2 → G_ l D b M Q cc (pc + 3) ls (v.toList ++ rest) σ2 (kc + rm.cells) (ks + rm.slots)) (kt : ∀ (x : Nat) (σ2 : so_), Qc (.threw x) σ2 → (σ2.1 x = some (.inl 18) ∨ σ2.1 x = some (.inl 20)) ∧ G_ l D b M Q cc h0 ls [.ref x] σ2 (kc + rm.cells) (ks + rm.slots)) : G_ l D b M Q cc pc ls st σ kc ks := by
  refine go_invH hct h.1.2.2.2.2 h.1.1 h.1.2.1 hh hcov hc0 hcl (fun p e s m args below meth c0 H la X hw => ?_) d hrest hR1 hR2 hk1 hk2 kr kt
  obtain ⟨cell, r1, r2, r3, -⟩ := recv_ hw hT hc
  exact iv_V X.1 X.2.2.2.2.2.1 X.2.2.2.2.2.2.1 hw.1.2.2.1 h r1 r2 (by rw [← hC]; exact r3) rfl hn hst (by rw [X.2.1]; exact d)
theorem go_callSH {y : MethodName} {bytes : ByteArray} {ret : Option FieldType} {rm : Room} {maxL n idx : Nat} {As rest : List Value} {Qc : Outcome → so_ → Prop} {s0 e0 h0 ct : Nat} (h : lS_ M.1 idx y bytes maxL ret n) (hct : CT_ l D b y (.code y bytes maxL ret) rm As σ Qc) (d : decode cc pc = .ok (.invokestatic idx, 3)) (hn : As.length = n) (hst : st = As.reverse ++ rest) (hh : M.2.2.2.2.2 = [(s0, e0, h0, ct)]) (hcov : (decide (s0 ≤ pc) && decide (pc < e0)) = true) (hc0 : ct ≠ 0) (hcl : Cond.classLink M.1 ct "GoodHalfEmpty$Refusal" ∈ lw_all)
    (hrest : (rest.map fun v => v.category).sum ≤ 12) (hR1 : rm.frames + 1 ≤ M.2.2.2.2.1.frames) (hR2 : 12 + (maxL + 11) + rm.locals ≤ M.2.2.2.2.1.locals) (hk1 : kc + rm.cells ≤ M.2.2.2.2.1.cells) (hk2 : ks + rm.slots ≤ M.2.2.2.2.1.slots)
    (kr : ∀ (v : Option Value) (σ2 : so_), Qc (.returned v) σ2 → G_ l D b M Q cc (pc + 3) ls (v.toList ++ rest) σ2 (kc + rm.cells) (ks + rm.slots)) (kt : ∀ (x : Nat) (σ2 : so_), Qc (.threw x) σ2 → (σ2.1 x = some (.inl 18) ∨ σ2.1 x = some (.inl 20)) ∧ G_ l D b M Q cc h0 ls [.ref x] σ2 (kc + rm.cells) (ks + rm.slots)) : G_ l D b M Q cc pc ls st σ kc ks := by
  refine go_invH hct h.1.2.2.2.2 h.1.1 h.1.2.1 hh hcov hc0 hcl (fun p e s m args below meth c0 H la X hw => ?_) d hrest hR1 hR2 hk1 hk2 kr kt
  exact iv_S X.1 X.2.2.2.2.2.1 X.2.2.2.2.2.2.1 hw.1.2.2.1 h rfl hn hst (by rw [X.2.1]; exact d)
end CATCH
