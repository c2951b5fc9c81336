/-! CONTRACTS AND CALLS: a method returns or throws -/
set_option maxRecDepth 100000
theorem lv_room12 {m : MethodId} {pc : Nat} {la : Array Slot} {rest st : List Value} (h : (st.map fun v => v.category).sum ≤ 12) : 2 * (F0 m pc la rest).monitorRoom + (st.map fun v => v.category).sum ≤ 12 := by
  show 2 * 0 + _ ≤ 12
  omega
def CT_ (l : Launch) (D : dd_) (b : Nat) (y : MethodName) (hd : Cond) (rm : Room) (av : List Value) (σ : so_) (Q : Outcome → so_ → Prop) : Prop :=
  l.flags = flags0 → MetFree l y (headSpec (hd :: lw_all) rm) (fun a U => a = av.toArray ∧ wd_ D b σ U U.heap) (fun _ _ _ _ _ => True)
    (fun _ st o t => (∃ σ2, Q o σ2 ∧ wd_ D b σ2 t t.heap) ∧ fr_ b st t ∧ ∃ L, fx_ st t L rm.cells rm.slots ∧ ∀ q ∈ L, b ≤ q.base)
theorem CT_.mono {l : Launch} {D : dd_} {b : Nat} {y : MethodName} {hd : Cond} {rm : Room} {av : List Value} {σ : so_} {Q Q2 : Outcome → so_ → Prop} (h : CT_ l D b y hd rm av σ Q) (hq : ∀ o σ2, Q o σ2 → Q2 o σ2) : CT_ l D b y hd rm av σ Q2 := by
  intro hf p e ha hc hk s m args below h1 h2 h3 h4
  obtain ⟨n, o, w1, w2, w3, ⟨⟨σ2, q1, q2⟩, q3⟩⟩ := h hf p e ha hc hk s m args below h1 h2 h3 h4
  exact ⟨n, o, w1, w2, w3, ⟨⟨σ2, hq o σ2 q1, q2⟩, q3⟩⟩
/-- a room for d frames, and cells and slots to make -/
def rm_ (d mc ms : Nat) : Room := { frames := d, cells := mc, slots := ms, locals := 39 * d }
theorem ct_of {l : Launch} {D : dd_} {b : Nat} {y : MethodName} {cc : ByteArray} {nL : Nat} {ret : Option FieldType} {R : Room} {av : List Value} {σ : so_} {Q : Outcome → so_ → Prop} (ls : List (Option Value)) (hy : plainName y.cls = true) (hls : pl_ ls = lv_args 0 av) (hln : Nat.ble (lg_sl av).length nL = true) (k : G_ l D b (y.cls, y.name, nL, ret, R, []) Q cc 0 ls [] σ 0 0) : CT_ l D b y (.code y cc nL ret) R av σ Q := by
  intro hf
  refine MetFree.of_bodyS (code := cc) (maxLocals := nL) (ret := ret) hy ?_ ?_
  · intro args s m h hn
    obtain ⟨meth, c, h1, h2, h3, h4, h5, h6, -, -⟩ := Cond.code_spec hn (atoms_spec (ws := .code y cc nL ret :: lw_all) h _ List.mem_cons_self)
    exact ⟨meth, c, h1, h2, h3, h4, h5, h6⟩
  · intro p e s m args below meth c s₁ B hml hP _
    obtain ⟨rfl, hw⟩ := hP
    have hh0 : s₁.heap = s.heap := by rw [B.state]; rfl
    have hts0 := atoms_spec (ws := .code y cc nL ret :: lw_all) B.pre
    have hts : ∀ w ∈ lw_all, w.before _ s = true := fun w h => hts0 w (List.mem_cons_of_mem _ h)
    have hemp := BodyLoose.noHandlers B (hts0 _ List.mem_cons_self)
    have hnil : c.exceptionTable.toList = [] := by
      have := hemp
      simpa [Array.isEmpty_iff] using this
    have hle := lv_entry av (n := nL) (Nat.le_of_ble_eq_true hln)
    have hlo : lo_ ((lg_sl av ++ List.replicate (nL - (lg_sl av).length) Slot.unset).toArray) nL ls := by
      unfold lo_
      rw [hls]
      exact hle
    have K := k p e s m av.toArray below meth c s.heap [] _ ⟨B.exec, B.bytes, hml, B.returns, B.notSynchronized, findClass_of_methodNamed B.named, hts, (name_of_methodNamed B.named B.method).1, by rw [hnil]; rfl, hf⟩ hw ⟨Nat.le_refl _, fun _ _ => rfl, fun _ h => by cases h⟩ hlo
    obtain ⟨t, a1, o, σ2, b1, b2, b3, b4, b5, b6⟩ := K s₁ hh0 (Stand.of_body B)
    rw [← lg_entry_eq] at a1
    exact ⟨t, o, a1, b1, b2, ⟨σ2, b3, b4⟩, b5, b6⟩
theorem ct_ofW {l : Launch} {D : dd_} {b : Nat} {y : MethodName} {cc : ByteArray} {nL : Nat} {ret : Option FieldType} {hh : List (Nat × Nat × Nat × Nat)} {R : Room} {av : List Value} {σ : so_} {Q : Outcome → so_ → Prop} (ls : List (Option Value)) (hy : plainName y.cls = true) (hls : pl_ ls = lv_args 0 av) (hln : Nat.ble (lg_sl av).length nL = true) (k : G_ l D b (y.cls, y.name, nL, ret, R, hh) Q cc 0 ls [] σ 0 0) : CT_ l D b y (.codeWith y cc nL ret hh) R av σ Q := by
  intro hf
  refine MetFree.of_bodyS (code := cc) (maxLocals := nL) (ret := ret) hy ?_ ?_
  · intro args s m h hn
    obtain ⟨m9, meth, c, hn9, h1, h2, h3, h4, -, h5, h6, -⟩ := Cond.codeWith_spec (atoms_spec (ws := .codeWith y cc nL ret hh :: lw_all) h _ List.mem_cons_self)
    cases hn.symm.trans hn9
    exact ⟨meth, c, h1, h2, h3, h4, h5, h6⟩
  · intro p e s m args below meth c s₁ B hml hP _
    obtain ⟨rfl, hw⟩ := hP
    have hh0 : s₁.heap = s.heap := by rw [B.state]; rfl
    have hts0 := atoms_spec (ws := .codeWith y cc nL ret hh :: lw_all) B.pre
    have hts : ∀ w ∈ lw_all, w.before _ s = true := fun w h => hts0 w (List.mem_cons_of_mem _ h)
    obtain ⟨m9, meth9, c9, hn9, h1, h2, h3, h4, h7, h5, h6, -⟩ := Cond.codeWith_spec (hts0 _ List.mem_cons_self)
    have X := Stand.of_body B
    cases B.named.symm.trans hn9
    cases X.method.symm.trans h1
    cases X.code.symm.trans h2
    have hle := lv_entry av (n := nL) (Nat.le_of_ble_eq_true hln)
    have hlo : lo_ ((lg_sl av ++ List.replicate (nL - (lg_sl av).length) Slot.unset).toArray) nL ls := by
      unfold lo_
      rw [hls]
      exact hle
    have K := k p e s m av.toArray below meth c s.heap [] _ ⟨B.exec, B.bytes, hml, B.returns, B.notSynchronized, findClass_of_methodNamed B.named, hts, (name_of_methodNamed B.named B.method).1, h7, hf⟩ hw ⟨Nat.le_refl _, fun _ _ => rfl, fun _ h => by cases h⟩ hlo
    obtain ⟨t, a1, o, σ2, b1, b2, b3, b4, b5, b6⟩ := K s₁ hh0 X
    rw [← lg_entry_eq] at a1
    exact ⟨t, o, a1, b1, b2, ⟨σ2, b3, b4⟩, b5, b6⟩
/-- the invocation that an instruction makes -/
def iv_ (p : Program) (l : Launch) (e : Env) (R : Room) (s : State) (m : MethodId) (args : Array Value) (below : List Frame) (meth : Method) (c : Code) (H : Heap) (g : JFrame) (rest : List Value) (y : MethodName) (av : Array Value) : Prop :=
  ∀ (T : State) (locs : List Loc) (cells slots : Nat), T.heap = H → Stand p l e R s m args below meth c T locs cells slots → ∃ (vm₁ : Vm) (mk : MethodId), Stand p l e R s m args below meth c (T.setVm vm₁) locs cells slots ∧ (T.setVm vm₁).methodNamed? y = some mk ∧
    ∀ target, Steps p.tables e below (doInvoke e ((T.setVm vm₁).setTop { g with stack := rest }) [] mk av).1 target → Steps p.tables e below (T.setTop g) target
/-- the head word gives the callee's locals -/
def hc_ (hd : Cond) (y : MethodName) (maxL : Nat) : Prop := ∀ (a : Array Value) (U : State) (mk : MethodId), hd.before a U = true → U.methodNamed? y = some mk → ∃ (methY : Method) (cY : Code), U.vm.method? mk = some methY ∧ methY.code = some cY ∧ cY.maxLocals = maxL ∧ parseMethodDescriptor y.desc = some methY.sig
theorem hc_code {y : MethodName} {cc : ByteArray} {maxL : Nat} {ret : Option FieldType} : hc_ (.code y cc maxL ret) y maxL := by
  intro a U mk h hn
  obtain ⟨methY, cY, hmY, hcY, -, hlY, -, -, -, hsg⟩ := Cond.code_spec hn h
  exact ⟨methY, cY, hmY, hcY, hlY, hsg⟩
theorem hc_codeW {y : MethodName} {cc : ByteArray} {maxL : Nat} {ret : Option FieldType} {hh : List (Nat × Nat × Nat × Nat)} : hc_ (.codeWith y cc maxL ret hh) y maxL := by
  intro a U mk h hn
  obtain ⟨m9, methY, cY, hn9, hmY, hcY, -, hlY, -, -, -, hsg⟩ := Cond.codeWith_spec h
  cases hn.symm.trans hn9
  exact ⟨methY, cY, hmY, hcY, hlY, hsg⟩
theorem w_call {p : Program} {l : Launch} {e : Env} {R : Room} {s : State} {m : MethodId} {args : Array Value} {below : List Frame} {meth : Method} {c : Code} {H : Heap} {g : JFrame} {rest : List Value} {y : MethodName} {av : List Value} {hd : Cond} {rm : Room} {maxL : Nat} {ig : Instr} {D : dd_} {b : Nat} {σ : so_} {Qc : Outcome → so_ → Prop} {locs : List Loc} {kc ks : Nat} {Z : State → Prop}
    (hct : CT_ l D b y hd rm av σ Qc) (hf : l.flags = flags0) (hts : ∀ w ∈ lw_all, w.before args s = true) (hcd : hc_ hd y maxL) (hhd : hd ∈ lw_all) (hini : Cond.initialized y.cls ∈ lw_all)
    (hinv : iv_ p l e R s m args below meth c H g rest y av.toArray) (hg : g.method = m) (hsize : g.locals.size = c.maxLocals) (hdg : decode c.code g.pc = .ok (ig, 3)) (hW : 2 * g.monitorRoom + (rest.map fun v => v.category).sum ≤ 12)
    (hR1 : rm.frames + 1 ≤ R.frames) (hR2 : 12 + (maxL + 11) + rm.locals ≤ R.locals) (hk1 : kc + rm.cells ≤ R.cells) (hk2 : ks + rm.slots ≤ R.slots) (hw : wd_ D b σ s H) (hs : sx_ b s H locs)
    (kr : ∀ (v : Option Value) (σ2 : so_) (H2 : Heap) (L2 : List Loc), Qc (.returned v) σ2 → wd_ D b σ2 s H2 → sx_ b s H2 L2 → W p l e R s m args below meth c H2 L2 (kc + rm.cells) (ks + rm.slots) Z { g with pc := g.pc + 3, stack := v.toList ++ rest })
    (kt : ∀ (x : Nat) (σ2 : so_) (L2 : List Loc) (T : State), Qc (.threw x) σ2 → wd_ D b σ2 s T.heap → sx_ b s T.heap L2 → Stand p l e R s m args below meth c T L2 (kc + rm.cells) (ks + rm.slots) → ∃ t, Steps p.tables e below ((T.setTop { g with stack := rest }).pushFrame (.throwing x)) t ∧ Z t) :
    W p l e R s m args below meth c H locs kc ks Z g := by
  intro T hT X0
  obtain ⟨vm₁, mk, X, hn, hstep⟩ := hinv T locs kc ks hT X0
  generalize hU : T.setVm vm₁ = U at X hn hstep
  have hUh : U.heap = H := by rw [← hU]; exact hT
  have hword : ∀ w ∈ lw_all, ∀ (a : Array Value), w.before a U = true := fun w hw a => pay_in hts lw_self w hw a U X.warmed
  obtain ⟨methY, cY, hmY, hcY, hlY, -⟩ := hcd av.toArray U mk (hword hd hhd _) hn
  obtain ⟨kY, hkY, -⟩ := className_of_methodNamed hn
  have hinitY : kY.init = .initialized := Cond.initialized_spec (findClass_of_methodNamed hn) hkY (hword _ hini av.toArray)
  generalize hg2 : ({ g with stack := rest } : JFrame) = g2 at hstep
  have hg2m : g2.method = m := by rw [← hg2]; exact hg
  have hg2p : g2.pc = g.pc := by rw [← hg2]
  have hg2s : g2.stack = rest := by rw [← hg2]
  have hg2l : g2.locals = g.locals := by rw [← hg2]
  have hg2mr : g2.monitorRoom = g.monitorRoom := by rw [← hg2]
  have h : At U g2.method c below := by rw [hg2m]; exact X.here
  have hdg2 : decode c.code g2.pc = .ok (ig, 3) := by rw [hg2p]; exact hdg
  have hpre : (headSpec (hd :: lw_all) rm).pre.before av.toArray U = true := atoms_intro (ws := hd :: lw_all) fun w hw => by
    rcases List.mem_cons.mp hw with e1 | e1
    · rw [e1]; exact hword hd hhd _
    · exact hword w e1 _
  have happ : (headSpec (hd :: lw_all) rm).appliesLoose y e.platform (U.calling g2 mk av.toArray) = true :=
    Spec.appliesLoose_calling (g := g2) h hdg2 hn hkY hinitY
      (X.room_calling (g := g2) (R' := rm) (by rw [hg2l]; exact hsize) hmY hcY hR1 (by rw [hlY, hg2mr, hg2s]; omega) hk1 hk2) hpre
  obtain ⟨mid, hmid⟩ := h.above
  have hfr : (U.setTop g2).frames = (.java g2 :: mid) ++ below := by rw [State.frames_setTop' g2 h.top, hmid]; rfl
  have hwU : wd_ D b σ (U.calling g2 mk av.toArray) (U.calling g2 mk av.toArray).heap := by
    show wd_ D b σ _ U.heap
    rw [hUh]
    exact hw.warm (U := U.calling g2 mk av.toArray) X.warmed
  obtain ⟨o, s₂, hsteps, -, hend, ⟨⟨σ2, hq, hw2⟩, hfr2, L, ⟨hW₂, hsame2⟩, hL⟩⟩ := Steps.callFree (hct hf) p X.admits X.cas X.clock (acts := []) hfr happ ⟨rfl, hwU⟩ trivial
  have hsame3 : (U.calling g2 mk av.toArray).sameButNew ({ s₂ with vm := (U.calling g2 mk av.toArray).vm } : State) L rm.cells rm.slots := hsame2
  obtain ⟨e2, q2, q3, q4, q5, q6⟩ := hsame3
  rw [State.frames_setTop' g2 h.top] at hend
  have e3 : s₂ = ({ (U.calling g2 mk av.toArray).setFrames s₂.frames with heap := s₂.heap, slotsUsed := s₂.slotsUsed } : State).setVm s₂.vm := by
    have : s₂ = ({ s₂ with vm := (U.calling g2 mk av.toArray).vm } : State).setVm s₂.vm := rfl
    rw [e2] at this
    exact this
  have hW' : U.WarmedH s₂.vm := hW₂
  obtain ⟨g₀, hg0⟩ := Option.isSome_iff_exists.mp h.top
  obtain ⟨r, hr⟩ := State.topJava?_eq_some.mp hg0
  have hr' : (({ U with heap := s₂.heap, slotsUsed := s₂.slotsUsed } : State).setVm s₂.vm).frames = .java g₀ :: r := hr
  have hsame : U.sameButNew ({ U with heap := s₂.heap, slotsUsed := s₂.slotsUsed } : State) L rm.cells rm.slots := by
    refine ⟨?_, q2, q3, q4, q5, q6⟩
    obtain ⟨t, ht, -⟩ := State.frames_cons hr
    show ({ U with heap := s₂.heap, slotsUsed := s₂.slotsUsed } : State) = { U.setFrames U.frames with heap := s₂.heap, slotsUsed := s₂.slotsUsed }
    rw [State.setFrames_self ht]
  have Xn : Stand p l e R s m args below meth c (({ U with heap := s₂.heap, slotsUsed := s₂.slotsUsed } : State).setVm s₂.vm) (locs ++ L) (kc + rm.cells) (ks + rm.slots) :=
    ⟨X.admits, X.cas, X.clock, X.frames, X.room, X.hears, X.method, X.code, (X.here.setHeapUsed s₂.heap s₂.slotsUsed).setVm hW'.alike, X.tail, State.WarmedH.trans X.warmed hW', X.limits, X.bytes, X.same.trans (hsame.setVm s.vm)⟩
  have hsW : s.WarmedH s₂.vm := State.WarmedH.trans X.warmed hW'
  have hw3 : wd_ D b σ2 s s₂.heap := by
    refine ⟨hw.1, hw2.2.1, hw.2.2.kept (fun q hq => ?_)⟩
    have h9 := hfr2.2 q hq
    rw [h9]
    show U.heap[q]? = H[q]?
    rw [hUh]
  have hs3 : sx_ b s s₂.heap (locs ++ L) := by
    refine ⟨?_, fun q hq => ?_, fun q hq => ?_⟩
    · have h8 : U.heap.size ≤ s₂.heap.size := hfr2.1
      rw [hUh] at h8
      exact Nat.le_trans hs.1 h8
    · have h9 : s₂.heap[q]? = U.heap[q]? := hfr2.2 q hq
      rw [h9, hUh]
      exact hs.2.1 q hq
    · rcases List.mem_append.mp hq with h1 | h1
      · exact hs.2.2 q h1
      · exact hL q h1
  cases o with
  | returned v =>
    obtain ⟨c₂, i₂, len₂, hc₂, hd₂, hf₂⟩ := hend
    have hcc : c₂ = c := by
      have h1 : s₂.code? g2.method = U.code? g2.method := by
        rw [State.code?_eq, State.code?_eq, hW'.alike.method?]
      exact Option.some.inj (hc₂.symm.trans (h1.trans h.code))
    subst hcc
    have hlen : len₂ = 3 := by rw [hdg2] at hd₂; cases hd₂; rfl
    subst hlen
    have hs₂ : s₂ = (({ U with heap := s₂.heap, slotsUsed := s₂.slotsUsed } : State).setVm s₂.vm).setTop { g2 with pc := g2.pc + 3, stack := v.toList ++ g2.stack } := by
      refine e3.trans ?_
      rw [hf₂, State.calling_eq h.top, State.setFrames_setFrames, State.setTop_of_frames _ hr', hr]
      rfl
    have hgg : ({ g2 with pc := g2.pc + 3, stack := v.toList ++ g2.stack } : JFrame) = { g with pc := g.pc + 3, stack := v.toList ++ rest } := by rw [← hg2]
    rw [hgg] at hs₂
    obtain ⟨t, a1, b1⟩ := kr v σ2 s₂.heap (locs ++ L) hq hw3 hs3 (({ U with heap := s₂.heap, slotsUsed := s₂.slotsUsed } : State).setVm s₂.vm) rfl Xn
    refine ⟨t, hstep t (Steps.trans hsteps ?_), b1⟩
    rw [hs₂]
    exact a1
  | threw x =>
    have hf₂ : s₂.frames = .throwing x :: .java g2 :: U.frames.tail := hend
    have hs₂ : s₂ = ((({ U with heap := s₂.heap, slotsUsed := s₂.slotsUsed } : State).setVm s₂.vm).setTop g2).pushFrame (.throwing x) := by
      refine e3.trans ?_
      rw [hf₂, State.calling_eq h.top, State.setFrames_setFrames, State.pushFrame, State.frames_setTop _ hr', State.setTop_of_frames _ hr', State.setFrames_setFrames, hr]
      rfl
    obtain ⟨t, a1, b1⟩ := kt x σ2 (locs ++ L) (({ U with heap := s₂.heap, slotsUsed := s₂.slotsUsed } : State).setVm s₂.vm) hq hw3 hs3 Xn
    refine ⟨t, hstep t (Steps.trans hsteps ?_), b1⟩
    rw [hg2] at a1
    rw [hs₂]
    exact a1
