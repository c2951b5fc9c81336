/-! THROWING: the constructors of Throwable's chain, and the catch -/
set_option maxRecDepth 100000
theorem th_atoms {args : Array Value} {s : State} (hts : ∀ w ∈ lw_all, w.before args s = true) (z1 : (Cond.laysStatic "java/lang/Throwable" "UNASSIGNED_STACK" "[Ljava/lang/StackTraceElement;").before args s = true) (z2 : (Cond.laysStatic "java/lang/Throwable" "SUPPRESSED_SENTINEL" "Ljava/util/List;").before args s = true) : ∀ c ∈ Bundle.throwableAtoms, c.before args s = true := by
  intro c hc
  simp only [Bundle.throwableAtoms, List.mem_cons, List.not_mem_nil, or_false] at hc
  rcases hc with rfl | rfl | rfl | rfl | rfl | rfl | rfl | rfl | rfl | rfl | rfl | rfl | rfl | rfl | rfl | rfl | rfl | rfl | rfl | rfl | rfl | rfl | rfl | rfl
  · exact hts _ q93
  · exact hts _ q420
  · exact hts _ q429
  · exact hts _ q432
  · exact hts _ q435
  · exact hts _ q437
  · exact hts _ q421
  · exact hts _ q422
  · exact hts _ q114
  · exact hts _ q115
  · exact hts _ q423
  · exact hts _ q428
  · exact hts _ q433
  · exact hts _ q453
  · exact hts _ q410
  · exact hts _ q454
  · exact hts _ q412
  · exact hts _ q455
  · exact hts _ q414
  · exact hts _ q424
  · exact z1
  · exact hts _ q426
  · exact z2
  · exact hts _ q416
theorem th_chain {args : Array Value} {s : State} (hts : ∀ w ∈ lw_all, w.before args s = true) (hnw : ∀ w ∈ nw_, va_Nw w s) : ∀ c ∈ Bundle.chain0Atoms "GoodHalfEmpty$Refusal" ["java/lang/RuntimeException", "java/lang/Exception"], c.before args s = true := by
  intro c hc
  simp only [Bundle.chain0Atoms, Bundle.passAtoms, List.mem_append, List.mem_cons, List.not_mem_nil, or_false] at hc
  rcases hc with (rfl | rfl | rfl | rfl | rfl) | (rfl | rfl | rfl | rfl | rfl) | (rfl | rfl | rfl | rfl | rfl)
  · exact hts _ q442
  · exact hts _ q443
  · exact hts _ q444
  · exact hts _ q445
  · exact va_Nw.use rfl (hnw _ (nw_in q401 rfl))
  · exact hts _ q445
  · exact hts _ q446
  · exact hts _ q447
  · exact hts _ q448
  · exact va_Nw.use rfl (hnw _ (nw_in q403 rfl))
  · exact hts _ q448
  · exact hts _ q449
  · exact hts _ q450
  · exact hts _ q421
  · exact va_Nw.use rfl (hnw _ (nw_in q405 rfl))
theorem rv_of {b : Nat} {C n d : String} {U : State} {H : Heap} (h : va_Zq C n d (fun q => b ≤ q) U H) : ∃ (cf : ClassId) (kf : Class) (fi : Nat) (f : Field) (a : Nat) (cell : Cell) (u : RefV) (o : Option Nat), U.fieldFound? C n d = some (cf, kf, fi, f) ∧ kf.statics = some a ∧ H[a]? = some cell ∧ cell.vm.isStatics = true ∧ cell.slots[f.slot]? = some u.v ∧ u.v = va_rf o ∧ a < b := by
  rcases h with h | ⟨t, h⟩
  · obtain ⟨cf, kf, fi, f, a, cell, h1, h2, h3, h4, h5, h6, h7, h8⟩ := h
    exact ⟨cf, kf, fi, f, a, cell, ⟨.null, rfl⟩, none, h1, h4, h5, h6, h7, rfl, Nat.not_le.mp h8⟩
  · obtain ⟨cf, kf, fi, f, a, cell, h1, h2, h3, h4, h5, h6, h7, h8⟩ := h
    exact ⟨cf, kf, fi, f, a, cell, ⟨.ref t, rfl⟩, some t, h1, h4, h5, h6, h7, rfl, Nat.not_le.mp h8⟩
theorem fits_rf {t : FieldType} (h : t.isReference = true) (o : Option Nat) : fits t (va_rf o) = true := by
  cases t <;> first | (exact absurd h (by decide)) | (cases o <;> rfl)
/-- what of a class of throwables is asked: its first fields are Throwable's -/
def tc_ (c : Nat) (q : vw_C) : Prop := CL_[c]? = some q ∧ q.2.2 = 7 ∧ q.2.1 0 = ("java/lang/Throwable", "cause", "Ljava/lang/Throwable;", false) ∧ q.2.1 1 = ("java/lang/Throwable", "stackTrace", "[Ljava/lang/StackTraceElement;", false) ∧ q.2.1 2 = ("java/lang/Throwable", "suppressedExceptions", "Ljava/util/List;", false) ∧ q.2.1 4 = ("java/lang/Throwable", "backtrace", "Ljava/lang/Object;", false) ∧ (ft_ c 0).isReference = true ∧ (ft_ c 1).isReference = true ∧ (ft_ c 2).isReference = true ∧ (ft_ c 4).isReference = true ∧ Cond.selects q.1 ⟨"java/lang/Throwable", "fillInStackTrace", "(I)Ljava/lang/Throwable;"⟩ ⟨"java/lang/Throwable", "fillInStackTrace", "(I)Ljava/lang/Throwable;"⟩ ∈ lw_all ∧ Cond.selects q.1 ⟨"java/lang/Throwable", "fillInStackTrace", "()Ljava/lang/Throwable;"⟩ ⟨"java/lang/Throwable", "fillInStackTrace", "()Ljava/lang/Throwable;"⟩ ∈ lw_all
theorem tc_18 : tc_ 18 (RX18, TX18, 7) := ⟨rfl, rfl, rfl, rfl, rfl, rfl, rfl, rfl, rfl, rfl, q407, q408⟩
theorem tc_20 : tc_ 20 (RX20, TX20, 7) := ⟨rfl, rfl, rfl, rfl, rfl, rfl, rfl, rfl, rfl, rfl, q505, q431⟩
section THR
variable {l : Launch} {D : dd_} {b : Nat} {M : mc_} {Q : Outcome → so_ → Prop} {cc : ByteArray} {pc : Nat} {ls : List (Option Value)} {st : List Value} {ty : ty_} {mi : mi_} {mr : mr_} {n : Nat} {kc ks : Nat}
set_option maxHeartbeats 1000000 in
theorem go_refusal {idx c a : Nat} {q : vw_C} {host : String} (htc : tc_ c q) (hlk : Cond.methodLinkNest M.1 idx yX17_init host ∈ nw_) (hT : ty a = some (.inl c)) (hb4 : mr a 4 = none) (d : decode cc pc = .ok (.invokespecial idx, 3)) (hrest : (st.map fun v => v.category).sum ≤ 8) (hR1 : 6 ≤ M.2.2.2.2.1.frames) (hR2 : 100 ≤ M.2.2.2.2.1.locals) (kk : ∀ mr2 : mr_, (∀ a2 k2, a2 ≠ a → mr2 a2 k2 = mr a2 k2) → G_ l D b M Q cc (pc + 3) ls st (ty, mi, mr2, n) kc ks) : G_ l D b M Q cc pc ls (.ref a :: st) (ty, mi, mr, n) kc ks := by
  intro p e s m args below meth c0 H locs la C hw hs hl
  obtain ⟨hc, hN, w0, w1, w2, w4, r0, r1, r2, r4, hs0, hsF⟩ := htc
  have hts := C.2.2.2.2.2.2.1
  intro T1 hT1 X
  have htr : e.platform.stackTraces = false := Launch.traces_off C.2.2.2.2.2.2.2.2.2 X.admits
  have howns : e.platform.frameOwnsMonitors = true := by rw [X.admits.platform]
  have hfin : e.platform.finalization = false := by rw [X.admits.platform]
  have hpl : e.platform.magicAccessors = ({} : Platform).magicAccessors := by rw [X.admits.platform]
  have hsb : ∀ q : Nat, q < b → s.heap[q]? = H[q]? := fun q hq => (hs.2.1 q hq).symm
  obtain ⟨T, Z, L, LZ, Y⟩ := ThrowableC.of_atoms (args := args) (s := s) howns hfin hpl (th_atoms hts (hw.2.2.2.2.2.2.1 s args rfl hsb) (hw.2.2.2.2.2.2.2 s args rfl hsb))
  obtain ⟨P1, Ps, hlen, L1, hL, hP1m, hlink1, hlinkP⟩ := Bundle.chain0 (args := args) (s := s) hpl Y.init0 ["java/lang/RuntimeException", "java/lang/Exception"] "GoodHalfEmpty$Refusal" (by decide +kernel) (by decide +kernel) (th_chain hts hw.1.2.2.1)
  obtain ⟨hba, r, h1, ⟨cell, q1, q2, q3, q4⟩, hmo⟩ := hw.2.1.2.2.2 a _ hT
  have hr : r = q := Option.some.inj (h1.symm.trans hc)
  subst hr
  rw [hN] at q4
  obtain ⟨hS, hfc, kC, hkC, hkind⟩ := hw.1.1 c _ hc
  rw [hN] at hS
  have hin := cl_in c _ hc
  have hap : ∀ x y, x < 7 → y < 7 → x ≠ y → (D.2.1 c) x ≠ (D.2.1 c) y := by
    intro x y hx hy hne
    obtain ⟨_, _, _, fa, hia, ea⟩ := hS x hx
    obtain ⟨_, _, _, fb, hib, eb⟩ := hS y hy
    rw [← ea, ← eb]
    refine u_apart (u_lays hts hin (by rw [hN]; exact hx)) (u_lays hts hin (by rw [hN]; exact hy)) hia hib ?_
    rw [(State.fieldFound?_type hia (cl_ty c _ hc x (by rw [hN]; exact hx))).1, (State.fieldFound?_type hib (cl_ty c _ hc y (by rw [hN]; exact hy))).1]
    exact cl_nm c _ hc x (by rw [hN]; exact hx) y (by rw [hN]; exact hy) hne
  -- the slots of Throwable's fields
  obtain ⟨cf0, kf0, fi0, f0, hi0, e0⟩ := hS 0 (by omega)
  obtain ⟨cf1, kf1, fi1, f1, hi1, e1⟩ := hS 1 (by omega)
  obtain ⟨cf2, kf2, fi2, f2, hi2, e2⟩ := hS 2 (by omega)
  obtain ⟨cf4, kf4, fi4, f4, hi4, e4⟩ := hS 4 (by omega)
  have t0 := (u_facts hfc hkC (u_lays hts hin (by rw [hN]; omega : 0 < r.2.2)) hi0).2.2
  have t1 := (u_facts hfc hkC (u_lays hts hin (by rw [hN]; omega : 1 < r.2.2)) hi1).2.2
  have t2 := (u_facts hfc hkC (u_lays hts hin (by rw [hN]; omega : 2 < r.2.2)) hi2).2.2
  have y0 := (State.fieldFound?_type hi0 (cl_ty c _ hc 0 (by rw [hN]; omega))).2
  have y1 := (State.fieldFound?_type hi1 (cl_ty c _ hc 1 (by rw [hN]; omega))).2
  have y2 := (State.fieldFound?_type hi2 (cl_ty c _ hc 2 (by rw [hN]; omega))).2
  rw [w0] at hi0
  rw [w1] at hi1
  rw [w2] at hi2
  rw [w4] at hi4
  cases Y.cause.symm.trans hi0
  cases Y.stack.symm.trans hi1
  cases Y.supp.symm.trans hi2
  -- the statics
  obtain ⟨cfu, kfu, fiu, fu, au, cellS, u0, uo, g1, g2, g3, g4, g5, g6, g7⟩ := rv_of hw.2.2.1
  obtain ⟨cfs, kfs, fis, fsn, asn, cellS2, sen, so, k1, k2, k3, k4, k5, k6, k7⟩ := rv_of hw.2.2.2.1
  cases Y.unassigned.symm.trans g1
  cases Y.sentinel.symm.trans k1
  cases L.statics.symm.trans g2
  cases L.statics.symm.trans k2
  cases g3.symm.trans k3
  obtain ⟨ci198, i198, fB, hk198, hg198, ha198, hsB, -, hnB, htB, hffB⟩ := Cond.ownField (t := .object "java/lang/Object") Y.found L.cls (by decide +kernel) (hts _ q419) (hts _ q418) e.platform hpl
  cases hffB.symm.trans hi4
  have hsel0 : selectMethod e.platform s.vm cell.cls T.fill0 = .method T.fill0 := by
    obtain ⟨c2, r2, m2, z1, z2, z3, z4, -⟩ := Cond.selects_spec (hts _ hs0)
    cases Option.some.inj (z1.symm.trans hfc)
    cases Option.some.inj (z2.symm.trans (State.methodFound?_of_named Y.fill0 (by decide)))
    cases Option.some.inj (z3.symm.trans Y.fill0)
    rw [Launch.admits_selectMethod X.admits, q2]; exact z4
  have hselF : selectMethod e.platform s.vm cell.cls T.fill = .method T.fill := by
    obtain ⟨c2, r2, m2, z1, z2, z3, z4, -⟩ := Cond.selects_spec (hts _ hsF)
    cases Option.some.inj (z1.symm.trans hfc)
    cases Option.some.inj (z2.symm.trans (State.methodFound?_of_named Y.fill (by decide)))
    cases Option.some.inj (z3.symm.trans Y.fill)
    rw [Launch.admits_selectMethod X.admits, q2]; exact z4
  have tk : ∀ (f : Field) (k : Nat) (v : Value), k < 7 → f.slot = D.2.1 c k → kC.instanceTypes[f.slot]? = some f.type → fits f.type v = true → Takes s cell f v := by
    intro f k v hk hsl hty hv
    refine ⟨by rw [hsl]; exact k2_hasslot (q4 k hk), ?_⟩
    rw [q2, q3]
    simp [State.fitsSlot, State.slotType?, hkC, hkind, hty, hv]
  have htC : Takes s cell T.fCause (.ref a) := tk _ 0 _ (by omega) e0 t0 (by rw [y0]; exact fits_rf r0 (some a))
  have htS : Takes s cell T.fStack u0.v := tk _ 1 _ (by omega) e1 t1 (by rw [y1, g6]; exact fits_rf r1 uo)
  have htP : Takes s cell T.fSupp sen.v := tk _ 2 _ (by omega) e2 t2 (by rw [y2, k6]; exact fits_rf r2 so)
  -- the cell, step by step
  have v1 := t_set q4 hap (show 0 < 7 by omega) (.ref a)
  have v2 := t_set v1 hap (show 1 < 7 by omega) u0.v
  have v3 := t_set v2 hap (show 2 < 7 by omega) sen.v
  have v4 := t_set v3 hap (show 1 < 7 by omega) u0.v
  have hprep : (preparedCellV T.toThrowableT cell a u0 sen) = ((cell.setSlot (D.2.1 c 0) (.ref a)).setSlot (D.2.1 c 1) u0.v).setSlot (D.2.1 c 2) sen.v := by
    rw [← e0, ← e1, ← e2]
  have hskip : SkipFacts T e.platform s (fun u => u) u0 ((preparedCellV T.toThrowableT cell a u0 sen).withEntry T1.cur) := by
    refine ⟨{ ci198 := ci198, i198 := fi4, fBack := f4 }, ⟨hk198, hg198, ha198, hsB⟩, ?_, fun _ _ => rfl⟩
    rw [hprep]
    show (((cell.setSlot (D.2.1 c 0) (.ref a)).setSlot (D.2.1 c 1) u0.v).setSlot (D.2.1 c 2) sen.v).slots[f4.slot]? = some Value.null
    rw [e4, v3 4 (by omega)]
    simp only [updV]
    rw [if_neg (by omega), if_neg (by omega), if_neg (by omega)]
    unfold sv_
    rw [r4, if_pos rfl]
    show some (va_rf (mr a 4)) = _
    rw [hb4]
    rfl
  -- the instruction
  obtain ⟨mk, methM, cM, kP, vm₁, hnamed, hmethM, hcodeM, -, hlocalsM, -, hkP, -, hW₁, hstep₁⟩ := Steps.initColdArgsNest (tb := p.tables) (e := e) X.here C.1 X.warmed hpl C.2.2.2.2.2.1 (t := yX17_init) rfl (by decide +kernel) (va_Nw.use rfl (hw.1.2.2.1 _ hlk)) (hts _ q442) (bytes := cX17_init) (maxL := 1) (hts _ q443) (f := F0 m pc la (.ref a :: st)) rfl (argsL := []) (a := a) (rest := st) (by intro sig hs; have : (parseMethodDescriptor yX17_init.desc).map (fun d => d.parameters.length) = some 0 := (by decide +kernel); rw [hs] at this; exact (Option.some.inj this).symm) rfl (by rw [C.2.1]; exact d)
  have X₁ := X.noted hW₁
  cases Option.some.inj (hnamed.symm.trans hP1m)
  have hcell : (T1.setVm vm₁).heap[a]? = some cell := by
    show T1.heap[a]? = some cell
    rw [hT1]; exact q1
  obtain ⟨vm₂, X₂, st2⟩ := X₁.ctorPlainOffV C.1 (g := F0 m pc la st) rfl (hl.1.trans C.2.2.1.symm) T L Z LZ (P1 :: Ps)
    (fun P hP => by rcases List.mem_cons.mp hP with rfl | hP; exact L1; exact hL P hP) ⟨hlink1, hlinkP⟩ (u0 := u0) (sen := sen) (self := a) (cell := cell) (cellS := cellS)
    hcell (fun z h => by rw [q3] at h; cases h) (by rw [q3]; exact fun h => by cases h) (hmo cell q1).1 (hmo cell q1).2 hsel0 hselF (by show T1.heap[T.aS]? = _; rw [hT1]; exact g3) (Nat.ne_of_lt (Nat.lt_of_lt_of_le g7 hba)) (by intro h; rw [h] at g4; cases g4) g5 k5 htC htS htP Y.objLocals hskip htr [] (by rw [C.2.1]; exact d)
    (by simp only [List.length_cons, hlen, List.length_nil]; omega) (by show 2 * 0 + (st.map fun v => v.category).sum + _ ≤ _; simp only [List.length_cons, hlen, List.length_nil]; omega)
  rw [hprep] at X₂ st2
  generalize hc2 : ((((cell.setSlot (D.2.1 c 0) (.ref a)).setSlot (D.2.1 c 1) u0.v).setSlot (D.2.1 c 2) sen.v).setSlot T.fStack.slot u0.v) = cell2 at X₂ st2
  have hlt : a < H.size := (Array.getElem?_eq_some_iff.mp q1).1
  have hheap : (((T1.setVm vm₁).setVm vm₂).setCell a cell2).heap = H.setIfInBounds a cell2 := by rw [← hT1]; rfl
  have oq : ∀ q : Nat, q ≠ a → (H.setIfInBounds a cell2)[q]? = H[q]? := fun q hq => by simp [Array.getElem?_setIfInBounds, Ne.symm hq]
  have oa : (H.setIfInBounds a cell2)[a]? = some cell2 := by simp [Array.getElem?_setIfInBounds, hlt]
  have hm2 : ∀ a2 k2, a2 ≠ a → ur_ (ur_ (ur_ mr a 0 (some a)) a 1 uo) a 2 so a2 k2 = mr a2 k2 := fun a2 k2 h => by rw [ur_a h, ur_a h, ur_a h]
  have hr2 : rp_ D b (ty, mi, ur_ (ur_ (ur_ mr a 0 (some a)) a 1 uo) a 2 so, n) (H.setIfInBounds a cell2) := by
    refine hw.2.1.upd (by simp) oq (fun a2 k2 h => ⟨rfl, hm2 a2 k2 h⟩) hT ⟨r, h1, ⟨cell2, oa, by rw [← hc2]; exact q2, by rw [← hc2]; exact q3, fun k hk => ?_⟩, fun c2 hcc => ?_⟩
    · rw [hN] at hk
      rw [← hc2, e1, v4 k hk]
      congr 1
      simp only [updV]
      by_cases z1 : k = 1
      · subst z1
        rw [if_pos rfl, ur_k (by decide), ur_s]
        unfold sv_
        rw [r1, g6]
        rfl
      · rw [if_neg z1]
        by_cases z2 : k = 2
        · subst z2
          rw [if_pos rfl, ur_s]
          unfold sv_
          rw [r2, k6]
          rfl
        · rw [if_neg z2, if_neg z1]
          by_cases z0 : k = 0
          · subst z0
            rw [if_pos rfl, ur_k (by decide), ur_k (by decide), ur_s]
            unfold sv_
            rw [r0]
            rfl
          · rw [if_neg z0, ur_k z2, ur_k z1, ur_k z0]
    · rw [oa] at hcc
      cases hcc
      rw [← hc2]
      exact hmo cell q1
  obtain ⟨tt, b1, b2⟩ := kk _ hm2 p e s m args below meth c0 (H.setIfInBounds a cell2) _ la C (hw.to hr2 (fun q hq => oq q (by omega))) ⟨by simp; exact hs.1, fun q g1 => by rw [oq q (by omega)]; exact hs.2.1 q g1, fun q hq => by
      rcases List.mem_append.mp hq with h | h
      · exact hs.2.2 q h
      · simp only [List.mem_cons, List.not_mem_nil, or_false] at h
        rcases h with rfl | rfl | rfl | rfl <;> exact hba⟩ hl _ hheap X₂
  refine ⟨tt, hstep₁ _ (fun acts => ?_), b2⟩
  rw [ds_]
  exact st2 _ b1
end THR
