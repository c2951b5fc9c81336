/-! THE JUDGEMENT G_: a method's body, from pc on, over the typed store -/
set_option maxRecDepth 100000
/-- own class, name, locals, answer, room, handlers -/
abbrev mc_ : Type := String × String × Nat × Option FieldType × Room × List (Nat × Nat × Nat × Nat)
def cx_ (M : mc_) (cc : ByteArray) (p : Program) (l : Launch) (s : State) (m : MethodId) (args : Array Value) (meth : Method) (c : Code) : Prop :=
  p.tables.exec = Jvm.exec ∧ c.code = cc ∧ c.maxLocals = M.2.2.1 ∧ meth.sig.returnType = M.2.2.2.1 ∧ meth.locks = false ∧ s.vm.findClass M.1 = some m.cls ∧ (∀ w ∈ lw_all, w.before args s = true) ∧ meth.name = M.2.1 ∧ c.exceptionTable.toList.map (fun h => (h.startPc, h.endPc, h.handlerPc, h.catchType)) = M.2.2.2.2.2 ∧ l.flags = flags0
def pl_ (ls : List (Option Value)) : List (Nat × Value) := ls.zipIdx.filterMap (fun q => q.1.map (fun v => (q.2, v)))
theorem pl_mem {ls : List (Option Value)} {q : Nat × Value} : q ∈ pl_ ls ↔ ls[q.1]? = some (some q.2) := by
  obtain ⟨i, v⟩ := q
  unfold pl_
  rw [List.mem_filterMap]
  constructor
  · rintro ⟨⟨o, j⟩, h1, h2⟩
    rw [List.mem_zipIdx_iff_getElem?] at h1
    cases o with
    | none => cases h2
    | some w => cases h2; exact h1
  · intro h
    exact ⟨(some v, i), List.mem_zipIdx_iff_getElem?.mpr h, rfl⟩
def lo_ (la : Array Slot) (n : Nat) (ls : List (Option Value)) : Prop := lv_has la n (pl_ ls)
theorem lo_.at {la : Array Slot} {n i : Nat} {ls : List (Option Value)} {v : Value} (h : lo_ la n ls) (hi : ls[i]? = some (some v)) : la[i]? = some (.val v) := h.2.2 (i, v) (pl_mem.mpr hi)
/-- no long stands just ahead of the place i -/
def lk_ (ls : List (Option Value)) (i : Nat) : Bool := match i with
  | 0 => true
  | j + 1 => match ls[j]? with
    | some (some (.long _)) => false
    | some (some (.double _)) => false
    | _ => true
theorem lk_cat {ls : List (Option Value)} {j : Nat} {w : Value} (h : lk_ ls (j + 1) = true) (hj : ls[j]? = some (some w)) : ¬ w.category = 2 := by
  simp only [lk_, hj] at h
  cases w <;> simp_all [Value.category]
theorem lo_.st1 {la : Array Slot} {n i : Nat} {ls : List (Option Value)} {v : Value} (hk : lk_ ls i = true) (h : lv_has la n ((i, v) :: (pl_ ls).filter (fun q => !(q.1 == i) && !(q.1 + 1 == i && q.2.category == 2)))) : lo_ la n (ls.set i (some v)) := by
  refine ⟨h.1, h.2.1, fun q hq => h.2.2 q ?_⟩
  have h1 := pl_mem.mp hq
  rw [List.getElem?_set] at h1
  by_cases hi : i = q.1
  · rw [if_pos hi] at h1
    by_cases hl : i < ls.length
    · rw [if_pos hl] at h1
      cases h1
      subst hi
      exact List.mem_cons_self
    · rw [if_neg hl] at h1
      cases h1
  · rw [if_neg hi] at h1
    refine List.mem_cons_of_mem _ (List.mem_filter.mpr ⟨pl_mem.mpr h1, ?_⟩)
    have n1 : (q.1 == i) = false := by simp; exact fun z => hi z.symm
    rw [n1]
    by_cases hj : q.1 + 1 = i
    · subst hj
      have := lk_cat hk h1
      simp [this]
    · simp [hj]
theorem lo_.st2 {la : Array Slot} {n i : Nat} {ls : List (Option Value)} {v : Value} (hk : lk_ ls i = true) (h : lv_has la n ((i, v) :: (pl_ ls).filter (fun q => !(q.1 == i) && (!(q.1 == i + 1) && !(q.1 + 1 == i && q.2.category == 2))))) : lo_ la n ((ls.set i (some v)).set (i + 1) none) := by
  refine ⟨h.1, h.2.1, fun q hq => h.2.2 q ?_⟩
  have h1 := pl_mem.mp hq
  rw [List.getElem?_set] at h1
  by_cases hi2 : i + 1 = q.1
  · rw [if_pos hi2] at h1
    split at h1 <;> cases h1
  · rw [if_neg hi2, List.getElem?_set] at h1
    by_cases hi : i = q.1
    · rw [if_pos hi] at h1
      by_cases hl : i < ls.length
      · rw [if_pos hl] at h1
        cases h1
        subst hi
        exact List.mem_cons_self
      · rw [if_neg hl] at h1
        cases h1
    · rw [if_neg hi] at h1
      refine List.mem_cons_of_mem _ (List.mem_filter.mpr ⟨pl_mem.mpr h1, ?_⟩)
      have n1 : (q.1 == i) = false := by simp; exact fun z => hi z.symm
      have n2 : (q.1 == i + 1) = false := by simp; exact fun z => hi2 z.symm
      rw [n1, n2]
      by_cases hj : q.1 + 1 = i
      · subst hj
        have := lk_cat hk h1
        simp [this]
      · simp [hj]
def fr_ (b : Nat) (s t : State) : Prop := s.heap.size ≤ t.heap.size ∧ ∀ q : Nat, q < b → t.heap[q]? = s.heap[q]?
def fx_ (s t : State) (L : List Loc) (k n : Nat) : Prop := s.WarmedH t.vm ∧ s.sameButNew ({ t with vm := s.vm } : State) L k n
def mq_ (D : dd_) (b : Nat) (below : List Frame) (Q : Outcome → so_ → Prop) (s : State) (mc ms : Nat) : State → Prop := fun t =>
  ∃ (o : Outcome) (σ : so_), t.status = .running ∧ Ended t below o ∧ Q o σ ∧ wd_ D b σ t t.heap ∧ fr_ b s t ∧ ∃ L, fx_ s t L mc ms ∧ ∀ q ∈ L, b ≤ q.base
def G_ (l : Launch) (D : dd_) (b : Nat) (M : mc_) (Q : Outcome → so_ → Prop) (cc : ByteArray) (pc : Nat) (ls : List (Option Value)) (st : List Value) (σ : so_) (kc ks : Nat) : Prop :=
  ∀ (p : Program) (e : Env) (s : State) (m : MethodId) (args : Array Value) (below : List Frame) (meth : Method) (c : Code) (H : Heap) (locs : List Loc) (la : Array Slot), cx_ M cc p l s m args meth c → wd_ D b σ s H → sx_ b s H locs → lo_ la M.2.2.1 ls →
    W p l e M.2.2.2.2.1 s m args below meth c H locs kc ks (mq_ D b below Q s M.2.2.2.2.1.cells M.2.2.2.2.1.slots) (F0 m pc la st)
section ROWS
variable {l : Launch} {D : dd_} {b : Nat} {M : mc_} {Q : Outcome → so_ → Prop} {cc : ByteArray} {pc : Nat} {ls : List (Option Value)} {st : List Value} {σ : so_} {kc ks : Nat}

theorem go_iconst {n : Int} {v : Int32} (d : decode cc pc = .ok (.iconst n, 1)) (hv : Int32.ofInt n = v) (k : G_ l D b M Q cc (pc + 1) ls (.int v :: st) σ kc ks) : G_ l D b M Q cc pc ls st σ kc ks := by
  intro p e s m args below meth c H locs la C hw hs hl
  exact lv_iconst C.1 C.2.1 d hv (k p e s m args below meth c H locs la C hw hs hl)
theorem go_bipush {n : Int} {v : Int32} (d : decode cc pc = .ok (.bipush n, 2)) (hv : (Int8.ofInt n).toInt32 = v) (k : G_ l D b M Q cc (pc + 2) ls (.int v :: st) σ kc ks) : G_ l D b M Q cc pc ls st σ kc ks := by
  intro p e s m args below meth c H locs la C hw hs hl
  exact lv_bipush C.1 C.2.1 d hv (k p e s m args below meth c H locs la C hw hs hl)
theorem go_sipush {n : Int} {v : Int32} (d : decode cc pc = .ok (.sipush n, 3)) (hv : (Int16.ofInt n).toInt32 = v) (k : G_ l D b M Q cc (pc + 3) ls (.int v :: st) σ kc ks) : G_ l D b M Q cc pc ls st σ kc ks := by
  intro p e s m args below meth c H locs la C hw hs hl
  exact lv_sipush C.1 C.2.1 d hv (k p e s m args below meth c H locs la C hw hs hl)
theorem go_lconst {n : Fin 2} {v : Int64} (d : decode cc pc = .ok (.lconst n, 1)) (hv : Int64.ofNat (n : Nat) = v) (k : G_ l D b M Q cc (pc + 1) ls (.long v :: st) σ kc ks) : G_ l D b M Q cc pc ls st σ kc ks := by
  intro p e s m args below meth c H locs la C hw hs hl
  exact lv_lconst C.1 C.2.1 d hv (k p e s m args below meth c H locs la C hw hs hl)
theorem go_ldc {index : Nat} {v : Int32} (hc : Cond.constant M.1 index v ∈ lw_all) (d : decode cc pc = .ok (.ldc index, 2)) (k : G_ l D b M Q cc (pc + 2) ls (.int v :: st) σ kc ks) : G_ l D b M Q cc pc ls st σ kc ks := by
  intro p e s m args below meth c H locs la C hw hs hl
  exact lv_ldc C.1 C.2.1 C.2.2.2.2.2.1 (C.2.2.2.2.2.2.1 _ hc) d (k p e s m args below meth c H locs la C hw hs hl)
theorem go_ldcw {index : Nat} {v : Int32} (hc : Cond.constant M.1 index v ∈ lw_all) (d : decode cc pc = .ok (.ldc_w index, 3)) (k : G_ l D b M Q cc (pc + 3) ls (.int v :: st) σ kc ks) : G_ l D b M Q cc pc ls st σ kc ks := by
  intro p e s m args below meth c H locs la C hw hs hl
  exact lv_ldcw C.1 C.2.1 C.2.2.2.2.2.1 (C.2.2.2.2.2.2.1 _ hc) d (k p e s m args below meth c H locs la C hw hs hl)
theorem go_ldc2 {index : Nat} {v : Int64} (hc : Cond.constantLong M.1 index v ∈ lw_all) (d : decode cc pc = .ok (.ldc2_w index, 3)) (k : G_ l D b M Q cc (pc + 3) ls (.long v :: st) σ kc ks) : G_ l D b M Q cc pc ls st σ kc ks := by
  intro p e s m args below meth c H locs la C hw hs hl
  exact lv_ldc2 C.1 C.2.1 C.2.2.2.2.2.1 (C.2.2.2.2.2.2.1 _ hc) d (k p e s m args below meth c H locs la C hw hs hl)
theorem go_iload_n {i : Fin 4} {x : Int32} (d : decode cc pc = .ok (.iload_n i, 1)) (hi : ls[(i : Nat)]? = some (some (.int x))) (k : G_ l D b M Q cc (pc + 1) ls (.int x :: st) σ kc ks) : G_ l D b M Q cc pc ls st σ kc ks := by
  intro p e s m args below meth c H locs la C hw hs hl
  exact lv_iload_n C.1 C.2.1 d rfl (hl.at hi) (k p e s m args below meth c H locs la C hw hs hl)
theorem go_iload {i : Nat} {x : Int32} (d : decode cc pc = .ok (.iload i, 2)) (hi : ls[i]? = some (some (.int x))) (k : G_ l D b M Q cc (pc + 2) ls (.int x :: st) σ kc ks) : G_ l D b M Q cc pc ls st σ kc ks := by
  intro p e s m args below meth c H locs la C hw hs hl
  exact lv_iload C.1 C.2.1 d (hl.at hi) (k p e s m args below meth c H locs la C hw hs hl)
theorem go_lload_n {i : Fin 4} {x : Int64} (d : decode cc pc = .ok (.lload_n i, 1)) (hi : ls[(i : Nat)]? = some (some (.long x))) (k : G_ l D b M Q cc (pc + 1) ls (.long x :: st) σ kc ks) : G_ l D b M Q cc pc ls st σ kc ks := by
  intro p e s m args below meth c H locs la C hw hs hl
  exact lv_lload_n C.1 C.2.1 d rfl (hl.at hi) (k p e s m args below meth c H locs la C hw hs hl)
theorem go_lload {i : Nat} {x : Int64} (d : decode cc pc = .ok (.lload i, 2)) (hi : ls[i]? = some (some (.long x))) (k : G_ l D b M Q cc (pc + 2) ls (.long x :: st) σ kc ks) : G_ l D b M Q cc pc ls st σ kc ks := by
  intro p e s m args below meth c H locs la C hw hs hl
  exact lv_lload C.1 C.2.1 d (hl.at hi) (k p e s m args below meth c H locs la C hw hs hl)
theorem go_aload_n {i : Fin 4} {x : Nat} (d : decode cc pc = .ok (.aload_n i, 1)) (hi : ls[(i : Nat)]? = some (some (.ref x))) (k : G_ l D b M Q cc (pc + 1) ls (.ref x :: st) σ kc ks) : G_ l D b M Q cc pc ls st σ kc ks := by
  intro p e s m args below meth c H locs la C hw hs hl
  exact lv_aload_n C.1 C.2.1 d rfl (hl.at hi) (k p e s m args below meth c H locs la C hw hs hl)
theorem go_aload {i : Nat} {x : Nat} (d : decode cc pc = .ok (.aload i, 2)) (hi : ls[i]? = some (some (.ref x))) (k : G_ l D b M Q cc (pc + 2) ls (.ref x :: st) σ kc ks) : G_ l D b M Q cc pc ls st σ kc ks := by
  intro p e s m args below meth c H locs la C hw hs hl
  exact lv_aload C.1 C.2.1 d (hl.at hi) (k p e s m args below meth c H locs la C hw hs hl)
theorem go_istore_n {i : Fin 4} {x : Int32} {ls2 : List (Option Value)} (d : decode cc pc = .ok (.istore_n i, 1)) (hn : (Nat.blt (i : Nat) M.2.2.1 && lk_ ls (i : Nat)) = true) (h2 : ls.set (i : Nat) (some (.int x)) = ls2) (k : G_ l D b M Q cc (pc + 1) ls2 st σ kc ks) : G_ l D b M Q cc pc ls (.int x :: st) σ kc ks := by
  intro p e s m args below meth c H locs la C hw hs hl
  rw [Bool.and_eq_true] at hn
  subst h2
  exact lv_istore_n C.1 C.2.1 d rfl hl (Nat.le_of_ble_eq_true hn.1) rfl (fun la hl => k p e s m args below meth c H locs la C hw hs (lo_.st1 hn.2 hl))
theorem go_istore {i : Nat} {x : Int32} {ls2 : List (Option Value)} (d : decode cc pc = .ok (.istore i, 2)) (hn : (Nat.blt i M.2.2.1 && lk_ ls i) = true) (h2 : ls.set i (some (.int x)) = ls2) (k : G_ l D b M Q cc (pc + 2) ls2 st σ kc ks) : G_ l D b M Q cc pc ls (.int x :: st) σ kc ks := by
  intro p e s m args below meth c H locs la C hw hs hl
  rw [Bool.and_eq_true] at hn
  subst h2
  exact lv_istore C.1 C.2.1 d hl (Nat.le_of_ble_eq_true hn.1) rfl (fun la hl => k p e s m args below meth c H locs la C hw hs (lo_.st1 hn.2 hl))
theorem go_astore_n {i : Fin 4} {x : Nat} {ls2 : List (Option Value)} (d : decode cc pc = .ok (.astore_n i, 1)) (hn : (Nat.blt (i : Nat) M.2.2.1 && lk_ ls (i : Nat)) = true) (h2 : ls.set (i : Nat) (some (.ref x)) = ls2) (k : G_ l D b M Q cc (pc + 1) ls2 st σ kc ks) : G_ l D b M Q cc pc ls (.ref x :: st) σ kc ks := by
  intro p e s m args below meth c H locs la C hw hs hl
  rw [Bool.and_eq_true] at hn
  subst h2
  exact lv_astore_n C.1 C.2.1 d rfl hl (Nat.le_of_ble_eq_true hn.1) rfl (fun la hl => k p e s m args below meth c H locs la C hw hs (lo_.st1 hn.2 hl))
theorem go_astore {i : Nat} {x : Nat} {ls2 : List (Option Value)} (d : decode cc pc = .ok (.astore i, 2)) (hn : (Nat.blt i M.2.2.1 && lk_ ls i) = true) (h2 : ls.set i (some (.ref x)) = ls2) (k : G_ l D b M Q cc (pc + 2) ls2 st σ kc ks) : G_ l D b M Q cc pc ls (.ref x :: st) σ kc ks := by
  intro p e s m args below meth c H locs la C hw hs hl
  rw [Bool.and_eq_true] at hn
  subst h2
  exact lv_astore C.1 C.2.1 d hl (Nat.le_of_ble_eq_true hn.1) rfl (fun la hl => k p e s m args below meth c H locs la C hw hs (lo_.st1 hn.2 hl))
theorem go_lstore {i : Nat} {x : Int64} {ls2 : List (Option Value)} (d : decode cc pc = .ok (.lstore i, 2)) (hn : (Nat.blt (i + 1) M.2.2.1 && lk_ ls i) = true) (h2 : (ls.set i (some (.long x))).set (i + 1) none = ls2) (k : G_ l D b M Q cc (pc + 2) ls2 st σ kc ks) : G_ l D b M Q cc pc ls (.long x :: st) σ kc ks := by
  intro p e s m args below meth c H locs la C hw hs hl
  rw [Bool.and_eq_true] at hn
  subst h2
  exact lv_lstore C.1 C.2.1 d hl (Nat.le_of_ble_eq_true hn.1) rfl (fun la hl => k p e s m args below meth c H locs la C hw hs (lo_.st2 hn.2 hl))
theorem go_iinc {i : Nat} {n : Int} {x v : Int32} {ls2 : List (Option Value)} (d : decode cc pc = .ok (.iinc i n, 3)) (hi : ls[i]? = some (some (.int x))) (hv : x + Int32.ofInt n = v) (hn : (Nat.blt i M.2.2.1 && lk_ ls i) = true) (h2 : ls.set i (some (.int v)) = ls2) (k : G_ l D b M Q cc (pc + 3) ls2 st σ kc ks) : G_ l D b M Q cc pc ls st σ kc ks := by
  intro p e s m args below meth c H locs la C hw hs hl
  rw [Bool.and_eq_true] at hn
  subst h2
  obtain ⟨j, hj⟩ := List.getElem?_of_mem (pl_mem.mpr (show ls[(i, Value.int x).1]? = some (some (i, Value.int x).2) from hi))
  exact lv_iinc C.1 C.2.1 d hl hj hv (Nat.le_of_ble_eq_true hn.1) rfl (fun la hl => k p e s m args below meth c H locs la C hw hs (lo_.st1 hn.2 hl))
theorem go_iadd {x y : Int32} (d : decode cc pc = .ok (.iadd, 1)) (k : G_ l D b M Q cc (pc + 1) ls (.int (x + y) :: st) σ kc ks) : G_ l D b M Q cc pc ls (.int y :: .int x :: st) σ kc ks := by
  intro p e s m args below meth c H locs la C hw hs hl
  exact lv_iadd C.1 C.2.1 d (k p e s m args below meth c H locs la C hw hs hl)
theorem go_isub {x y : Int32} (d : decode cc pc = .ok (.isub, 1)) (k : G_ l D b M Q cc (pc + 1) ls (.int (x - y) :: st) σ kc ks) : G_ l D b M Q cc pc ls (.int y :: .int x :: st) σ kc ks := by
  intro p e s m args below meth c H locs la C hw hs hl
  exact lv_isub C.1 C.2.1 d (k p e s m args below meth c H locs la C hw hs hl)
theorem go_imul {x y : Int32} (d : decode cc pc = .ok (.imul, 1)) (k : G_ l D b M Q cc (pc + 1) ls (.int (x * y) :: st) σ kc ks) : G_ l D b M Q cc pc ls (.int y :: .int x :: st) σ kc ks := by
  intro p e s m args below meth c H locs la C hw hs hl
  exact lv_imul C.1 C.2.1 d (k p e s m args below meth c H locs la C hw hs hl)
theorem go_iand {x y : Int32} (d : decode cc pc = .ok (.iand, 1)) (k : G_ l D b M Q cc (pc + 1) ls (.int (x &&& y) :: st) σ kc ks) : G_ l D b M Q cc pc ls (.int y :: .int x :: st) σ kc ks := by
  intro p e s m args below meth c H locs la C hw hs hl
  exact lv_iand C.1 C.2.1 d (k p e s m args below meth c H locs la C hw hs hl)
theorem go_idiv {x y : Int32} (d : decode cc pc = .ok (.idiv, 1)) (hne : ¬ y = 0) (k : G_ l D b M Q cc (pc + 1) ls (.int (x / y) :: st) σ kc ks) : G_ l D b M Q cc pc ls (.int y :: .int x :: st) σ kc ks := by
  intro p e s m args below meth c H locs la C hw hs hl
  exact lv_idiv C.1 C.2.1 d hne (k p e s m args below meth c H locs la C hw hs hl)
theorem go_irem {x y : Int32} (d : decode cc pc = .ok (.irem, 1)) (hne : ¬ y = 0) (k : G_ l D b M Q cc (pc + 1) ls (.int (x - x / y * y) :: st) σ kc ks) : G_ l D b M Q cc pc ls (.int y :: .int x :: st) σ kc ks := by
  intro p e s m args below meth c H locs la C hw hs hl
  exact lv_irem C.1 C.2.1 d hne (k p e s m args below meth c H locs la C hw hs hl)
theorem go_ineg {x : Int32} (d : decode cc pc = .ok (.ineg, 1)) (k : G_ l D b M Q cc (pc + 1) ls (.int (-x) :: st) σ kc ks) : G_ l D b M Q cc pc ls (.int x :: st) σ kc ks := by
  intro p e s m args below meth c H locs la C hw hs hl
  exact lv_ineg C.1 C.2.1 d (k p e s m args below meth c H locs la C hw hs hl)
theorem go_land {x y : Int64} (d : decode cc pc = .ok (.land, 1)) (k : G_ l D b M Q cc (pc + 1) ls (.long (x &&& y) :: st) σ kc ks) : G_ l D b M Q cc pc ls (.long y :: .long x :: st) σ kc ks := by
  intro p e s m args below meth c H locs la C hw hs hl
  exact lv_land C.1 C.2.1 d (k p e s m args below meth c H locs la C hw hs hl)
theorem go_lor {x y : Int64} (d : decode cc pc = .ok (.lor, 1)) (k : G_ l D b M Q cc (pc + 1) ls (.long (x ||| y) :: st) σ kc ks) : G_ l D b M Q cc pc ls (.long y :: .long x :: st) σ kc ks := by
  intro p e s m args below meth c H locs la C hw hs hl
  exact lv_lor C.1 C.2.1 d (k p e s m args below meth c H locs la C hw hs hl)
theorem go_lcmp {x y : Int64} (d : decode cc pc = .ok (.lcmp, 1)) (k : G_ l D b M Q cc (pc + 1) ls (.int (lg_cmp x y) :: st) σ kc ks) : G_ l D b M Q cc pc ls (.long y :: .long x :: st) σ kc ks := by
  intro p e s m args below meth c H locs la C hw hs hl
  exact W.lcmp C.1 C.2.1 d (k p e s m args below meth c H locs la C hw hs hl)
theorem go_i2l {x : Int32} (d : decode cc pc = .ok (.i2l, 1)) (k : G_ l D b M Q cc (pc + 1) ls (.long x.toInt64 :: st) σ kc ks) : G_ l D b M Q cc pc ls (.int x :: st) σ kc ks := by
  intro p e s m args below meth c H locs la C hw hs hl
  exact lv_i2l C.1 C.2.1 d rfl (k p e s m args below meth c H locs la C hw hs hl)
theorem go_i2b {x : Int32} (d : decode cc pc = .ok (.i2b, 1)) (k : G_ l D b M Q cc (pc + 1) ls (.int x.toInt8.toInt32 :: st) σ kc ks) : G_ l D b M Q cc pc ls (.int x :: st) σ kc ks := by
  intro p e s m args below meth c H locs la C hw hs hl
  exact lv_i2b C.1 C.2.1 d rfl (k p e s m args below meth c H locs la C hw hs hl)
theorem go_i2c {x : Int32} (d : decode cc pc = .ok (.i2c, 1)) (k : G_ l D b M Q cc (pc + 1) ls (.int (x.toUInt32 % 65536).toInt32 :: st) σ kc ks) : G_ l D b M Q cc pc ls (.int x :: st) σ kc ks := by
  intro p e s m args below meth c H locs la C hw hs hl
  exact lv_i2c C.1 C.2.1 d rfl (k p e s m args below meth c H locs la C hw hs hl)
theorem go_lshl {x : Int64} {y : Int32} (d : decode cc pc = .ok (.lshl, 1)) (k : G_ l D b M Q cc (pc + 1) ls (.long (x <<< (y.toInt64 &&& 63)) :: st) σ kc ks) : G_ l D b M Q cc pc ls (.int y :: .long x :: st) σ kc ks := by
  intro p e s m args below meth c H locs la C hw hs hl
  exact lv_lshl C.1 C.2.1 d rfl (k p e s m args below meth c H locs la C hw hs hl)
theorem go_lshr {x : Int64} {y : Int32} (d : decode cc pc = .ok (.lshr, 1)) (k : G_ l D b M Q cc (pc + 1) ls (.long (x >>> (y.toInt64 &&& 63)) :: st) σ kc ks) : G_ l D b M Q cc pc ls (.int y :: .long x :: st) σ kc ks := by
  intro p e s m args below meth c H locs la C hw hs hl
  exact lv_lshr C.1 C.2.1 d rfl (k p e s m args below meth c H locs la C hw hs hl)
theorem go_dup {v : Value} (d : decode cc pc = .ok (.dup, 1)) (hv : v.category = 1) (k : G_ l D b M Q cc (pc + 1) ls (v :: v :: st) σ kc ks) : G_ l D b M Q cc pc ls (v :: st) σ kc ks := by
  intro p e s m args below meth c H locs la C hw hs hl
  exact lv_dup C.1 C.2.1 d hv (k p e s m args below meth c H locs la C hw hs hl)
theorem go_pop {v : Value} (d : decode cc pc = .ok (.pop, 1)) (hv : v.category = 1) (k : G_ l D b M Q cc (pc + 1) ls st σ kc ks) : G_ l D b M Q cc pc ls (v :: st) σ kc ks := by
  intro p e s m args below meth c H locs la C hw hs hl
  exact lv_pop C.1 C.2.1 d hv (k p e s m args below meth c H locs la C hw hs hl)
theorem go_dup2 {v w : Value} (d : decode cc pc = .ok (.dup2, 1)) (hv : v.category = 1) (hw1 : w.category = 1) (k : G_ l D b M Q cc (pc + 1) ls (v :: w :: v :: w :: st) σ kc ks) : G_ l D b M Q cc pc ls (v :: w :: st) σ kc ks := by
  intro p e s m args below meth c H locs la C hw hs hl
  exact lv_dup2_11 C.1 C.2.1 d hv hw1 (k p e s m args below meth c H locs la C hw hs hl)
theorem go_if_eq {x : Int32} {off : Int} {tgt : Nat} (d : decode cc pc = .ok (.ifCond .eq off, 3)) (ht : (pc : Int) + off = (tgt : Int)) (kt : x = 0 → G_ l D b M Q cc tgt ls st σ kc ks) (kf : ¬ (x = 0) → G_ l D b M Q cc (pc + 3) ls st σ kc ks) : G_ l D b M Q cc pc ls (.int x :: st) σ kc ks := by
  intro p e s m args below meth c H locs la C hw hs hl
  exact lv_if_eq C.1 C.2.1 d ht (fun h => kt h p e s m args below meth c H locs la C hw hs hl) (fun h => kf h p e s m args below meth c H locs la C hw hs hl)
theorem go_if_ne {x : Int32} {off : Int} {tgt : Nat} (d : decode cc pc = .ok (.ifCond .ne off, 3)) (ht : (pc : Int) + off = (tgt : Int)) (kt : ¬ x = 0 → G_ l D b M Q cc tgt ls st σ kc ks) (kf : x = 0 → G_ l D b M Q cc (pc + 3) ls st σ kc ks) : G_ l D b M Q cc pc ls (.int x :: st) σ kc ks := by
  intro p e s m args below meth c H locs la C hw hs hl
  exact lv_if_ne C.1 C.2.1 d ht (fun h => kt h p e s m args below meth c H locs la C hw hs hl) (fun h => kf h p e s m args below meth c H locs la C hw hs hl)
theorem go_if_lt {x : Int32} {off : Int} {tgt : Nat} (d : decode cc pc = .ok (.ifCond .lt off, 3)) (ht : (pc : Int) + off = (tgt : Int)) (kt : x < 0 → G_ l D b M Q cc tgt ls st σ kc ks) (kf : ¬ (x < 0) → G_ l D b M Q cc (pc + 3) ls st σ kc ks) : G_ l D b M Q cc pc ls (.int x :: st) σ kc ks := by
  intro p e s m args below meth c H locs la C hw hs hl
  exact lv_if_lt C.1 C.2.1 d ht (fun h => kt h p e s m args below meth c H locs la C hw hs hl) (fun h => kf h p e s m args below meth c H locs la C hw hs hl)
theorem go_if_ge {x : Int32} {off : Int} {tgt : Nat} (d : decode cc pc = .ok (.ifCond .ge off, 3)) (ht : (pc : Int) + off = (tgt : Int)) (kt : 0 ≤ x → G_ l D b M Q cc tgt ls st σ kc ks) (kf : ¬ (0 ≤ x) → G_ l D b M Q cc (pc + 3) ls st σ kc ks) : G_ l D b M Q cc pc ls (.int x :: st) σ kc ks := by
  intro p e s m args below meth c H locs la C hw hs hl
  exact lv_if_ge C.1 C.2.1 d ht (fun h => kt h p e s m args below meth c H locs la C hw hs hl) (fun h => kf h p e s m args below meth c H locs la C hw hs hl)
theorem go_if_gt {x : Int32} {off : Int} {tgt : Nat} (d : decode cc pc = .ok (.ifCond .gt off, 3)) (ht : (pc : Int) + off = (tgt : Int)) (kt : 0 < x → G_ l D b M Q cc tgt ls st σ kc ks) (kf : ¬ (0 < x) → G_ l D b M Q cc (pc + 3) ls st σ kc ks) : G_ l D b M Q cc pc ls (.int x :: st) σ kc ks := by
  intro p e s m args below meth c H locs la C hw hs hl
  exact lv_if_gt C.1 C.2.1 d ht (fun h => kt h p e s m args below meth c H locs la C hw hs hl) (fun h => kf h p e s m args below meth c H locs la C hw hs hl)
theorem go_if_le {x : Int32} {off : Int} {tgt : Nat} (d : decode cc pc = .ok (.ifCond .le off, 3)) (ht : (pc : Int) + off = (tgt : Int)) (kt : x ≤ 0 → G_ l D b M Q cc tgt ls st σ kc ks) (kf : ¬ (x ≤ 0) → G_ l D b M Q cc (pc + 3) ls st σ kc ks) : G_ l D b M Q cc pc ls (.int x :: st) σ kc ks := by
  intro p e s m args below meth c H locs la C hw hs hl
  exact lv_if_le C.1 C.2.1 d ht (fun h => kt h p e s m args below meth c H locs la C hw hs hl) (fun h => kf h p e s m args below meth c H locs la C hw hs hl)
theorem go_icmp_eq {x y : Int32} {off : Int} {tgt : Nat} (d : decode cc pc = .ok (.if_icmp .eq off, 3)) (ht : (pc : Int) + off = (tgt : Int)) (kt : x = y → G_ l D b M Q cc tgt ls st σ kc ks) (kf : ¬ (x = y) → G_ l D b M Q cc (pc + 3) ls st σ kc ks) : G_ l D b M Q cc pc ls (.int y :: .int x :: st) σ kc ks := by
  intro p e s m args below meth c H locs la C hw hs hl
  exact lv_icmp_eq C.1 C.2.1 d ht (fun h => kt h p e s m args below meth c H locs la C hw hs hl) (fun h => kf h p e s m args below meth c H locs la C hw hs hl)
theorem go_icmp_ne {x y : Int32} {off : Int} {tgt : Nat} (d : decode cc pc = .ok (.if_icmp .ne off, 3)) (ht : (pc : Int) + off = (tgt : Int)) (kt : ¬ x = y → G_ l D b M Q cc tgt ls st σ kc ks) (kf : x = y → G_ l D b M Q cc (pc + 3) ls st σ kc ks) : G_ l D b M Q cc pc ls (.int y :: .int x :: st) σ kc ks := by
  intro p e s m args below meth c H locs la C hw hs hl
  exact lv_icmp_ne C.1 C.2.1 d ht (fun h => kt h p e s m args below meth c H locs la C hw hs hl) (fun h => kf h p e s m args below meth c H locs la C hw hs hl)
theorem go_icmp_lt {x y : Int32} {off : Int} {tgt : Nat} (d : decode cc pc = .ok (.if_icmp .lt off, 3)) (ht : (pc : Int) + off = (tgt : Int)) (kt : x < y → G_ l D b M Q cc tgt ls st σ kc ks) (kf : ¬ (x < y) → G_ l D b M Q cc (pc + 3) ls st σ kc ks) : G_ l D b M Q cc pc ls (.int y :: .int x :: st) σ kc ks := by
  intro p e s m args below meth c H locs la C hw hs hl
  exact lv_icmp_lt C.1 C.2.1 d ht (fun h => kt h p e s m args below meth c H locs la C hw hs hl) (fun h => kf h p e s m args below meth c H locs la C hw hs hl)
theorem go_icmp_ge {x y : Int32} {off : Int} {tgt : Nat} (d : decode cc pc = .ok (.if_icmp .ge off, 3)) (ht : (pc : Int) + off = (tgt : Int)) (kt : y ≤ x → G_ l D b M Q cc tgt ls st σ kc ks) (kf : ¬ (y ≤ x) → G_ l D b M Q cc (pc + 3) ls st σ kc ks) : G_ l D b M Q cc pc ls (.int y :: .int x :: st) σ kc ks := by
  intro p e s m args below meth c H locs la C hw hs hl
  exact lv_icmp_ge C.1 C.2.1 d ht (fun h => kt h p e s m args below meth c H locs la C hw hs hl) (fun h => kf h p e s m args below meth c H locs la C hw hs hl)
theorem go_icmp_gt {x y : Int32} {off : Int} {tgt : Nat} (d : decode cc pc = .ok (.if_icmp .gt off, 3)) (ht : (pc : Int) + off = (tgt : Int)) (kt : y < x → G_ l D b M Q cc tgt ls st σ kc ks) (kf : ¬ (y < x) → G_ l D b M Q cc (pc + 3) ls st σ kc ks) : G_ l D b M Q cc pc ls (.int y :: .int x :: st) σ kc ks := by
  intro p e s m args below meth c H locs la C hw hs hl
  exact lv_icmp_gt C.1 C.2.1 d ht (fun h => kt h p e s m args below meth c H locs la C hw hs hl) (fun h => kf h p e s m args below meth c H locs la C hw hs hl)
theorem go_icmp_le {x y : Int32} {off : Int} {tgt : Nat} (d : decode cc pc = .ok (.if_icmp .le off, 3)) (ht : (pc : Int) + off = (tgt : Int)) (kt : x ≤ y → G_ l D b M Q cc tgt ls st σ kc ks) (kf : ¬ (x ≤ y) → G_ l D b M Q cc (pc + 3) ls st σ kc ks) : G_ l D b M Q cc pc ls (.int y :: .int x :: st) σ kc ks := by
  intro p e s m args below meth c H locs la C hw hs hl
  exact lv_icmp_le C.1 C.2.1 d ht (fun h => kt h p e s m args below meth c H locs la C hw hs hl) (fun h => kf h p e s m args below meth c H locs la C hw hs hl)
theorem go_goto {off : Int} {tgt : Nat} (d : decode cc pc = .ok (.goto off, 3)) (ht : (pc : Int) + off = (tgt : Int)) (k : G_ l D b M Q cc tgt ls st σ kc ks) : G_ l D b M Q cc pc ls st σ kc ks := by
  intro p e s m args below meth c H locs la C hw hs hl
  exact lv_goto C.1 C.2.1 d ht (k p e s m args below meth c H locs la C hw hs hl)
theorem go_tableOut {dflt lo hi : Int} {offs : Array Int} {len : Nat} {x : Int32} {tgt : Nat} (d : decode cc pc = .ok (.tableswitch dflt lo hi offs, len)) (h : x.toInt < lo ∨ hi < x.toInt) (ht : (pc : Int) + dflt = (tgt : Int)) (k : G_ l D b M Q cc tgt ls st σ kc ks) : G_ l D b M Q cc pc ls (.int x :: st) σ kc ks := by
  intro p e s m args below meth c H locs la C hw hs hl
  exact lv_tableOut C.1 C.2.1 d h ht (k p e s m args below meth c H locs la C hw hs hl)
theorem go_tableIn {dflt lo hi : Int} {offs : Array Int} {len : Nat} {x : Int32} {off : Int} {tgt : Nat} (d : decode cc pc = .ok (.tableswitch dflt lo hi offs, len)) (h1 : ¬ x.toInt < lo) (h2 : ¬ hi < x.toInt) (ho : offs[(x.toInt - lo).toNat]? = some off) (ht : (pc : Int) + off = (tgt : Int)) (k : G_ l D b M Q cc tgt ls st σ kc ks) : G_ l D b M Q cc pc ls (.int x :: st) σ kc ks := by
  intro p e s m args below meth c H locs la C hw hs hl
  exact lv_tableIn C.1 C.2.1 d h1 h2 ho ht (k p e s m args below meth c H locs la C hw hs hl)
theorem go_lookup {dflt : Int} {ps : Array (Int × Int)} {len : Nat} {x : Int32} {off : Int} {tgt : Nat} (d : decode cc pc = .ok (.lookupswitch dflt ps, len)) (hp : (ps.toList.zip (ps.toList.drop 1)).all (fun (a, next) => a.1 < next.1) = true) (ho : Op.lookupswitch.offset ps.toList dflt x.toInt = off) (ht : (pc : Int) + off = (tgt : Int)) (k : G_ l D b M Q cc tgt ls st σ kc ks) : G_ l D b M Q cc pc ls (.int x :: st) σ kc ks := by
  intro p e s m args below meth c H locs la C hw hs hl
  exact lv_lookup C.1 C.2.1 d hp ho ht (k p e s m args below meth c H locs la C hw hs hl)
theorem go_widen {kc2 ks2 : Nat} (h1 : kc ≤ kc2) (h2 : ks ≤ ks2) (k : G_ l D b M Q cc pc ls st σ kc2 ks2) : G_ l D b M Q cc pc ls st σ kc ks := by
  intro p e s m args below meth c H locs la C hw hs hl
  exact W.widen h1 h2 (k p e s m args below meth c H locs la C hw hs hl)
/-- what the store itself says: cells beyond its end are blank, typed cells lie within -/
theorem go_facts {ty : ty_} {mi : mi_} {mr : mr_} {n : Nat} (k : (∀ a k, n ≤ a → mi a k = 0 ∧ mr a k = none) → (∀ a t, ty a = some t → b ≤ a ∧ a < n) → b ≤ n → G_ l D b M Q cc pc ls st (ty, mi, mr, n) kc ks) : G_ l D b M Q cc pc ls st (ty, mi, mr, n) kc ks := by
  intro p e s m args below meth c H locs la C hw hs hl
  have hr := hw.2.1
  have hn : H.size = n := hr.1
  refine k hr.2.2.1 (fun a t h => ⟨(hr.2.2.2 a t h).1, ?_⟩) (hn ▸ hr.2.1) p e s m args below meth c H locs la C hw hs hl
  have h2 := (hr.2.2.2 a t h).2
  rw [← hn]
  obtain c | ⟨t, k⟩ := t
  · obtain ⟨r, -, ⟨cell, h3, -⟩, -⟩ := h2
    exact (Array.getElem?_eq_some_iff.mp h3).1
  · exact (Array.getElem?_eq_some_iff.mp h2.2).1
end ROWS
