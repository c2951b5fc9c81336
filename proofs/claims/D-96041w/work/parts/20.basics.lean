/-! Math, small helpers -/
set_option maxRecDepth 100000
theorem nI_inc (r : Nat) : nI r + Int32.ofInt 1 = nI (r + 1) := nI_1 r
theorem nI_dec (r : Nat) : nI (r + 1) + Int32.ofInt (-1) = nI r := pk_m1 r
theorem nI_incN (k : Nat) (r : Nat) : nI r + Int32.ofInt k = nI (r + k) := by
  rw [show Int32.ofInt (k : Int) = nI k from rfl]
  exact nI_add r k
theorem ct_ofF {l : Launch} {D : dd_} {b : Nat} {y : MethodName} {cc : ByteArray} {nL : Nat} {ret : Option FieldType} {R : Room} {av : List Value} {σ : so_} {Q : Outcome → so_ → Prop} (ls : List (Option Value)) (hy : plainFor y = true) (hls : pl_ ls = lv_args 0 av) (hln : Nat.ble (lg_sl av).length nL = true) (k : G_ l D b (y.cls, y.name, nL, ret, R, []) Q cc 0 ls [] σ 0 0) : CT_ l D b y (.code y cc nL ret) R av σ Q := by
  intro hf
  refine MetFree.of_bodySF (code := cc) (maxLocals := nL) (ret := ret) hy ?_ ?_
  · intro args s m h hn
    obtain ⟨meth, c, h1, h2, h3, h4, h5, h6, -, -⟩ := Cond.code_spec hn (atoms_spec (ws := .code y cc nL ret :: lw_all) h _ List.mem_cons_self)
    exact ⟨meth, c, h1, h2, h3, h4, h5, h6⟩
  · intro p e s m args below meth c s₁ B hml hP _
    obtain ⟨rfl, hw⟩ := hP
    have hh0 : s₁.heap = s.heap := by rw [B.state]; rfl
    have hts0 := atoms_spec (ws := .code y cc nL ret :: lw_all) B.pre
    have hts : ∀ w ∈ lw_all, w.before _ s = true := fun w h => hts0 w (List.mem_cons_of_mem _ h)
    have hemp := BodyLoose.noHandlers B (hts0 _ List.mem_cons_self)
    have hnil : c.exceptionTable.toList = [] := by
      have := hemp
      simpa [Array.isEmpty_iff] using this
    have hle := lv_entry av (n := nL) (Nat.le_of_ble_eq_true hln)
    have hlo : lo_ ((lg_sl av ++ List.replicate (nL - (lg_sl av).length) Slot.unset).toArray) nL ls := by
      unfold lo_
      rw [hls]
      exact hle
    have K := k p e s m av.toArray below meth c s.heap [] _ ⟨B.exec, B.bytes, hml, B.returns, B.notSynchronized, findClass_of_methodNamed B.named, hts, (name_of_methodNamed B.named B.method).1, by rw [hnil]; rfl, hf⟩ hw ⟨Nat.le_refl _, fun _ _ => rfl, fun _ h => by cases h⟩ hlo
    obtain ⟨t, a1, o, σ2, b1, b2, b3, b4, b5, b6⟩ := K s₁ hh0 (Stand.of_body B)
    rw [← lg_entry_eq] at a1
    exact ⟨t, o, a1, b1, b2, ⟨σ2, b3, b4⟩, b5, b6⟩
section MTH
variable {l : Launch} {D : dd_} {b : Nat} {σ : so_}
def mx_ (x y : Int32) : Int32 := if x < y then y else x
def mn_ (x y : Int32) : Int32 := if y < x then y else x
theorem ct_max {x y : Int32} : CT_ l D b yJ3_max hJ3_max (rm_ 0 0 0) [.int x, .int y] σ (qi_ (mx_ x y) σ) := by
  refine ct_ofF [some (.int x), some (.int y)] (by decide +kernel) rfl rfl ?_
  refine go_iload_n dJ3_max_0 rfl ?_
  refine go_iload_n dJ3_max_1 rfl ?_
  refine go_icmp_lt (tgt := 9) dJ3_max_2 (by decide) (fun h => ?_) (fun h => ?_)
  · refine go_iload_n dJ3_max_9 rfl ?_
    refine go_iret rfl dJ3_max_10 (Nat.le_of_ble_eq_true rfl) (Nat.le_of_ble_eq_true rfl) ?_
    exact ⟨by simp [mx_, h], rfl⟩
  · refine go_iload_n dJ3_max_5 rfl ?_
    refine go_goto (tgt := 10) dJ3_max_6 (by decide) ?_
    refine go_iret rfl dJ3_max_10 (Nat.le_of_ble_eq_true rfl) (Nat.le_of_ble_eq_true rfl) ?_
    exact ⟨by simp [mx_, h], rfl⟩
theorem ct_min {x y : Int32} : CT_ l D b yJ3_min hJ3_min (rm_ 0 0 0) [.int x, .int y] σ (qi_ (mn_ x y) σ) := by
  refine ct_ofF [some (.int x), some (.int y)] (by decide +kernel) rfl rfl ?_
  refine go_iload_n dJ3_min_0 rfl ?_
  refine go_iload_n dJ3_min_1 rfl ?_
  refine go_icmp_gt (tgt := 9) dJ3_min_2 (by decide) (fun h => ?_) (fun h => ?_)
  · refine go_iload_n dJ3_min_9 rfl ?_
    refine go_iret rfl dJ3_min_10 (Nat.le_of_ble_eq_true rfl) (Nat.le_of_ble_eq_true rfl) ?_
    exact ⟨by simp [mn_, h], rfl⟩
  · refine go_iload_n dJ3_min_5 rfl ?_
    refine go_goto (tgt := 10) dJ3_min_6 (by decide) ?_
    refine go_iret rfl dJ3_min_10 (Nat.le_of_ble_eq_true rfl) (Nat.le_of_ble_eq_true rfl) ?_
    exact ⟨by simp [mn_, h], rfl⟩
end MTH
