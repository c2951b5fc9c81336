/-! RULES: what each kind foretells -/
theorem ag_pos {v : tv_} (hv : wf_ v) {k : Nat} (h1 : 1 ≤ k) : ∃ m, m ≤ 1000 ∧ ag_ v k = nI m := by
  unfold ag_
  by_cases h : k ≤ wN v
  · rw [if_pos h]
    exact hv.2.2.2.2.2.2.2.2.2 (k - 1) (by omega)
  · rw [if_neg h]
    obtain ⟨c, h2, h3⟩ := hv.2.2.2.2.2.2.1
    exact ⟨c, by omega, h3⟩
theorem mx0 {m : Nat} (h : m < 2 ^ 31) : mx_ (nI 0) (nI m) = nI m := by
  unfold mx_
  by_cases h0 : 0 < m
  · rw [if_pos (nI_lt h0 h)]
  · have : m = 0 := by omega
    subst this
    rw [ite_self]
section RULES
variable {l : Launch} {D : dd_} {b : Nat} {ty : ty_} {mi : mi_} {mr : mr_} {n x t q : Nat} {v : tv_} {sp : Nat}
theorem ct_lastby {z : Int32} : CT_ l D b yX2_by hX2_by (rm_ 1 0 0) [.ref q, .ref t, .int z] (ty, mi, mr, n) (qi_ z (ty, mi, mr, n)) := by
  refine ct_of [some (.ref q), some (.ref t), some (.int z)] (by decide) rfl rfl ?_
  refine go_iload_n dX2_by_0 rfl ?_
  refine go_iret rfl dX2_by_1 (Nat.le_of_ble_eq_true rfl) (Nat.le_of_ble_eq_true rfl) ?_
  exact ⟨rfl, rfl⟩
theorem ct_lastby0 {z : Int32} : CT_ l D b yX2_by hX2_by (rm_ 0 0 0) [.ref q, .ref t, .int z] (ty, mi, mr, n) (qi_ z (ty, mi, mr, n)) := by
  refine ct_of [some (.ref q), some (.ref t), some (.int z)] (by decide) rfl rfl ?_
  refine go_iload_n dX2_by_0 rfl ?_
  refine go_iret rfl dX2_by_1 (Nat.le_of_ble_eq_true rfl) (Nat.le_of_ble_eq_true rfl) ?_
  exact ⟨rfl, rfl⟩
theorem ct_otherby {z : Int32} (hq : ty q = some (.inl 3)) (hs : ts_ ty mr t) (hr : tr_ ty mi mr x t v) (hv : wf_ v) : CT_ l D b yX3_by hX3_by (rm_ 1 0 0) [.ref q, .ref t, .int z] (ty, mi, mr, n) (qi_ (pe_ v - z) (ty, mi, mr, n)) := by
  have a1 := hs.1
  refine ct_of [some (.ref q), some (.ref t), some (.int z)] (by decide) rfl rfl ?_
  refine go_aload_n dX3_by_0 rfl ?_
  refine go_callV vX3_7_15 (ct_people hs hr hv) dX3_by_1 (by assumption) rfl rfl rfl rfl rfl (Nat.le_of_ble_eq_true rfl) (Nat.le_of_ble_eq_true rfl) (Nat.le_of_ble_eq_true rfl) (Nat.le_of_ble_eq_true rfl) (Nat.le_of_ble_eq_true rfl) (kr_i ?_) kt_i
  refine go_aload_n dX3_by_4 rfl ?_
  refine go_aload_n dX3_by_5 rfl ?_
  refine go_iload_n dX3_by_6 rfl ?_
  refine go_callP pX3_13 (ct_lastby0) dX3_by_7 (by assumption) rfl rfl rfl rfl (Nat.le_of_ble_eq_true rfl) (Nat.le_of_ble_eq_true rfl) (Nat.le_of_ble_eq_true rfl) (Nat.le_of_ble_eq_true rfl) (Nat.le_of_ble_eq_true rfl) (kr_i ?_) kt_i
  refine go_isub dX3_by_10 ?_
  refine go_iret rfl dX3_by_11 (Nat.le_of_ble_eq_true rfl) (Nat.le_of_ble_eq_true rfl) ?_
  exact ⟨rfl, rfl⟩
theorem ct_trendby {z : Int32} (hq : ty q = some (.inl 5)) (hs : ts_ ty mr t) (hr : tr_ ty mi mr x t v) (hv : wf_ v) : CT_ l D b yX5_by hX5_by (rm_ 1 0 0) [.ref q, .ref t, .int z] (ty, mi, mr, n) (qi_ (nI 2 * ag_ v 1 - z) (ty, mi, mr, n)) := by
  have a1 := hs.1
  refine ct_of [some (.ref q), some (.ref t), some (.int z)] (by decide) rfl rfl ?_
  refine go_iconst (v := nI 2) dX5_by_0 (by decide) ?_
  refine go_aload_n dX5_by_1 rfl ?_
  refine go_iconst (v := nI 1) dX5_by_2 (by decide) ?_
  refine go_callV vX5_7_15 (ct_ago hs hr hv (Nat.le_refl 1) (by decide)) dX5_by_3 (by assumption) rfl rfl rfl rfl rfl (Nat.le_of_ble_eq_true rfl) (Nat.le_of_ble_eq_true rfl) (Nat.le_of_ble_eq_true rfl) (Nat.le_of_ble_eq_true rfl) (Nat.le_of_ble_eq_true rfl) (kr_i ?_) kt_i
  refine go_imul dX5_by_6 ?_
  refine go_aload_n dX5_by_7 rfl ?_
  refine go_aload_n dX5_by_8 rfl ?_
  refine go_iload_n dX5_by_9 rfl ?_
  refine go_callP pX5_13 (ct_lastby0) dX5_by_10 (by assumption) rfl rfl rfl rfl (Nat.le_of_ble_eq_true rfl) (Nat.le_of_ble_eq_true rfl) (Nat.le_of_ble_eq_true rfl) (Nat.le_of_ble_eq_true rfl) (Nat.le_of_ble_eq_true rfl) (kr_i ?_) kt_i
  refine go_isub dX5_by_13 ?_
  refine go_iret rfl dX5_by_14 (Nat.le_of_ble_eq_true rfl) (Nat.le_of_ble_eq_true rfl) ?_
  exact ⟨rfl, rfl⟩
theorem ct_fore0 (hq : ty q = some (.inl 2)) (hs : ts_ ty mr t) (hr : tr_ ty mi mr x t v) (hv : wf_ v) (h1 : 1 ≤ sp) (h2 : sp ≤ 6) : CT_ l D b yX2_foretells hX2_foretells (rm_ 2 0 0) [.ref q, .ref t, .int (nI sp)] (ty, mi, mr, n) (qi_ (fo_ v 0 sp) (ty, mi, mr, n)) := by
  have a1 := hs.1
  refine ct_of [some (.ref q), some (.ref t), some (.int (nI sp))] (by decide) rfl rfl ?_
  refine go_iconst (v := nI 0) dX2_foretells_0 (by decide) ?_
  refine go_aload_n dX2_foretells_1 rfl ?_
  refine go_aload_n dX2_foretells_2 rfl ?_
  refine go_aload_n dX2_foretells_3 rfl ?_
  refine go_iload_n dX2_foretells_4 rfl ?_
  refine go_callV vX2_7_15 (ct_ago hs hr hv h1 (by omega)) dX2_foretells_5 (by assumption) rfl rfl rfl rfl rfl (Nat.le_of_ble_eq_true rfl) (Nat.le_of_ble_eq_true rfl) (Nat.le_of_ble_eq_true rfl) (Nat.le_of_ble_eq_true rfl) (Nat.le_of_ble_eq_true rfl) (kr_i ?_) kt_i
  refine go_callV vX2_13_2 (ct_lastby) dX2_foretells_8 (by assumption) rfl rfl rfl rfl rfl (Nat.le_of_ble_eq_true rfl) (Nat.le_of_ble_eq_true rfl) (Nat.le_of_ble_eq_true rfl) (Nat.le_of_ble_eq_true rfl) (Nat.le_of_ble_eq_true rfl) (kr_i ?_) kt_i
  refine go_callS sX2_19 (ct_max) dX2_foretells_11 rfl rfl rfl (Nat.le_of_ble_eq_true rfl) (Nat.le_of_ble_eq_true rfl) (Nat.le_of_ble_eq_true rfl) (Nat.le_of_ble_eq_true rfl) (Nat.le_of_ble_eq_true rfl) (kr_i ?_) kt_i
  refine go_iret rfl dX2_foretells_14 (Nat.le_of_ble_eq_true rfl) (Nat.le_of_ble_eq_true rfl) ?_
  obtain ⟨m, hm, em⟩ := ag_pos hv h1
  exact ⟨by rw [show fo_ v 0 sp = ag_ v sp from rfl, em, mx0 (by omega)], rfl⟩
theorem ct_fore1 (hq : ty q = some (.inl 3)) (hs : ts_ ty mr t) (hr : tr_ ty mi mr x t v) (hv : wf_ v) (h1 : 1 ≤ sp) (h2 : sp ≤ 6) : CT_ l D b yX2_foretells hX2_foretells (rm_ 2 0 0) [.ref q, .ref t, .int (nI sp)] (ty, mi, mr, n) (qi_ (fo_ v 1 sp) (ty, mi, mr, n)) := by
  have a1 := hs.1
  refine ct_of [some (.ref q), some (.ref t), some (.int (nI sp))] (by decide) rfl rfl ?_
  refine go_iconst (v := nI 0) dX2_foretells_0 (by decide) ?_
  refine go_aload_n dX2_foretells_1 rfl ?_
  refine go_aload_n dX2_foretells_2 rfl ?_
  refine go_aload_n dX2_foretells_3 rfl ?_
  refine go_iload_n dX2_foretells_4 rfl ?_
  refine go_callV vX2_7_15 (ct_ago hs hr hv h1 (by omega)) dX2_foretells_5 (by assumption) rfl rfl rfl rfl rfl (Nat.le_of_ble_eq_true rfl) (Nat.le_of_ble_eq_true rfl) (Nat.le_of_ble_eq_true rfl) (Nat.le_of_ble_eq_true rfl) (Nat.le_of_ble_eq_true rfl) (kr_i ?_) kt_i
  refine go_callU uX2_13_3 (ct_otherby hq hs hr hv) dX2_foretells_8 (by assumption) rfl rfl rfl rfl rfl (Nat.le_of_ble_eq_true rfl) (Nat.le_of_ble_eq_true rfl) (Nat.le_of_ble_eq_true rfl) (Nat.le_of_ble_eq_true rfl) (Nat.le_of_ble_eq_true rfl) (kr_i ?_) kt_i
  refine go_callS sX2_19 (ct_max) dX2_foretells_11 rfl rfl rfl (Nat.le_of_ble_eq_true rfl) (Nat.le_of_ble_eq_true rfl) (Nat.le_of_ble_eq_true rfl) (Nat.le_of_ble_eq_true rfl) (Nat.le_of_ble_eq_true rfl) (kr_i ?_) kt_i
  refine go_iret rfl dX2_foretells_14 (Nat.le_of_ble_eq_true rfl) (Nat.le_of_ble_eq_true rfl) ?_
  exact ⟨rfl, rfl⟩
theorem ct_fore3 (hq : ty q = some (.inl 5)) (hs : ts_ ty mr t) (hr : tr_ ty mi mr x t v) (hv : wf_ v) (h1 : 1 ≤ sp) (h2 : sp ≤ 6) : CT_ l D b yX2_foretells hX2_foretells (rm_ 2 0 0) [.ref q, .ref t, .int (nI sp)] (ty, mi, mr, n) (qi_ (fo_ v 3 sp) (ty, mi, mr, n)) := by
  have a1 := hs.1
  refine ct_of [some (.ref q), some (.ref t), some (.int (nI sp))] (by decide) rfl rfl ?_
  refine go_iconst (v := nI 0) dX2_foretells_0 (by decide) ?_
  refine go_aload_n dX2_foretells_1 rfl ?_
  refine go_aload_n dX2_foretells_2 rfl ?_
  refine go_aload_n dX2_foretells_3 rfl ?_
  refine go_iload_n dX2_foretells_4 rfl ?_
  refine go_callV vX2_7_15 (ct_ago hs hr hv h1 (by omega)) dX2_foretells_5 (by assumption) rfl rfl rfl rfl rfl (Nat.le_of_ble_eq_true rfl) (Nat.le_of_ble_eq_true rfl) (Nat.le_of_ble_eq_true rfl) (Nat.le_of_ble_eq_true rfl) (Nat.le_of_ble_eq_true rfl) (kr_i ?_) kt_i
  refine go_callU uX2_13_5 (ct_trendby hq hs hr hv) dX2_foretells_8 (by assumption) rfl rfl rfl rfl rfl (Nat.le_of_ble_eq_true rfl) (Nat.le_of_ble_eq_true rfl) (Nat.le_of_ble_eq_true rfl) (Nat.le_of_ble_eq_true rfl) (Nat.le_of_ble_eq_true rfl) (kr_i ?_) kt_i
  refine go_callS sX2_19 (ct_max) dX2_foretells_11 rfl rfl rfl (Nat.le_of_ble_eq_true rfl) (Nat.le_of_ble_eq_true rfl) (Nat.le_of_ble_eq_true rfl) (Nat.le_of_ble_eq_true rfl) (Nat.le_of_ble_eq_true rfl) (kr_i ?_) kt_i
  refine go_iret rfl dX2_foretells_14 (Nat.le_of_ble_eq_true rfl) (Nat.le_of_ble_eq_true rfl) ?_
  exact ⟨rfl, rfl⟩
theorem ct_mean {d : Nat} (hs : ts_ ty mr t) (hr : tr_ ty mi mr x t v) (hv : wf_ v) (h1 : 1 ≤ sp) (h2 : sp ≤ 6) : CT_ l D b yX4_foretells hX4_foretells (rm_ (d + 1) 0 0) [.ref q, .ref t, .int (nI sp)] (ty, mi, mr, n) (qi_ (fo_ v 2 sp) (ty, mi, mr, n)) := by
  have a1 := hs.1
  refine ct_of [some (.ref q), some (.ref t), some (.int (nI sp)), none, none] (by decide) rfl rfl ?_
  refine go_iconst (v := nI 0) dX4_foretells_0 (by decide) ?_
  refine go_istore_n (ls2 := [_, _, _, _, _]) dX4_foretells_1 rfl rfl ?_
  refine go_iconst (v := nI 1) dX4_foretells_2 (by decide) ?_
  refine go_istore (ls2 := [_, _, _, _, _]) dX4_foretells_3 rfl rfl ?_
  refine go_for sp (fun s => [some (.ref q), some (.ref t), some (.int (nI sp)), some (.int (sm_ (fun k => ag_ v (k + 1)) s)), some (.int (nI (s + 1)))]) (fun _ => (ty, mi, mr, n)) 0 (by omega) (fun s _ hs1 ih => ?_) ?_
  · refine go_iload dX4_foretells_5 rfl ?_
    refine go_iload_n dX4_foretells_7 rfl ?_
    refine go_icmp_gt (tgt := 26) dX4_foretells_8 (by decide) (fun h => ?_) (fun h => ?_)
    · exact absurd h (nI_nlt (by omega) (by omega))
    · refine go_iload_n dX4_foretells_11 rfl ?_
      refine go_aload_n dX4_foretells_12 rfl ?_
      refine go_iload dX4_foretells_13 rfl ?_
      refine go_callV vX4_7_15 (ct_ago hs hr hv (by omega) (by omega)) dX4_foretells_15 (by assumption) rfl rfl rfl rfl rfl (Nat.le_of_ble_eq_true rfl) (Nat.le_add_left 1 d) (show 12 + (2 + 11) + 0 ≤ 39 * (d + 1) by omega) (Nat.le_of_ble_eq_true rfl) (Nat.le_of_ble_eq_true rfl) (kr_i ?_) kt_i
      refine go_iadd dX4_foretells_18 ?_
      refine go_istore_n (ls2 := [_, _, _, _, _]) dX4_foretells_19 rfl rfl ?_
      refine go_iinc (ls2 := [_, _, _, _, _]) dX4_foretells_20 rfl (nI_inc _) rfl rfl ?_
      refine go_goto (tgt := 5) dX4_foretells_23 (by decide) ?_
      exact ih
  · refine go_iload dX4_foretells_5 rfl ?_
    refine go_iload_n dX4_foretells_7 rfl ?_
    refine go_icmp_gt (tgt := 26) dX4_foretells_8 (by decide) (fun h => ?_) (fun h => ?_)
    · refine go_iload_n dX4_foretells_26 rfl ?_
      refine go_iload_n dX4_foretells_27 rfl ?_
      refine go_idiv dX4_foretells_28 (nI_ne0 (by omega) (by omega)) ?_
      refine go_iret rfl dX4_foretells_29 (Nat.le_of_ble_eq_true rfl) (Nat.le_of_ble_eq_true rfl) ?_
      exact ⟨rfl, rfl⟩
    · exact absurd (nI_lt (by omega) (by omega)) h
theorem ct_fore4 (hq : ty q = some (.inl 6)) (hs : ts_ ty mr t) (hr : tr_ ty mi mr x t v) (hv : wf_ v) (h1 : 1 ≤ sp) (h2 : sp ≤ 6) : CT_ l D b yX6_foretells hX6_foretells (rm_ 2 0 0) [.ref q, .ref t, .int (nI sp)] (ty, mi, mr, n) (qi_ (fo_ v 4 sp) (ty, mi, mr, n)) := by
  refine ct_of [some (.ref q), some (.ref t), some (.int (nI sp))] (by decide) rfl rfl ?_
  refine go_iconst (v := nI 0) dX6_foretells_0 (by decide) ?_
  refine go_aload_n dX6_foretells_1 rfl ?_
  refine go_aload_n dX6_foretells_2 rfl ?_
  refine go_iload_n dX6_foretells_3 rfl ?_
  refine go_callP pX6_7 (ct_mean (d := 0) hs hr hv h1 h2) dX6_foretells_4 (by assumption) rfl rfl rfl rfl (Nat.le_of_ble_eq_true rfl) (Nat.le_of_ble_eq_true rfl) (Nat.le_of_ble_eq_true rfl) (Nat.le_of_ble_eq_true rfl) (Nat.le_of_ble_eq_true rfl) (kr_i ?_) kt_i
  refine go_iload_n dX6_foretells_7 rfl ?_
  refine go_isub dX6_foretells_8 ?_
  refine go_callS sX6_11 (ct_max) dX6_foretells_9 rfl rfl rfl (Nat.le_of_ble_eq_true rfl) (Nat.le_of_ble_eq_true rfl) (Nat.le_of_ble_eq_true rfl) (Nat.le_of_ble_eq_true rfl) (Nat.le_of_ble_eq_true rfl) (kr_i ?_) kt_i
  refine go_iret rfl dX6_foretells_12 (Nat.le_of_ble_eq_true rfl) (Nat.le_of_ble_eq_true rfl) ?_
  exact ⟨rfl, rfl⟩
theorem ct_fore5 (h1 : 1 ≤ sp) (h2 : sp ≤ 6) : CT_ l D b yX7_foretells hX7_foretells (rm_ 2 0 0) [.ref q, .ref t, .int (nI sp)] (ty, mi, mr, n) (qi_ (fo_ v 5 sp) (ty, mi, mr, n)) := by
  refine ct_of [some (.ref q), some (.ref t), some (.int (nI sp))] (by decide) rfl rfl ?_
  refine go_bipush (v := nI 10) dX7_foretells_0 (by decide) ?_
  refine go_iload_n dX7_foretells_2 rfl ?_
  refine go_imul dX7_foretells_3 ?_
  refine go_iret rfl dX7_foretells_4 (Nat.le_of_ble_eq_true rfl) (Nat.le_of_ble_eq_true rfl) ?_
  exact ⟨rfl, rfl⟩
theorem ct_foretold {r : Nat} (hk : ks_ ty x) (hs : ts_ ty mr t) (hr : tr_ ty mi mr x t v) (hv : wf_ v) (h1 : r < rN v) : CT_ l D b yX15_foretold hX15_foretold (rm_ 3 0 0) [.ref t, .int (nI r)] (ty, mi, mr, n) (qi_ (fo_ v (rk_ v r) (rs_ v r)) (ty, mi, mr, n)) := by
  have hs0 := hs
  have hr0 := hr
  obtain ⟨a1, a2, a3, a4, a5, a6, a7, a8, a9, a10, a11, a12, a13, a14, a15⟩ := hs
  obtain ⟨b1, b2, b3, b4, b5, b6, bS, bR, bM⟩ := hr
  obtain ⟨c1, c2, c3⟩ := bR r h1
  obtain ⟨r1, r2, r3, r4, r5⟩ := hv.2.2.2.2.2.2.2.2.1 r h1
  have h6 := hv.2.2.2.1
  have c4 : mi (t + 3) r = nI (rs_ v r) := c2.trans r3
  have hT := (hk _ r2).1
  refine ct_of [some (.ref t), some (.int (nI r))] (by decide) rfl rfl ?_
  refine go_aload_n dX15_foretold_0 rfl ?_
  refine go_getR fX15_23_15 dX15_foretold_1 (by assumption) rfl (by assumption) ?_
  refine go_iload_n dX15_foretold_4 rfl ?_
  refine go_aald dX15_foretold_5 (by assumption) ⟨rfl, by omega, by decide⟩ (by assumption) ?_
  refine go_aload_n dX15_foretold_6 rfl ?_
  refine go_aload_n dX15_foretold_7 rfl ?_
  refine go_getR fX15_27_15 dX15_foretold_8 (by assumption) rfl (by assumption) ?_
  refine go_iload_n dX15_foretold_11 rfl ?_
  refine go_iald dX15_foretold_12 (by assumption) ⟨rfl, by omega, by decide⟩ ?_
  rw [c4]
  generalize rk_ v r = kk at c1 r2 hT ⊢
  generalize rs_ v r = ss at r4 r5 ⊢
  match kk, r2, hT with
  | 0, _, hT =>
    refine go_callU uX15_68_2 (ct_fore0 hT hs0 hr0 hv r4 r5) dX15_foretold_13 (by assumption) rfl rfl rfl rfl rfl (Nat.le_of_ble_eq_true rfl) (Nat.le_of_ble_eq_true rfl) (Nat.le_of_ble_eq_true rfl) (Nat.le_of_ble_eq_true rfl) (Nat.le_of_ble_eq_true rfl) (kr_i ?_) kt_i
    refine go_iret rfl dX15_foretold_16 (Nat.le_of_ble_eq_true rfl) (Nat.le_of_ble_eq_true rfl) ?_
    exact ⟨rfl, rfl⟩
  | 1, _, hT =>
    refine go_callU uX15_68_3 (ct_fore1 hT hs0 hr0 hv r4 r5) dX15_foretold_13 (by assumption) rfl rfl rfl rfl rfl (Nat.le_of_ble_eq_true rfl) (Nat.le_of_ble_eq_true rfl) (Nat.le_of_ble_eq_true rfl) (Nat.le_of_ble_eq_true rfl) (Nat.le_of_ble_eq_true rfl) (kr_i ?_) kt_i
    refine go_iret rfl dX15_foretold_16 (Nat.le_of_ble_eq_true rfl) (Nat.le_of_ble_eq_true rfl) ?_
    exact ⟨rfl, rfl⟩
  | 2, _, hT =>
    refine go_callU uX15_68_4 (ct_mean (d := 1) hs0 hr0 hv r4 r5) dX15_foretold_13 (by assumption) rfl rfl rfl rfl rfl (Nat.le_of_ble_eq_true rfl) (Nat.le_of_ble_eq_true rfl) (Nat.le_of_ble_eq_true rfl) (Nat.le_of_ble_eq_true rfl) (Nat.le_of_ble_eq_true rfl) (kr_i ?_) kt_i
    refine go_iret rfl dX15_foretold_16 (Nat.le_of_ble_eq_true rfl) (Nat.le_of_ble_eq_true rfl) ?_
    exact ⟨rfl, rfl⟩
  | 3, _, hT =>
    refine go_callU uX15_68_5 (ct_fore3 hT hs0 hr0 hv r4 r5) dX15_foretold_13 (by assumption) rfl rfl rfl rfl rfl (Nat.le_of_ble_eq_true rfl) (Nat.le_of_ble_eq_true rfl) (Nat.le_of_ble_eq_true rfl) (Nat.le_of_ble_eq_true rfl) (Nat.le_of_ble_eq_true rfl) (kr_i ?_) kt_i
    refine go_iret rfl dX15_foretold_16 (Nat.le_of_ble_eq_true rfl) (Nat.le_of_ble_eq_true rfl) ?_
    exact ⟨rfl, rfl⟩
  | 4, _, hT =>
    refine go_callU uX15_68_6 (ct_fore4 hT hs0 hr0 hv r4 r5) dX15_foretold_13 (by assumption) rfl rfl rfl rfl rfl (Nat.le_of_ble_eq_true rfl) (Nat.le_of_ble_eq_true rfl) (Nat.le_of_ble_eq_true rfl) (Nat.le_of_ble_eq_true rfl) (Nat.le_of_ble_eq_true rfl) (kr_i ?_) kt_i
    refine go_iret rfl dX15_foretold_16 (Nat.le_of_ble_eq_true rfl) (Nat.le_of_ble_eq_true rfl) ?_
    exact ⟨rfl, rfl⟩
  | 5, _, hT =>
    refine go_callU uX15_68_7 (ct_fore5 (v := v) r4 r5) dX15_foretold_13 (by assumption) rfl rfl rfl rfl rfl (Nat.le_of_ble_eq_true rfl) (Nat.le_of_ble_eq_true rfl) (Nat.le_of_ble_eq_true rfl) (Nat.le_of_ble_eq_true rfl) (Nat.le_of_ble_eq_true rfl) (kr_i ?_) kt_i
    refine go_iret rfl dX15_foretold_16 (Nat.le_of_ble_eq_true rfl) (Nat.le_of_ble_eq_true rfl) ?_
    exact ⟨rfl, rfl⟩
  | k + 6, h, _ => exact absurd h (by omega)
end RULES
