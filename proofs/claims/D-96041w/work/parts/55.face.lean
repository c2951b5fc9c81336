/-! THE FACE -/
set_option maxRecDepth 100000
def sc1_ (k f1 f2 f3 : Int32) : Bool := !(decide (k < nI 1) || decide (f1 < 0) || decide (f2 < 0) || decide (f3 < 0))
def sc2_ (k f1 f2 f3 : Int32) (v : tv_) : Bool := !(decide (nI 60 < k) || decide (nI 9 < f1) || decide (nI 9 < f2) || decide (nI 9 < f3) || decide (4 ≤ sN v))
def op_sees (k f1 f2 f3 : Int32) (S : cS_) : rr_ := mu_ (sc1_ k f1 f2 f3) 4 S (mu_ (sc2_ k f1 f2 f3 S.1) 6 S (.inl (sm_ (ga_ (sw_ S.1 f1 f2 f3) (sN S.1)) (iN_ k)), S))
def cnt_ (a : Int32) (S : cS_) : Int32 := if a = nI 0 then S.1 0 else if a = nI 1 then S.1 1 else if a = nI 2 then pe_ S.1 else if a = nI 3 then S.1 2 else if a = nI 4 then S.1 3 else if a = nI 5 then S.1 4 else if a = nI 6 then S.1 5 else if a = nI 7 then nI S.2.2.2.2.1 else if a = nI 8 then nI S.2.2.2.2.2.2.1 else if in_ a (nI 11) (nI 16) = true then S.2.2.2.2.2.2.2 (iN_ a - 10) else -9
section FACE
variable {l : Launch} {D : dd_} {b : Nat} {ty : ty_} {mi : mi_} {mr : mr_} {n x : Nat} {S : cS_} {a c f1 f2 f3 : Int32}
theorem ct_f_letter (hc : ci_ ty mi mr n x S) : CT_ l D b yX0_letter hX0_letter (rm_ 15 1000 7000) [.ref x, .int a] (ty, mi, mr, n) (qs_ (fo2_ x (ty, mi, mr, n) (fin_ false (dop_ 0 a (nI 0) S)))) := by
  have a1 := hc.1.1
  refine ct_of [some (.ref x), some (.int a)] (by decide) rfl rfl ?_
  refine go_aload_n dX0_letter_0 rfl ?_
  refine go_iconst (v := nI 0) dX0_letter_1 (by decide) ?_
  refine go_iload_n dX0_letter_2 rfl ?_
  refine go_iconst (v := nI 0) dX0_letter_3 (by decide) ?_
  refine go_callV vX0_429_0 (ct_act (w := 0) (by omega) hc) dX0_letter_4 (by assumption) rfl rfl rfl rfl rfl (Nat.le_of_ble_eq_true rfl) (Nat.le_of_ble_eq_true rfl) (Nat.le_of_ble_eq_true rfl) (Nat.le_of_ble_eq_true rfl) (Nat.le_of_ble_eq_true rfl) (kr_s (fun r σ2 h => ?_)) kt_s
  refine go_iret rfl dX0_letter_7 (Nat.le_of_ble_eq_true rfl) (Nat.le_of_ble_eq_true rfl) ?_
  exact ⟨r, rfl, h⟩
theorem ct_f_town (hc : ci_ ty mi mr n x S) : CT_ l D b yX0_town hX0_town (rm_ 15 1000 7000) [.ref x] (ty, mi, mr, n) (qs_ (fo2_ x (ty, mi, mr, n) (fin_ false (dop_ 1 (nI 0) (nI 0) S)))) := by
  have a1 := hc.1.1
  refine ct_of [some (.ref x)] (by decide) rfl rfl ?_
  refine go_aload_n dX0_town_0 rfl ?_
  refine go_iconst (v := nI 1) dX0_town_1 (by decide) ?_
  refine go_iconst (v := nI 0) dX0_town_2 (by decide) ?_
  refine go_iconst (v := nI 0) dX0_town_3 (by decide) ?_
  refine go_callV vX0_429_0 (ct_act (w := 1) (by omega) hc) dX0_town_4 (by assumption) rfl rfl rfl rfl rfl (Nat.le_of_ble_eq_true rfl) (Nat.le_of_ble_eq_true rfl) (Nat.le_of_ble_eq_true rfl) (Nat.le_of_ble_eq_true rfl) (Nat.le_of_ble_eq_true rfl) (kr_s (fun r σ2 h => ?_)) kt_s
  refine go_iret rfl dX0_town_7 (Nat.le_of_ble_eq_true rfl) (Nat.le_of_ble_eq_true rfl) ?_
  exact ⟨r, rfl, h⟩
theorem ct_f_sort (hc : ci_ ty mi mr n x S) : CT_ l D b yX0_sort hX0_sort (rm_ 15 1000 7000) [.ref x, .int a, .int c] (ty, mi, mr, n) (qs_ (fo2_ x (ty, mi, mr, n) (fin_ false (dop_ 2 a c S)))) := by
  have a1 := hc.1.1
  refine ct_of [some (.ref x), some (.int a), some (.int c)] (by decide) rfl rfl ?_
  refine go_aload_n dX0_sort_0 rfl ?_
  refine go_iconst (v := nI 2) dX0_sort_1 (by decide) ?_
  refine go_iload_n dX0_sort_2 rfl ?_
  refine go_iload_n dX0_sort_3 rfl ?_
  refine go_callV vX0_429_0 (ct_act (w := 2) (by omega) hc) dX0_sort_4 (by assumption) rfl rfl rfl rfl rfl (Nat.le_of_ble_eq_true rfl) (Nat.le_of_ble_eq_true rfl) (Nat.le_of_ble_eq_true rfl) (Nat.le_of_ble_eq_true rfl) (Nat.le_of_ble_eq_true rfl) (kr_s (fun r σ2 h => ?_)) kt_s
  refine go_iret rfl dX0_sort_7 (Nat.le_of_ble_eq_true rfl) (Nat.le_of_ble_eq_true rfl) ?_
  exact ⟨r, rfl, h⟩
theorem ct_f_rule (hc : ci_ ty mi mr n x S) : CT_ l D b yX0_rule hX0_rule (rm_ 15 1000 7000) [.ref x, .int a, .int c] (ty, mi, mr, n) (qs_ (fo2_ x (ty, mi, mr, n) (fin_ false (dop_ 3 a c S)))) := by
  have a1 := hc.1.1
  refine ct_of [some (.ref x), some (.int a), some (.int c)] (by decide) rfl rfl ?_
  refine go_aload_n dX0_rule_0 rfl ?_
  refine go_iconst (v := nI 3) dX0_rule_1 (by decide) ?_
  refine go_iload_n dX0_rule_2 rfl ?_
  refine go_iload_n dX0_rule_3 rfl ?_
  refine go_callV vX0_429_0 (ct_act (w := 3) (by omega) hc) dX0_rule_4 (by assumption) rfl rfl rfl rfl rfl (Nat.le_of_ble_eq_true rfl) (Nat.le_of_ble_eq_true rfl) (Nat.le_of_ble_eq_true rfl) (Nat.le_of_ble_eq_true rfl) (Nat.le_of_ble_eq_true rfl) (kr_s (fun r σ2 h => ?_)) kt_s
  refine go_iret rfl dX0_rule_7 (Nat.le_of_ble_eq_true rfl) (Nat.le_of_ble_eq_true rfl) ?_
  exact ⟨r, rfl, h⟩
theorem ct_f_remembered (hc : ci_ ty mi mr n x S) : CT_ l D b yX0_remembered hX0_remembered (rm_ 15 1000 7000) [.ref x, .int a] (ty, mi, mr, n) (qs_ (fo2_ x (ty, mi, mr, n) (fin_ false (dop_ 4 a (nI 0) S)))) := by
  have a1 := hc.1.1
  refine ct_of [some (.ref x), some (.int a)] (by decide) rfl rfl ?_
  refine go_aload_n dX0_remembered_0 rfl ?_
  refine go_iconst (v := nI 4) dX0_remembered_1 (by decide) ?_
  refine go_iload_n dX0_remembered_2 rfl ?_
  refine go_iconst (v := nI 0) dX0_remembered_3 (by decide) ?_
  refine go_callV vX0_429_0 (ct_act (w := 4) (by omega) hc) dX0_remembered_4 (by assumption) rfl rfl rfl rfl rfl (Nat.le_of_ble_eq_true rfl) (Nat.le_of_ble_eq_true rfl) (Nat.le_of_ble_eq_true rfl) (Nat.le_of_ble_eq_true rfl) (Nat.le_of_ble_eq_true rfl) (kr_s (fun r σ2 h => ?_)) kt_s
  refine go_iret rfl dX0_remembered_7 (Nat.le_of_ble_eq_true rfl) (Nat.le_of_ble_eq_true rfl) ?_
  exact ⟨r, rfl, h⟩
theorem ct_f_penny (hc : ci_ ty mi mr n x S) : CT_ l D b yX0_penny hX0_penny (rm_ 15 1000 7000) [.ref x, .int a] (ty, mi, mr, n) (qs_ (fo2_ x (ty, mi, mr, n) (fin_ false (dop_ 5 a (nI 0) S)))) := by
  have a1 := hc.1.1
  refine ct_of [some (.ref x), some (.int a)] (by decide) rfl rfl ?_
  refine go_aload_n dX0_penny_0 rfl ?_
  refine go_iconst (v := nI 5) dX0_penny_1 (by decide) ?_
  refine go_iload_n dX0_penny_2 rfl ?_
  refine go_iconst (v := nI 0) dX0_penny_3 (by decide) ?_
  refine go_callV vX0_429_0 (ct_act (w := 5) (by omega) hc) dX0_penny_4 (by assumption) rfl rfl rfl rfl rfl (Nat.le_of_ble_eq_true rfl) (Nat.le_of_ble_eq_true rfl) (Nat.le_of_ble_eq_true rfl) (Nat.le_of_ble_eq_true rfl) (Nat.le_of_ble_eq_true rfl) (kr_s (fun r σ2 h => ?_)) kt_s
  refine go_iret rfl dX0_penny_7 (Nat.le_of_ble_eq_true rfl) (Nat.le_of_ble_eq_true rfl) ?_
  exact ⟨r, rfl, h⟩
theorem ct_f_week (hc : ci_ ty mi mr n x S) : CT_ l D b yX0_week hX0_week (rm_ 15 1000 7000) [.ref x] (ty, mi, mr, n) (qs_ (fo2_ x (ty, mi, mr, n) (fin_ false (dop_ 6 (nI 0) (nI 0) S)))) := by
  have a1 := hc.1.1
  refine ct_of [some (.ref x)] (by decide) rfl rfl ?_
  refine go_aload_n dX0_week_0 rfl ?_
  refine go_bipush (v := nI 6) dX0_week_1 (by decide) ?_
  refine go_iconst (v := nI 0) dX0_week_3 (by decide) ?_
  refine go_iconst (v := nI 0) dX0_week_4 (by decide) ?_
  refine go_callV vX0_429_0 (ct_act (w := 6) (by omega) hc) dX0_week_5 (by assumption) rfl rfl rfl rfl rfl (Nat.le_of_ble_eq_true rfl) (Nat.le_of_ble_eq_true rfl) (Nat.le_of_ble_eq_true rfl) (Nat.le_of_ble_eq_true rfl) (Nat.le_of_ble_eq_true rfl) (kr_s (fun r σ2 h => ?_)) kt_s
  refine go_iret rfl dX0_week_8 (Nat.le_of_ble_eq_true rfl) (Nat.le_of_ble_eq_true rfl) ?_
  exact ⟨r, rfl, h⟩
theorem ct_f_next (hc : ci_ ty mi mr n x S) : CT_ l D b yX0_next hX0_next (rm_ 15 1000 7000) [.ref x] (ty, mi, mr, n) (qs_ (fo2_ x (ty, mi, mr, n) (fin_ false (dop_ 7 (nI 0) (nI 0) S)))) := by
  have a1 := hc.1.1
  refine ct_of [some (.ref x)] (by decide) rfl rfl ?_
  refine go_aload_n dX0_next_0 rfl ?_
  refine go_bipush (v := nI 7) dX0_next_1 (by decide) ?_
  refine go_iconst (v := nI 0) dX0_next_3 (by decide) ?_
  refine go_iconst (v := nI 0) dX0_next_4 (by decide) ?_
  refine go_callV vX0_429_0 (ct_act (w := 7) (by omega) hc) dX0_next_5 (by assumption) rfl rfl rfl rfl rfl (Nat.le_of_ble_eq_true rfl) (Nat.le_of_ble_eq_true rfl) (Nat.le_of_ble_eq_true rfl) (Nat.le_of_ble_eq_true rfl) (Nat.le_of_ble_eq_true rfl) (kr_s (fun r σ2 h => ?_)) kt_s
  refine go_iret rfl dX0_next_8 (Nat.le_of_ble_eq_true rfl) (Nat.le_of_ble_eq_true rfl) ?_
  exact ⟨r, rfl, h⟩
theorem ct_f_goes (hc : ci_ ty mi mr n x S) : CT_ l D b yX0_goes hX0_goes (rm_ 15 1000 7000) [.ref x, .int a] (ty, mi, mr, n) (qs_ (fo2_ x (ty, mi, mr, n) (fin_ false (dop_ 8 a (nI 0) S)))) := by
  have a1 := hc.1.1
  refine ct_of [some (.ref x), some (.int a)] (by decide) rfl rfl ?_
  refine go_aload_n dX0_goes_0 rfl ?_
  refine go_bipush (v := nI 8) dX0_goes_1 (by decide) ?_
  refine go_iload_n dX0_goes_3 rfl ?_
  refine go_iconst (v := nI 0) dX0_goes_4 (by decide) ?_
  refine go_callV vX0_429_0 (ct_act (w := 8) (by omega) hc) dX0_goes_5 (by assumption) rfl rfl rfl rfl rfl (Nat.le_of_ble_eq_true rfl) (Nat.le_of_ble_eq_true rfl) (Nat.le_of_ble_eq_true rfl) (Nat.le_of_ble_eq_true rfl) (Nat.le_of_ble_eq_true rfl) (kr_s (fun r σ2 h => ?_)) kt_s
  refine go_iret rfl dX0_goes_8 (Nat.le_of_ble_eq_true rfl) (Nat.le_of_ble_eq_true rfl) ?_
  exact ⟨r, rfl, h⟩
theorem ct_f_worth (hc : ci_ ty mi mr n x S) : CT_ l D b yX0_worth hX0_worth (rm_ 15 1000 7000) [.ref x, .int a] (ty, mi, mr, n) (qs_ (fo2_ x (ty, mi, mr, n) (fin_ true (dop_ 9 a (nI 0) S)))) := by
  have a1 := hc.1.1
  refine ct_of [some (.ref x), some (.int a)] (by decide) rfl rfl ?_
  refine go_aload_n dX0_worth_0 rfl ?_
  refine go_bipush (v := nI 9) dX0_worth_1 (by decide) ?_
  refine go_iload_n dX0_worth_3 rfl ?_
  refine go_iconst (v := nI 0) dX0_worth_4 (by decide) ?_
  refine go_callV vX0_432_0 (ct_actFar (w := 9) (by omega) hc) dX0_worth_5 (by assumption) rfl rfl rfl rfl rfl (Nat.le_of_ble_eq_true rfl) (Nat.le_of_ble_eq_true rfl) (Nat.le_of_ble_eq_true rfl) (Nat.le_of_ble_eq_true rfl) (Nat.le_of_ble_eq_true rfl) (kr_s (fun r σ2 h => ?_)) kt_s
  refine go_iret rfl dX0_worth_8 (Nat.le_of_ble_eq_true rfl) (Nat.le_of_ble_eq_true rfl) ?_
  exact ⟨r, rfl, h⟩
theorem ct_f_after (hc : ci_ ty mi mr n x S) : CT_ l D b yX0_after hX0_after (rm_ 15 1000 7000) [.ref x, .int a] (ty, mi, mr, n) (qs_ (fo2_ x (ty, mi, mr, n) (fin_ false (dop_ 10 a (nI 0) S)))) := by
  have a1 := hc.1.1
  refine ct_of [some (.ref x), some (.int a)] (by decide) rfl rfl ?_
  refine go_aload_n dX0_after_0 rfl ?_
  refine go_bipush (v := nI 10) dX0_after_1 (by decide) ?_
  refine go_iload_n dX0_after_3 rfl ?_
  refine go_iconst (v := nI 0) dX0_after_4 (by decide) ?_
  refine go_callV vX0_429_0 (ct_act (w := 10) (by omega) hc) dX0_after_5 (by assumption) rfl rfl rfl rfl rfl (Nat.le_of_ble_eq_true rfl) (Nat.le_of_ble_eq_true rfl) (Nat.le_of_ble_eq_true rfl) (Nat.le_of_ble_eq_true rfl) (Nat.le_of_ble_eq_true rfl) (kr_s (fun r σ2 h => ?_)) kt_s
  refine go_iret rfl dX0_after_8 (Nat.le_of_ble_eq_true rfl) (Nat.le_of_ble_eq_true rfl) ?_
  exact ⟨r, rfl, h⟩
theorem ct_f_mean (hc : ci_ ty mi mr n x S) : CT_ l D b yX0_mean hX0_mean (rm_ 15 1000 7000) [.ref x, .int a] (ty, mi, mr, n) (qs_ (fo2_ x (ty, mi, mr, n) (fin_ false (dop_ 11 a (nI 0) S)))) := by
  have a1 := hc.1.1
  refine ct_of [some (.ref x), some (.int a)] (by decide) rfl rfl ?_
  refine go_aload_n dX0_mean_0 rfl ?_
  refine go_bipush (v := nI 11) dX0_mean_1 (by decide) ?_
  refine go_iload_n dX0_mean_3 rfl ?_
  refine go_iconst (v := nI 0) dX0_mean_4 (by decide) ?_
  refine go_callV vX0_429_0 (ct_act (w := 11) (by omega) hc) dX0_mean_5 (by assumption) rfl rfl rfl rfl rfl (Nat.le_of_ble_eq_true rfl) (Nat.le_of_ble_eq_true rfl) (Nat.le_of_ble_eq_true rfl) (Nat.le_of_ble_eq_true rfl) (Nat.le_of_ble_eq_true rfl) (kr_s (fun r σ2 h => ?_)) kt_s
  refine go_iret rfl dX0_mean_8 (Nat.le_of_ble_eq_true rfl) (Nat.le_of_ble_eq_true rfl) ?_
  exact ⟨r, rfl, h⟩
theorem ct_f_swing (hc : ci_ ty mi mr n x S) : CT_ l D b yX0_swing hX0_swing (rm_ 15 1000 7000) [.ref x, .int a] (ty, mi, mr, n) (qs_ (fo2_ x (ty, mi, mr, n) (fin_ false (dop_ 12 a (nI 0) S)))) := by
  have a1 := hc.1.1
  refine ct_of [some (.ref x), some (.int a)] (by decide) rfl rfl ?_
  refine go_aload_n dX0_swing_0 rfl ?_
  refine go_bipush (v := nI 12) dX0_swing_1 (by decide) ?_
  refine go_iload_n dX0_swing_3 rfl ?_
  refine go_iconst (v := nI 0) dX0_swing_4 (by decide) ?_
  refine go_callV vX0_429_0 (ct_act (w := 12) (by omega) hc) dX0_swing_5 (by assumption) rfl rfl rfl rfl rfl (Nat.le_of_ble_eq_true rfl) (Nat.le_of_ble_eq_true rfl) (Nat.le_of_ble_eq_true rfl) (Nat.le_of_ble_eq_true rfl) (Nat.le_of_ble_eq_true rfl) (kr_s (fun r σ2 h => ?_)) kt_s
  refine go_iret rfl dX0_swing_8 (Nat.le_of_ble_eq_true rfl) (Nat.le_of_ble_eq_true rfl) ?_
  exact ⟨r, rfl, h⟩
theorem ct_f_good (hc : ci_ ty mi mr n x S) : CT_ l D b yX0_good hX0_good (rm_ 15 1000 7000) [.ref x, .int a] (ty, mi, mr, n) (qs_ (fo2_ x (ty, mi, mr, n) (fin_ false (dop_ 13 a (nI 0) S)))) := by
  have a1 := hc.1.1
  refine ct_of [some (.ref x), some (.int a)] (by decide) rfl rfl ?_
  refine go_aload_n dX0_good_0 rfl ?_
  refine go_bipush (v := nI 13) dX0_good_1 (by decide) ?_
  refine go_iload_n dX0_good_3 rfl ?_
  refine go_iconst (v := nI 0) dX0_good_4 (by decide) ?_
  refine go_callV vX0_429_0 (ct_act (w := 13) (by omega) hc) dX0_good_5 (by assumption) rfl rfl rfl rfl rfl (Nat.le_of_ble_eq_true rfl) (Nat.le_of_ble_eq_true rfl) (Nat.le_of_ble_eq_true rfl) (Nat.le_of_ble_eq_true rfl) (Nat.le_of_ble_eq_true rfl) (kr_s (fun r σ2 h => ?_)) kt_s
  refine go_iret rfl dX0_good_8 (Nat.le_of_ble_eq_true rfl) (Nat.le_of_ble_eq_true rfl) ?_
  exact ⟨r, rfl, h⟩
theorem ct_f_again (hc : ci_ ty mi mr n x S) : CT_ l D b yX0_again hX0_again (rm_ 15 1000 7000) [.ref x] (ty, mi, mr, n) (qs_ (fo2_ x (ty, mi, mr, n) (fin_ false (dop_ 14 (nI 0) (nI 0) S)))) := by
  have a1 := hc.1.1
  refine ct_of [some (.ref x)] (by decide) rfl rfl ?_
  refine go_aload_n dX0_again_0 rfl ?_
  refine go_bipush (v := nI 14) dX0_again_1 (by decide) ?_
  refine go_iconst (v := nI 0) dX0_again_3 (by decide) ?_
  refine go_iconst (v := nI 0) dX0_again_4 (by decide) ?_
  refine go_callV vX0_429_0 (ct_act (w := 14) (by omega) hc) dX0_again_5 (by assumption) rfl rfl rfl rfl rfl (Nat.le_of_ble_eq_true rfl) (Nat.le_of_ble_eq_true rfl) (Nat.le_of_ble_eq_true rfl) (Nat.le_of_ble_eq_true rfl) (Nat.le_of_ble_eq_true rfl) (kr_s (fun r σ2 h => ?_)) kt_s
  refine go_iret rfl dX0_again_8 (Nat.le_of_ble_eq_true rfl) (Nat.le_of_ble_eq_true rfl) ?_
  exact ⟨r, rfl, h⟩
theorem ct_f_gains (hc : ci_ ty mi mr n x S) : CT_ l D b yX0_gains hX0_gains (rm_ 15 1000 7000) [.ref x, .int a, .int c] (ty, mi, mr, n) (qs_ (fo2_ x (ty, mi, mr, n) (fin_ true (dop_ 15 a c S)))) := by
  have a1 := hc.1.1
  refine ct_of [some (.ref x), some (.int a), some (.int c)] (by decide) rfl rfl ?_
  refine go_aload_n dX0_gains_0 rfl ?_
  refine go_bipush (v := nI 15) dX0_gains_1 (by decide) ?_
  refine go_iload_n dX0_gains_3 rfl ?_
  refine go_iload_n dX0_gains_4 rfl ?_
  refine go_callV vX0_432_0 (ct_actFar (w := 15) (by omega) hc) dX0_gains_5 (by assumption) rfl rfl rfl rfl rfl (Nat.le_of_ble_eq_true rfl) (Nat.le_of_ble_eq_true rfl) (Nat.le_of_ble_eq_true rfl) (Nat.le_of_ble_eq_true rfl) (Nat.le_of_ble_eq_true rfl) (kr_s (fun r σ2 h => ?_)) kt_s
  refine go_iret rfl dX0_gains_8 (Nat.le_of_ble_eq_true rfl) (Nat.le_of_ble_eq_true rfl) ?_
  exact ⟨r, rfl, h⟩
theorem ct_f_rests (hc : ci_ ty mi mr n x S) : CT_ l D b yX0_rests hX0_rests (rm_ 15 1000 7000) [.ref x] (ty, mi, mr, n) (qs_ (fo2_ x (ty, mi, mr, n) (fin_ false (dop_ 16 (nI 0) (nI 0) S)))) := by
  have a1 := hc.1.1
  refine ct_of [some (.ref x)] (by decide) rfl rfl ?_
  refine go_aload_n dX0_rests_0 rfl ?_
  refine go_bipush (v := nI 16) dX0_rests_1 (by decide) ?_
  refine go_iconst (v := nI 0) dX0_rests_3 (by decide) ?_
  refine go_iconst (v := nI 0) dX0_rests_4 (by decide) ?_
  refine go_callV vX0_429_0 (ct_act (w := 16) (by omega) hc) dX0_rests_5 (by assumption) rfl rfl rfl rfl rfl (Nat.le_of_ble_eq_true rfl) (Nat.le_of_ble_eq_true rfl) (Nat.le_of_ble_eq_true rfl) (Nat.le_of_ble_eq_true rfl) (Nat.le_of_ble_eq_true rfl) (kr_s (fun r σ2 h => ?_)) kt_s
  refine go_iret rfl dX0_rests_8 (Nat.le_of_ble_eq_true rfl) (Nat.le_of_ble_eq_true rfl) ?_
  exact ⟨r, rfl, h⟩
theorem ct_f_rest (hc : ci_ ty mi mr n x S) : CT_ l D b yX0_rest hX0_rest (rm_ 15 1000 7000) [.ref x, .int a] (ty, mi, mr, n) (qs_ (fo2_ x (ty, mi, mr, n) (fin_ false (dop_ 17 a (nI 0) S)))) := by
  have a1 := hc.1.1
  refine ct_of [some (.ref x), some (.int a)] (by decide) rfl rfl ?_
  refine go_aload_n dX0_rest_0 rfl ?_
  refine go_bipush (v := nI 17) dX0_rest_1 (by decide) ?_
  refine go_iload_n dX0_rest_3 rfl ?_
  refine go_iconst (v := nI 0) dX0_rest_4 (by decide) ?_
  refine go_callV vX0_429_0 (ct_act (w := 17) (by omega) hc) dX0_rest_5 (by assumption) rfl rfl rfl rfl rfl (Nat.le_of_ble_eq_true rfl) (Nat.le_of_ble_eq_true rfl) (Nat.le_of_ble_eq_true rfl) (Nat.le_of_ble_eq_true rfl) (Nat.le_of_ble_eq_true rfl) (kr_s (fun r σ2 h => ?_)) kt_s
  refine go_iret rfl dX0_rest_8 (Nat.le_of_ble_eq_true rfl) (Nat.le_of_ble_eq_true rfl) ?_
  exact ⟨r, rfl, h⟩
theorem ct_f_best (hc : ci_ ty mi mr n x S) : CT_ l D b yX0_best hX0_best (rm_ 15 1000 7000) [.ref x, .int a] (ty, mi, mr, n) (qs_ (fo2_ x (ty, mi, mr, n) (fin_ true (dop_ 18 a (nI 0) S)))) := by
  have a1 := hc.1.1
  refine ct_of [some (.ref x), some (.int a)] (by decide) rfl rfl ?_
  refine go_aload_n dX0_best_0 rfl ?_
  refine go_bipush (v := nI 18) dX0_best_1 (by decide) ?_
  refine go_iload_n dX0_best_3 rfl ?_
  refine go_iconst (v := nI 0) dX0_best_4 (by decide) ?_
  refine go_callV vX0_432_0 (ct_actFar (w := 18) (by omega) hc) dX0_best_5 (by assumption) rfl rfl rfl rfl rfl (Nat.le_of_ble_eq_true rfl) (Nat.le_of_ble_eq_true rfl) (Nat.le_of_ble_eq_true rfl) (Nat.le_of_ble_eq_true rfl) (Nat.le_of_ble_eq_true rfl) (kr_s (fun r σ2 h => ?_)) kt_s
  refine go_iret rfl dX0_best_8 (Nat.le_of_ble_eq_true rfl) (Nat.le_of_ble_eq_true rfl) ?_
  exact ⟨r, rfl, h⟩
theorem ct_f_off (hc : ci_ ty mi mr n x S) : CT_ l D b yX0_off hX0_off (rm_ 15 1000 7000) [.ref x] (ty, mi, mr, n) (qs_ (fo2_ x (ty, mi, mr, n) (fin_ false (dop_ 19 (nI 0) (nI 0) S)))) := by
  have a1 := hc.1.1
  refine ct_of [some (.ref x)] (by decide) rfl rfl ?_
  refine go_aload_n dX0_off_0 rfl ?_
  refine go_bipush (v := nI 19) dX0_off_1 (by decide) ?_
  refine go_iconst (v := nI 0) dX0_off_3 (by decide) ?_
  refine go_iconst (v := nI 0) dX0_off_4 (by decide) ?_
  refine go_callV vX0_429_0 (ct_act (w := 19) (by omega) hc) dX0_off_5 (by assumption) rfl rfl rfl rfl rfl (Nat.le_of_ble_eq_true rfl) (Nat.le_of_ble_eq_true rfl) (Nat.le_of_ble_eq_true rfl) (Nat.le_of_ble_eq_true rfl) (Nat.le_of_ble_eq_true rfl) (kr_s (fun r σ2 h => ?_)) kt_s
  refine go_iret rfl dX0_off_8 (Nat.le_of_ble_eq_true rfl) (Nat.le_of_ble_eq_true rfl) ?_
  exact ⟨r, rfl, h⟩
theorem ct_f_pennies (hc : ci_ ty mi mr n x S) : CT_ l D b yX0_pennies hX0_pennies (rm_ 15 1000 7000) [.ref x] (ty, mi, mr, n) (qs_ (fo2_ x (ty, mi, mr, n) (fin_ false (dop_ 20 (nI 0) (nI 0) S)))) := by
  have a1 := hc.1.1
  refine ct_of [some (.ref x)] (by decide) rfl rfl ?_
  refine go_aload_n dX0_pennies_0 rfl ?_
  refine go_bipush (v := nI 20) dX0_pennies_1 (by decide) ?_
  refine go_iconst (v := nI 0) dX0_pennies_3 (by decide) ?_
  refine go_iconst (v := nI 0) dX0_pennies_4 (by decide) ?_
  refine go_callV vX0_429_0 (ct_act (w := 20) (by omega) hc) dX0_pennies_5 (by assumption) rfl rfl rfl rfl rfl (Nat.le_of_ble_eq_true rfl) (Nat.le_of_ble_eq_true rfl) (Nat.le_of_ble_eq_true rfl) (Nat.le_of_ble_eq_true rfl) (Nat.le_of_ble_eq_true rfl) (kr_s (fun r σ2 h => ?_)) kt_s
  refine go_iret rfl dX0_pennies_8 (Nat.le_of_ble_eq_true rfl) (Nat.le_of_ble_eq_true rfl) ?_
  exact ⟨r, rfl, h⟩
theorem ct_f_chairs (hc : ci_ ty mi mr n x S) : CT_ l D b yX0_chairs hX0_chairs (rm_ 15 1000 7000) [.ref x] (ty, mi, mr, n) (qs_ (fo2_ x (ty, mi, mr, n) (fin_ false (dop_ 21 (nI 0) (nI 0) S)))) := by
  have a1 := hc.1.1
  refine ct_of [some (.ref x)] (by decide) rfl rfl ?_
  refine go_aload_n dX0_chairs_0 rfl ?_
  refine go_bipush (v := nI 21) dX0_chairs_1 (by decide) ?_
  refine go_iconst (v := nI 0) dX0_chairs_3 (by decide) ?_
  refine go_iconst (v := nI 0) dX0_chairs_4 (by decide) ?_
  refine go_callV vX0_429_0 (ct_act (w := 21) (by omega) hc) dX0_chairs_5 (by assumption) rfl rfl rfl rfl rfl (Nat.le_of_ble_eq_true rfl) (Nat.le_of_ble_eq_true rfl) (Nat.le_of_ble_eq_true rfl) (Nat.le_of_ble_eq_true rfl) (Nat.le_of_ble_eq_true rfl) (kr_s (fun r σ2 h => ?_)) kt_s
  refine go_iret rfl dX0_chairs_8 (Nat.le_of_ble_eq_true rfl) (Nat.le_of_ble_eq_true rfl) ?_
  exact ⟨r, rfl, h⟩
theorem ct_f_which (hc : ci_ ty mi mr n x S) : CT_ l D b yX0_which hX0_which (rm_ 15 1000 7000) [.ref x, .int a] (ty, mi, mr, n) (qs_ (fo2_ x (ty, mi, mr, n) (fin_ false (dop_ 22 a (nI 0) S)))) := by
  have a1 := hc.1.1
  refine ct_of [some (.ref x), some (.int a)] (by decide) rfl rfl ?_
  refine go_aload_n dX0_which_0 rfl ?_
  refine go_bipush (v := nI 22) dX0_which_1 (by decide) ?_
  refine go_iload_n dX0_which_3 rfl ?_
  refine go_iconst (v := nI 0) dX0_which_4 (by decide) ?_
  refine go_callV vX0_429_0 (ct_act (w := 22) (by omega) hc) dX0_which_5 (by assumption) rfl rfl rfl rfl rfl (Nat.le_of_ble_eq_true rfl) (Nat.le_of_ble_eq_true rfl) (Nat.le_of_ble_eq_true rfl) (Nat.le_of_ble_eq_true rfl) (Nat.le_of_ble_eq_true rfl) (kr_s (fun r σ2 h => ?_)) kt_s
  refine go_iret rfl dX0_which_8 (Nat.le_of_ble_eq_true rfl) (Nat.le_of_ble_eq_true rfl) ?_
  exact ⟨r, rfl, h⟩
theorem ct_f_longer (hc : ci_ ty mi mr n x S) : CT_ l D b yX0_longer hX0_longer (rm_ 15 1000 7000) [.ref x, .int a] (ty, mi, mr, n) (qs_ (fo2_ x (ty, mi, mr, n) (fin_ false (dop_ 23 a (nI 0) S)))) := by
  have a1 := hc.1.1
  refine ct_of [some (.ref x), some (.int a)] (by decide) rfl rfl ?_
  refine go_aload_n dX0_longer_0 rfl ?_
  refine go_bipush (v := nI 23) dX0_longer_1 (by decide) ?_
  refine go_iload_n dX0_longer_3 rfl ?_
  refine go_iconst (v := nI 0) dX0_longer_4 (by decide) ?_
  refine go_callV vX0_429_0 (ct_act (w := 23) (by omega) hc) dX0_longer_5 (by assumption) rfl rfl rfl rfl rfl (Nat.le_of_ble_eq_true rfl) (Nat.le_of_ble_eq_true rfl) (Nat.le_of_ble_eq_true rfl) (Nat.le_of_ble_eq_true rfl) (Nat.le_of_ble_eq_true rfl) (kr_s (fun r σ2 h => ?_)) kt_s
  refine go_iret rfl dX0_longer_8 (Nat.le_of_ble_eq_true rfl) (Nat.le_of_ble_eq_true rfl) ?_
  exact ⟨r, rfl, h⟩
theorem ct_f_seeds (hc : ci_ ty mi mr n x S) : CT_ l D b yX0_seeds hX0_seeds (rm_ 15 1000 7000) [.ref x, .int a, .int c] (ty, mi, mr, n) (qs_ (fo2_ x (ty, mi, mr, n) (fin_ false (dop_ 24 a c S)))) := by
  have a1 := hc.1.1
  refine ct_of [some (.ref x), some (.int a), some (.int c)] (by decide) rfl rfl ?_
  refine go_aload_n dX0_seeds_0 rfl ?_
  refine go_bipush (v := nI 24) dX0_seeds_1 (by decide) ?_
  refine go_iload_n dX0_seeds_3 rfl ?_
  refine go_iload_n dX0_seeds_4 rfl ?_
  refine go_callV vX0_429_0 (ct_act (w := 24) (by omega) hc) dX0_seeds_5 (by assumption) rfl rfl rfl rfl rfl (Nat.le_of_ble_eq_true rfl) (Nat.le_of_ble_eq_true rfl) (Nat.le_of_ble_eq_true rfl) (Nat.le_of_ble_eq_true rfl) (Nat.le_of_ble_eq_true rfl) (kr_s (fun r σ2 h => ?_)) kt_s
  refine go_iret rfl dX0_seeds_8 (Nat.le_of_ble_eq_true rfl) (Nat.le_of_ble_eq_true rfl) ?_
  exact ⟨r, rfl, h⟩
theorem ct_f_row (hc : ci_ ty mi mr n x S) : CT_ l D b yX0_row hX0_row (rm_ 15 1000 7000) [.ref x, .int a] (ty, mi, mr, n) (qs_ (fo2_ x (ty, mi, mr, n) (fin_ false (dop_ 25 a (nI 0) S)))) := by
  have a1 := hc.1.1
  refine ct_of [some (.ref x), some (.int a)] (by decide) rfl rfl ?_
  refine go_aload_n dX0_row_0 rfl ?_
  refine go_bipush (v := nI 25) dX0_row_1 (by decide) ?_
  refine go_iload_n dX0_row_3 rfl ?_
  refine go_iconst (v := nI 0) dX0_row_4 (by decide) ?_
  refine go_callV vX0_429_0 (ct_act (w := 25) (by omega) hc) dX0_row_5 (by assumption) rfl rfl rfl rfl rfl (Nat.le_of_ble_eq_true rfl) (Nat.le_of_ble_eq_true rfl) (Nat.le_of_ble_eq_true rfl) (Nat.le_of_ble_eq_true rfl) (Nat.le_of_ble_eq_true rfl) (kr_s (fun r σ2 h => ?_)) kt_s
  refine go_iret rfl dX0_row_8 (Nat.le_of_ble_eq_true rfl) (Nat.le_of_ble_eq_true rfl) ?_
  exact ⟨r, rfl, h⟩
theorem ct_f_judge (hc : ci_ ty mi mr n x S) : CT_ l D b yX0_judge hX0_judge (rm_ 15 1000 7000) [.ref x] (ty, mi, mr, n) (qs_ (fo2_ x (ty, mi, mr, n) (fin_ false (dop_ 26 (nI 0) (nI 0) S)))) := by
  have a1 := hc.1.1
  refine ct_of [some (.ref x)] (by decide) rfl rfl ?_
  refine go_aload_n dX0_judge_0 rfl ?_
  refine go_bipush (v := nI 26) dX0_judge_1 (by decide) ?_
  refine go_iconst (v := nI 0) dX0_judge_3 (by decide) ?_
  refine go_iconst (v := nI 0) dX0_judge_4 (by decide) ?_
  refine go_callV vX0_429_0 (ct_act (w := 26) (by omega) hc) dX0_judge_5 (by assumption) rfl rfl rfl rfl rfl (Nat.le_of_ble_eq_true rfl) (Nat.le_of_ble_eq_true rfl) (Nat.le_of_ble_eq_true rfl) (Nat.le_of_ble_eq_true rfl) (Nat.le_of_ble_eq_true rfl) (kr_s (fun r σ2 h => ?_)) kt_s
  refine go_iret rfl dX0_judge_8 (Nat.le_of_ble_eq_true rfl) (Nat.le_of_ble_eq_true rfl) ?_
  exact ⟨r, rfl, h⟩
theorem ct_f_image (hc : ci_ ty mi mr n x S) : CT_ l D b yX0_image hX0_image (rm_ 15 1000 7000) [.ref x] (ty, mi, mr, n) (qs_ (fo2_ x (ty, mi, mr, n) (fin_ false (dop_ 27 (nI 0) (nI 0) S)))) := by
  have a1 := hc.1.1
  refine ct_of [some (.ref x)] (by decide) rfl rfl ?_
  refine go_aload_n dX0_image_0 rfl ?_
  refine go_bipush (v := nI 27) dX0_image_1 (by decide) ?_
  refine go_iconst (v := nI 0) dX0_image_3 (by decide) ?_
  refine go_iconst (v := nI 0) dX0_image_4 (by decide) ?_
  refine go_callV vX0_429_0 (ct_act (w := 27) (by omega) hc) dX0_image_5 (by assumption) rfl rfl rfl rfl rfl (Nat.le_of_ble_eq_true rfl) (Nat.le_of_ble_eq_true rfl) (Nat.le_of_ble_eq_true rfl) (Nat.le_of_ble_eq_true rfl) (Nat.le_of_ble_eq_true rfl) (kr_s (fun r σ2 h => ?_)) kt_s
  refine go_iret rfl dX0_image_8 (Nat.le_of_ble_eq_true rfl) (Nat.le_of_ble_eq_true rfl) ?_
  exact ⟨r, rfl, h⟩
theorem ct_f_on (hc : ci_ ty mi mr n x S) : CT_ l D b yX0_on hX0_on (rm_ 15 1000 7000) [.ref x] (ty, mi, mr, n) (qs_ (fo2_ x (ty, mi, mr, n) (fin_ false (dop_ 28 (nI 0) (nI 0) S)))) := by
  have a1 := hc.1.1
  refine ct_of [some (.ref x)] (by decide) rfl rfl ?_
  refine go_aload_n dX0_on_0 rfl ?_
  refine go_bipush (v := nI 28) dX0_on_1 (by decide) ?_
  refine go_iconst (v := nI 0) dX0_on_3 (by decide) ?_
  refine go_iconst (v := nI 0) dX0_on_4 (by decide) ?_
  refine go_callV vX0_429_0 (ct_act (w := 28) (by omega) hc) dX0_on_5 (by assumption) rfl rfl rfl rfl rfl (Nat.le_of_ble_eq_true rfl) (Nat.le_of_ble_eq_true rfl) (Nat.le_of_ble_eq_true rfl) (Nat.le_of_ble_eq_true rfl) (Nat.le_of_ble_eq_true rfl) (kr_s (fun r σ2 h => ?_)) kt_s
  refine go_iret rfl dX0_on_8 (Nat.le_of_ble_eq_true rfl) (Nat.le_of_ble_eq_true rfl) ?_
  exact ⟨r, rfl, h⟩
theorem ct_seesTold (hc : ci_ ty mi mr n x S) : CT_ l D b yX0_seesTold hX0_seesTold (rm_ 14 1000 7000) [.ref x, .int a, .int f1, .int f2, .int f3] (ty, mi, mr, n) (qs_ (fo2_ x (ty, mi, mr, n) (fin_ true (op_sees a f1 f2 f3 S)))) := by
  have a1 := hc.1.1
  have hv := hc.2.2.2.2.1
  have a2 := hc.1.2.2.2.2.2.2.2.2.1
  have ts := hc.1.2.2.2.2.2.2.2.2.2.2.2.1
  have a3 := ts.1
  have hs4 := hv.2.1
  generalize hres : op_sees a f1 f2 f3 S = res
  unfold op_sees at hres
  refine ct_ofW [some (.ref x), some (.int a), some (.int f1), some (.int f2), some (.int f3), none] (by decide) rfl rfl ?_
  have hdl : ∀ (e : Nat) (S2 : cS_) (z kc ks : Nat) (σ2 : so_), eok_ e → ao_ x (ty, mi, mr, n) (.inr e, S2) (.threw z) σ2 → kc ≤ 900 → ks ≤ 6000 → (σ2.1 z = some (.inl 18) ∨ σ2.1 z = some (.inl 20)) ∧ G_ l D b (RX0, "seesTold", 6, some .int, rm_ 14 1000 7000, [(0, 83, 84, 290)]) (qs_ (fo2_ x (ty, mi, mr, n) (fin_ true (.inr e, S2)))) cX0_seesTold 84 [some (.ref x), some (.int a), some (.int f1), some (.int f2), some (.int f3), none] [.ref z] σ2 kc ks := by
    intro e S2 z kc ks σ2 he h hk1 hk2
    obtain ⟨h1, h2, y, h4, h5, h6⟩ := h
    cases h4
    refine ⟨h5, ?_⟩
    obtain ⟨ty2, mi2, mr2, n2⟩ := σ2
    dsimp only at h1 h5 h6
    have b1 := h1.1.1
    refine go_widen hk1 hk2 ?_
    have rest : G_ l D b (RX0, "seesTold", 6, some .int, rm_ 14 1000 7000, [(0, 83, 84, 290)]) (qs_ (fo2_ x (ty, mi, mr, n) (fin_ true (.inr e, S2)))) cX0_seesTold 95 [some (.ref x), some (.int a), some (.int f1), some (.int f2), some (.int f3), some (.ref z)] [.int (ng_ e), .ref x, .int 1000000000] (ty2, mi2, mr2, n2) 900 6000 := by
      refine go_callVN vX0_295_0 (ct_refuse he h1) dX0_seesTold_95 (by assumption) rfl rfl rfl rfl (Nat.le_of_ble_eq_true rfl) (Nat.le_of_ble_eq_true rfl) (Nat.le_of_ble_eq_true rfl) (Nat.le_of_ble_eq_true rfl) (Nat.le_of_ble_eq_true rfl) (kr_k (fun r m3 r3 hp => ?_)) kn_k
      obtain ⟨rfl, h7, h8⟩ := hp
      refine go_isub dX0_seesTold_98 ?_
      refine go_iret rfl dX0_seesTold_99 (Nat.le_of_ble_eq_true rfl) (Nat.le_of_ble_eq_true rfl) ?_
      exact ⟨_, rfl, rfl, h7, h2.tr ⟨fun _ _ => rfl, h8, Nat.le_refl _⟩⟩
    refine go_astore (ls2 := [_, _, _, _, _, _]) dX0_seesTold_84 rfl rfl ?_
    refine go_ldcw q1043 dX0_seesTold_86 ?_
    refine go_aload_n dX0_seesTold_89 rfl ?_
    refine go_aload dX0_seesTold_90 rfl ?_
    rcases h5 with h5 | h5
    · refine go_callUN uX0_292_18 (ct_number18 h5) dX0_seesTold_92 (by assumption) rfl rfl rfl rfl (Nat.le_of_ble_eq_true rfl) (Nat.le_of_ble_eq_true rfl) (Nat.le_of_ble_eq_true rfl) (Nat.le_of_ble_eq_true rfl) (Nat.le_of_ble_eq_true rfl) (kr_i ?_) kn_i
      rw [h6]
      exact rest
    · refine go_callUN uX0_292_20 (ct_number20 h5) dX0_seesTold_92 (by assumption) rfl rfl rfl rfl (Nat.le_of_ble_eq_true rfl) (Nat.le_of_ble_eq_true rfl) (Nat.le_of_ble_eq_true rfl) (Nat.le_of_ble_eq_true rfl) (Nat.le_of_ble_eq_true rfl) (kr_i ?_) kn_i
      rw [h6]
      exact rest
  have hthr : ∀ (e : Nat) (zz : Int32) (r : Option Int32) (z kc ks : Nat) (σ2 : so_), e < 7 → zz = ng_ e → r = some zz → res = (.inr e, S) → qt_ r ty mi mr n (.threw z) σ2 → kc ≤ 900 → ks ≤ 6000 → (σ2.1 z = some (.inl 18) ∨ σ2.1 z = some (.inl 20)) ∧ G_ l D b (RX0, "seesTold", 6, some .int, rm_ 14 1000 7000, [(0, 83, 84, 290)]) (qs_ (fo2_ x (ty, mi, mr, n) (fin_ true res))) cX0_seesTold 84 [some (.ref x), some (.int a), some (.int f1), some (.int f2), some (.int f3), none] [.ref z] σ2 kc ks := by
    intro e zz r z kc ks σ2 he hz hr hres2 h hk1 hk2
    subst hr
    rw [hres2]
    exact hdl e S z kc ks σ2 (Or.inl he) (ao_t hc hz h) hk1 hk2
  have second : ∀ p, sc1_ a f1 f2 f3 = true → p = sc2_ a f1 f2 f3 S.1 → G_ l D b (RX0, "seesTold", 6, some .int, rm_ 14 1000 7000, [(0, 83, 84, 290)]) (qs_ (fo2_ x (ty, mi, mr, n) (fin_ true res))) cX0_seesTold 69 [some (.ref x), some (.int a), some (.int f1), some (.int f2), some (.int f3), none] [.int (bo_ p)] (ty, mi, mr, n) 1 7 := by
    intro p h1 hp
    rw [mu_ok h1] at hres
    refine go_bipush (v := (-6)) dX0_seesTold_69 (by decide) ?_
    refine go_callSH sX0_9 (ct_must) dX0_seesTold_71 rfl rfl rfl rfl (by decide) q377 (Nat.le_of_ble_eq_true rfl) (Nat.le_of_ble_eq_true rfl) (Nat.le_of_ble_eq_true rfl) (Nat.le_of_ble_eq_true rfl) (Nat.le_of_ble_eq_true rfl) (kr_t (fun hn => ?_)) (fun z σ2 h => ?_)
    · have h2 := qt_ok hn
      rw [hp] at h2
      rw [mu_ok h2] at hres
      have hw : wi_ a (nI 1) (nI 60) = none := by
        unfold sc1_ at h1
        unfold sc2_ at h2
        rw [Bool.not_eq_true', Bool.or_eq_false_iff, Bool.or_eq_false_iff, Bool.or_eq_false_iff, decide_eq_false_iff_not] at h1
        rw [Bool.not_eq_true', Bool.or_eq_false_iff, Bool.or_eq_false_iff, Bool.or_eq_false_iff, Bool.or_eq_false_iff, decide_eq_false_iff_not] at h2
        unfold wi_
        rw [if_neg h1.1.1.1, if_neg h2.1.1.1.1]
      have hs : sN S.1 < 4 := by
        unfold sc2_ at h2
        rw [Bool.not_eq_true', Bool.or_eq_false_iff, decide_eq_false_iff_not] at h2
        have := h2.2
        omega
      obtain ⟨k, hk1, hk, rfl⟩ := wi_nat (by omega) (by omega) hw
      rw [iN_n (by omega)] at hres
      refine go_aload_n dX0_seesTold_74 rfl ?_
      refine go_iload_n dX0_seesTold_75 rfl ?_
      refine go_iload_n dX0_seesTold_76 rfl ?_
      refine go_iload_n dX0_seesTold_77 rfl ?_
      refine go_iload dX0_seesTold_78 rfl ?_
      refine go_callVH vX0_400_0 (ct_gainsOfSeer hc hk hs) dX0_seesTold_80 (by assumption) rfl rfl rfl rfl rfl rfl (by decide) q377 (Nat.le_of_ble_eq_true rfl) (Nat.le_of_ble_eq_true rfl) (Nat.le_of_ble_eq_true rfl) (Nat.le_of_ble_eq_true rfl) (Nat.le_of_ble_eq_true rfl) (kr_s (fun r σ2 h => ?_)) (fun z σ2 h => (by obtain ⟨_, h1, -⟩ := h; cases h1))
      refine go_iret rfl dX0_seesTold_83 (Nat.le_of_ble_eq_true rfl) (Nat.le_of_ble_eq_true rfl) ?_
      rw [← hres]
      exact ⟨r, rfl, h⟩
    · by_cases h2 : p = true
      · rw [if_pos h2] at h
        cases h.1
      · rw [if_neg h2] at h
        rw [hp] at h2
        rw [mu_no h2] at hres
        exact hthr 6 (-6) (some (-6)) z _ _ σ2 (by omega) (by decide) rfl hres.symm h (Nat.le_of_ble_eq_true rfl) (Nat.le_of_ble_eq_true rfl)
  have mid : ∀ p, p = sc1_ a f1 f2 f3 → G_ l D b (RX0, "seesTold", 6, some .int, rm_ 14 1000 7000, [(0, 83, 84, 290)]) (qs_ (fo2_ x (ty, mi, mr, n) (fin_ true res))) cX0_seesTold 23 [some (.ref x), some (.int a), some (.int f1), some (.int f2), some (.int f3), none] [.int (bo_ p)] (ty, mi, mr, n) 0 0 := by
    intro p hp
    refine go_bipush (v := (-4)) dX0_seesTold_23 (by decide) ?_
    refine go_callSH sX0_9 (ct_must) dX0_seesTold_25 rfl rfl rfl rfl (by decide) q377 (Nat.le_of_ble_eq_true rfl) (Nat.le_of_ble_eq_true rfl) (Nat.le_of_ble_eq_true rfl) (Nat.le_of_ble_eq_true rfl) (Nat.le_of_ble_eq_true rfl) (kr_t (fun hn => ?_)) (fun z σ2 h => ?_)
    · have h1 := qt_ok hn
      rw [hp] at h1
      have no : sc2_ a f1 f2 f3 S.1 = false → G_ l D b (RX0, "seesTold", 6, some .int, rm_ 14 1000 7000, [(0, 83, 84, 290)]) (qs_ (fo2_ x (ty, mi, mr, n) (fin_ true res))) cX0_seesTold 68 [some (.ref x), some (.int a), some (.int f1), some (.int f2), some (.int f3), none] [] (ty, mi, mr, n) 1 7 := by
        intro hz
        refine go_iconst (v := nI 0) dX0_seesTold_68 (by decide) ?_
        exact second false h1 hz.symm
      refine go_iload_n dX0_seesTold_28 rfl ?_
      refine go_bipush (v := nI 60) dX0_seesTold_29 (by decide) ?_
      refine go_icmp_gt (tgt := 68) dX0_seesTold_31 (by decide) (fun g1 => ?_) (fun g1 => ?_)
      · exact no (by unfold sc2_; rw [decide_eq_true g1]; rfl)
      · refine go_iload_n dX0_seesTold_34 rfl ?_
        refine go_bipush (v := nI 9) dX0_seesTold_35 (by decide) ?_
        refine go_icmp_gt (tgt := 68) dX0_seesTold_37 (by decide) (fun g2 => ?_) (fun g2 => ?_)
        · exact no (by unfold sc2_; rw [decide_eq_true g2]; simp)
        · refine go_iload_n dX0_seesTold_40 rfl ?_
          refine go_bipush (v := nI 9) dX0_seesTold_41 (by decide) ?_
          refine go_icmp_gt (tgt := 68) dX0_seesTold_43 (by decide) (fun g3 => ?_) (fun g3 => ?_)
          · exact no (by unfold sc2_; rw [decide_eq_true g3]; simp)
          · refine go_iload dX0_seesTold_46 rfl ?_
            refine go_bipush (v := nI 9) dX0_seesTold_48 (by decide) ?_
            refine go_icmp_gt (tgt := 68) dX0_seesTold_50 (by decide) (fun g4 => ?_) (fun g4 => ?_)
            · exact no (by unfold sc2_; rw [decide_eq_true g4]; simp)
            · refine go_aload_n dX0_seesTold_53 rfl ?_
              refine go_getR fX0_73_0 dX0_seesTold_54 (by assumption) rfl (by assumption) ?_
              refine go_getI fX0_177_15 dX0_seesTold_57 (by assumption) rfl ?_
              rw [hc.2.2.2.1.2.1.trans hv.1]
              refine go_iconst (v := nI 4) dX0_seesTold_60 (by decide) ?_
              refine go_icmp_ge (tgt := 68) dX0_seesTold_61 (by decide) (fun g5 => ?_) (fun g5 => ?_)
              · have g6 := (nI_leI (by omega) (by omega)).mp g5
                exact no (by unfold sc2_; rw [decide_eq_true g6]; simp)
              · have g6 : ¬ 4 ≤ sN S.1 := fun z => g5 (nI_le z (by omega))
                refine go_iconst (v := nI 1) dX0_seesTold_64 (by decide) ?_
                refine go_goto (tgt := 69) dX0_seesTold_65 (by decide) ?_
                exact second true h1 (by unfold sc2_; rw [decide_eq_false g1, decide_eq_false g2, decide_eq_false g3, decide_eq_false g4, decide_eq_false g6]; rfl)
    · by_cases h2 : p = true
      · rw [if_pos h2] at h
        cases h.1
      · rw [if_neg h2] at h
        rw [hp] at h2
        rw [mu_no h2] at hres
        exact hthr 4 (-4) (some (-4)) z _ _ σ2 (by omega) (by decide) rfl hres.symm h (Nat.le_of_ble_eq_true rfl) (Nat.le_of_ble_eq_true rfl)
  have no : sc1_ a f1 f2 f3 = false → G_ l D b (RX0, "seesTold", 6, some .int, rm_ 14 1000 7000, [(0, 83, 84, 290)]) (qs_ (fo2_ x (ty, mi, mr, n) (fin_ true res))) cX0_seesTold 22 [some (.ref x), some (.int a), some (.int f1), some (.int f2), some (.int f3), none] [] (ty, mi, mr, n) 0 0 := by
    intro hz
    refine go_iconst (v := nI 0) dX0_seesTold_22 (by decide) ?_
    exact mid false hz.symm
  refine go_iload_n dX0_seesTold_0 rfl ?_
  refine go_iconst (v := nI 1) dX0_seesTold_1 (by decide) ?_
  refine go_icmp_lt (tgt := 22) dX0_seesTold_2 (by decide) (fun g1 => ?_) (fun g1 => ?_)
  · exact no (by unfold sc1_; rw [decide_eq_true g1]; rfl)
  · refine go_iload_n dX0_seesTold_5 rfl ?_
    refine go_if_lt (tgt := 22) dX0_seesTold_6 (by decide) (fun g2 => ?_) (fun g2 => ?_)
    · exact no (by unfold sc1_; rw [decide_eq_true g2]; simp)
    · refine go_iload_n dX0_seesTold_9 rfl ?_
      refine go_if_lt (tgt := 22) dX0_seesTold_10 (by decide) (fun g3 => ?_) (fun g3 => ?_)
      · exact no (by unfold sc1_; rw [decide_eq_true g3]; simp)
      · refine go_iload dX0_seesTold_13 rfl ?_
        refine go_if_lt (tgt := 22) dX0_seesTold_15 (by decide) (fun g4 => ?_) (fun g4 => ?_)
        · exact no (by unfold sc1_; rw [decide_eq_true g4]; simp)
        · refine go_iconst (v := nI 1) dX0_seesTold_18 (by decide) ?_
          refine go_goto (tgt := 23) dX0_seesTold_19 (by decide) ?_
          exact mid true (by unfold sc1_; rw [decide_eq_false g1, decide_eq_false g2, decide_eq_false g3, decide_eq_false g4]; rfl)
theorem ct_f_sees (hc : ci_ ty mi mr n x S) : CT_ l D b yX0_sees hX0_sees (rm_ 15 1000 7000) [.ref x, .int a, .int f1, .int f2, .int f3] (ty, mi, mr, n) (qs_ (fo2_ x (ty, mi, mr, n) (fin_ true (op_sees a f1 f2 f3 S)))) := by
  have a1 := hc.1.1
  refine ct_of [some (.ref x), some (.int a), some (.int f1), some (.int f2), some (.int f3)] (by decide) rfl rfl ?_
  refine go_aload_n dX0_sees_0 rfl ?_
  refine go_iload_n dX0_sees_1 rfl ?_
  refine go_iload_n dX0_sees_2 rfl ?_
  refine go_iload_n dX0_sees_3 rfl ?_
  refine go_iload dX0_sees_4 rfl ?_
  refine go_callV vX0_435_0 (ct_seesTold hc) dX0_sees_6 (by assumption) rfl rfl rfl rfl rfl (Nat.le_of_ble_eq_true rfl) (Nat.le_of_ble_eq_true rfl) (Nat.le_of_ble_eq_true rfl) (Nat.le_of_ble_eq_true rfl) (Nat.le_of_ble_eq_true rfl) (kr_s (fun r σ2 h => ?_)) kt_s
  refine go_iret rfl dX0_sees_9 (Nat.le_of_ble_eq_true rfl) (Nat.le_of_ble_eq_true rfl) ?_
  exact ⟨r, rfl, h⟩
theorem ct_f_count (hc : ci_ ty mi mr n x S) : CT_ l D b yX0_count hX0_count (rm_ 15 1000 7000) [.ref x, .int a] (ty, mi, mr, n) (qs_ (fo2_ x (ty, mi, mr, n) (cnt_ a S, S))) := by
  have a1 := hc.1.1
  have hv := hc.2.2.2.2.1
  have a2 := hc.1.2.2.2.2.2.2.2.2.1
  have ts := hc.1.2.2.2.2.2.2.2.2.2.2.2.1
  have a3 := ts.1
  have tr := hc.2.2.2.1
  have c19 : mr x 10 = some (x + 41) := hc.1.2.2.2.2.2.2.2.2.2.2.2.2.2.2.2.2.2.2.1
  have c20 : ty (x + 41) = some (.inr (.int, 7)) := hc.1.2.2.2.2.2.2.2.2.2.2.2.2.2.2.2.2.2.2.2.1
  have l41 := hc.2.2.2.2.2.2.2.2.2.2.2.2.2.2.2
  have fin : ∀ r, qs_ (fo2_ x (ty, mi, mr, n) (r, S)) (.returned (some (.int r))) (ty, mi, mr, n) := fun r => ⟨r, rfl, rfl, hc, fz_.rf⟩
  refine ct_of [some (.ref x), some (.int a)] (by decide) rfl rfl ?_
  refine go_iload_n dX0_count_0 rfl ?_
  unfold cnt_
  by_cases h0 : a = nI 0
  · subst h0
    refine go_tableIn (off := 51) (tgt := 52) dX0_count_1 (by decide) (by decide) rfl (by decide) ?_
    refine go_aload_n dX0_count_52 rfl ?_
    refine go_getR fX0_73_0 dX0_count_53 (by assumption) rfl (by assumption) ?_
    refine go_getI fX0_177_15 dX0_count_56 (by assumption) rfl ?_
    rw [tr.2.1]
    refine go_iret rfl dX0_count_59 (Nat.le_of_ble_eq_true rfl) (Nat.le_of_ble_eq_true rfl) ?_
    exact fin _
  rw [if_neg h0]
  by_cases h1 : a = nI 1
  · subst h1
    refine go_tableIn (off := 59) (tgt := 60) dX0_count_1 (by decide) (by decide) rfl (by decide) ?_
    refine go_aload_n dX0_count_60 rfl ?_
    refine go_getR fX0_73_0 dX0_count_61 (by assumption) rfl (by assumption) ?_
    refine go_getI fX0_252_15 dX0_count_64 (by assumption) rfl ?_
    rw [tr.2.2.1]
    refine go_iret rfl dX0_count_67 (Nat.le_of_ble_eq_true rfl) (Nat.le_of_ble_eq_true rfl) ?_
    exact fin _
  rw [if_neg h1]
  by_cases h2 : a = nI 2
  · subst h2
    refine go_tableIn (off := 67) (tgt := 68) dX0_count_1 (by decide) (by decide) rfl (by decide) ?_
    refine go_aload_n dX0_count_68 rfl ?_
    refine go_getR fX0_73_0 dX0_count_69 (by assumption) rfl (by assumption) ?_
    refine go_callV vX0_271_15 (ct_people ts tr hv) dX0_count_72 (by assumption) rfl rfl rfl rfl rfl (Nat.le_of_ble_eq_true rfl) (Nat.le_of_ble_eq_true rfl) (Nat.le_of_ble_eq_true rfl) (Nat.le_of_ble_eq_true rfl) (Nat.le_of_ble_eq_true rfl) (kr_i ?_) kt_i
    refine go_iret rfl dX0_count_75 (Nat.le_of_ble_eq_true rfl) (Nat.le_of_ble_eq_true rfl) ?_
    exact fin _
  rw [if_neg h2]
  by_cases h3 : a = nI 3
  · subst h3
    refine go_tableIn (off := 75) (tgt := 76) dX0_count_1 (by decide) (by decide) rfl (by decide) ?_
    refine go_aload_n dX0_count_76 rfl ?_
    refine go_getR fX0_73_0 dX0_count_77 (by assumption) rfl (by assumption) ?_
    refine go_getI fX0_171_15 dX0_count_80 (by assumption) rfl ?_
    rw [tr.1]
    refine go_iret rfl dX0_count_83 (Nat.le_of_ble_eq_true rfl) (Nat.le_of_ble_eq_true rfl) ?_
    exact fin _
  rw [if_neg h3]
  by_cases h4 : a = nI 4
  · subst h4
    refine go_tableIn (off := 83) (tgt := 84) dX0_count_1 (by decide) (by decide) rfl (by decide) ?_
    refine go_aload_n dX0_count_84 rfl ?_
    refine go_getR fX0_73_0 dX0_count_85 (by assumption) rfl (by assumption) ?_
    refine go_getI fX0_424_15 dX0_count_88 (by assumption) rfl ?_
    rw [tr.2.2.2.2.1]
    refine go_iret rfl dX0_count_91 (Nat.le_of_ble_eq_true rfl) (Nat.le_of_ble_eq_true rfl) ?_
    exact fin _
  rw [if_neg h4]
  by_cases h5 : a = nI 5
  · subst h5
    refine go_tableIn (off := 91) (tgt := 92) dX0_count_1 (by decide) (by decide) rfl (by decide) ?_
    refine go_aload_n dX0_count_92 rfl ?_
    refine go_getR fX0_73_0 dX0_count_93 (by assumption) rfl (by assumption) ?_
    refine go_getI fX0_262_15 dX0_count_96 (by assumption) rfl ?_
    rw [tr.2.2.2.1]
    refine go_iret rfl dX0_count_99 (Nat.le_of_ble_eq_true rfl) (Nat.le_of_ble_eq_true rfl) ?_
    exact fin _
  rw [if_neg h5]
  by_cases h6 : a = nI 6
  · subst h6
    refine go_tableIn (off := 99) (tgt := 100) dX0_count_1 (by decide) (by decide) rfl (by decide) ?_
    refine go_aload_n dX0_count_100 rfl ?_
    refine go_getR fX0_73_0 dX0_count_101 (by assumption) rfl (by assumption) ?_
    refine go_getI fX0_236_15 dX0_count_104 (by assumption) rfl ?_
    rw [tr.2.2.2.2.2.1]
    refine go_iret rfl dX0_count_107 (Nat.le_of_ble_eq_true rfl) (Nat.le_of_ble_eq_true rfl) ?_
    exact fin _
  rw [if_neg h6]
  by_cases h7 : a = nI 7
  · subst h7
    refine go_tableIn (off := 107) (tgt := 108) dX0_count_1 (by decide) (by decide) rfl (by decide) ?_
    refine go_aload_n dX0_count_108 rfl ?_
    refine go_getI fX0_274_0 dX0_count_109 (by assumption) rfl ?_
    rw [hc.2.2.2.2.2.2.2.2.2.1]
    refine go_iret rfl dX0_count_112 (Nat.le_of_ble_eq_true rfl) (Nat.le_of_ble_eq_true rfl) ?_
    exact fin _
  rw [if_neg h7]
  by_cases h8 : a = nI 8
  · subst h8
    refine go_tableIn (off := 112) (tgt := 113) dX0_count_1 (by decide) (by decide) rfl (by decide) ?_
    refine go_aload_n dX0_count_113 rfl ?_
    refine go_getI fX0_112_0 dX0_count_114 (by assumption) rfl ?_
    rw [hc.2.2.2.2.2.2.2.2.2.2.2.2.1]
    refine go_iret rfl dX0_count_117 (Nat.le_of_ble_eq_true rfl) (Nat.le_of_ble_eq_true rfl) ?_
    exact fin _
  rw [if_neg h8]
  have hout : a.toInt < 0 ∨ 8 < a.toInt := by
    by_cases hr : a.toInt < 0 ∨ 8 < a.toInt
    · exact hr
    · have hn : ¬ a < 0 := fun z => by
        have := Int32.lt_iff_toInt_lt.mp z
        have e : (0 : Int32).toInt = 0 := rfl
        omega
      obtain ⟨j, hj, hj2⟩ := nI_of hn
      subst hj2
      rw [nI_toInt hj] at hr
      have : j = 0 ∨ j = 1 ∨ j = 2 ∨ j = 3 ∨ j = 4 ∨ j = 5 ∨ j = 6 ∨ j = 7 ∨ j = 8 := by omega
      rcases this with rfl | rfl | rfl | rfl | rfl | rfl | rfl | rfl | rfl
      · exact absurd rfl h0
      · exact absurd rfl h1
      · exact absurd rfl h2
      · exact absurd rfl h3
      · exact absurd rfl h4
      · exact absurd rfl h5
      · exact absurd rfl h6
      · exact absurd rfl h7
      · exact absurd rfl h8
  refine go_tableOut (tgt := 118) dX0_count_1 (hout) (by decide) ?_
  refine go_iload_n dX0_count_118 rfl ?_
  refine go_i2l dX0_count_119 ?_
  refine go_ldc2 q1138 dX0_count_120 ?_
  refine go_topl (show (11 : Int64) = (nI 11).toInt64 by decide) ?_
  refine go_ldc2 q1139 dX0_count_123 ?_
  refine go_topl (show (16 : Int64) = (nI 16).toInt64 by decide) ?_
  refine go_callS sX0_13 (ct_in (d := 0)) dX0_count_126 rfl rfl rfl (Nat.le_of_ble_eq_true rfl) (Nat.le_of_ble_eq_true rfl) (Nat.le_of_ble_eq_true rfl) (Nat.le_of_ble_eq_true rfl) (Nat.le_of_ble_eq_true rfl) (kr_i ?_) kt_i
  refine go_if_eq (tgt := 144) dX0_count_129 (by decide) (fun hb => ?_) (fun hb => ?_)
  · rw [if_neg (by rw [bo_0.mp hb]; decide)]
    refine go_bipush (v := (-9)) dX0_count_144 (by decide) ?_
    refine go_iret rfl dX0_count_146 (Nat.le_of_ble_eq_true rfl) (Nat.le_of_ble_eq_true rfl) ?_
    exact fin _
  · have hb2 := bo_ne hb
    rw [if_pos hb2]
    unfold in_ at hb2
    rw [Bool.and_eq_true, decide_eq_true_eq, decide_eq_true_eq] at hb2
    have hw : wi_ a (nI 11) (nI 16) = none := by
      unfold wi_
      rw [if_neg (by simpa using hb2.1), if_neg (by simpa using hb2.2)]
    obtain ⟨j, hj1, hj2, rfl⟩ := wi_nat (by omega) (by omega) hw
    rw [iN_n (by omega)]
    refine go_aload_n dX0_count_132 rfl ?_
    refine go_getR fX0_91_0 dX0_count_133 (by assumption) rfl (by assumption) ?_
    refine go_iload_n dX0_count_136 rfl ?_
    refine go_bipush (v := nI 10) dX0_count_137 (by decide) ?_
    refine go_isub dX0_count_139 ?_
    rw [pk_sub (by omega)]
    refine go_iald dX0_count_140 (by assumption) ⟨rfl, by omega, by decide⟩ ?_
    rw [l41 _ (by omega)]
    refine go_goto (tgt := 146) dX0_count_141 (by decide) ?_
    refine go_iret rfl dX0_count_146 (Nat.le_of_ble_eq_true rfl) (Nat.le_of_ble_eq_true rfl) ?_
    exact fin _
end FACE
