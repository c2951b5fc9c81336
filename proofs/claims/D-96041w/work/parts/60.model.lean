/-! THE MODEL: its shape; what rules foretell -/
set_option maxRecDepth 100000
def mh_ (ty : ty_) (mr : mr_) (m : Nat) : Prop := ty m = some (.inl 16) ∧ mr m 0 = some (m + 1) ∧ ty (m + 1) = some (.inr (.int, 7)) ∧ mr m 1 = some (m + 2) ∧ ty (m + 2) = some (.inr (.int, 70)) ∧ mr m 2 = some (m + 3) ∧ ty (m + 3) = some (.inr (.int, 70)) ∧ mr m 3 = some (m + 4) ∧ ty (m + 4) = some (.inr (.int, 70)) ∧ mr m 5 = some (m + 5) ∧ ty (m + 5) = some (.inr (.int, 80)) ∧ mr m 9 = some (m + 6) ∧ ty (m + 6) = some (.inr (.char, 4)) ∧ mr m 10 = some (m + 7) ∧ ty (m + 7) = some (.inr (.char, 6)) ∧ mr m 11 = some (m + 8) ∧ ty (m + 8) = some (.inr (.char, 6)) ∧ mr m 13 = some (m + 9) ∧ ty (m + 9) = some (.inr (.int, 6)) ∧ mr m 14 = some (m + 10) ∧ ty (m + 10) = some (.inr (.boolean, 4)) ∧ mr m 15 = some (m + 11) ∧ ty (m + 11) = some (.inr (.int, 81)) ∧ mr m 16 = some (m + 12) ∧ ty (m + 12) = some (.inr (.int, 4)) ∧ mr m 17 = some (m + 13) ∧ ty (m + 13) = some (.inr (.int, 4)) ∧ mr m 24 = some (m + 14) ∧ ty (m + 14) = some (.inr (.int, 70)) ∧ mr m 25 = some (m + 15) ∧ ty (m + 15) = some (.inr (.int, 12))
/-- the town that the model's row holds -/
def mt_ (mi : mi_) (m : Nat) (v : tv_) : Prop := ∀ k, k < 70 → mi (m + 2) k = v k
section MODEL1
variable {l : Launch} {D : dd_} {b : Nat} {ty : ty_} {mi : mi_} {mr : mr_} {n m : Nat} {v : tv_}
theorem cm_of {d s w : Nat} (hh : mh_ ty mr m) (ht : mt_ mi m v) (hs : s < 5) (hw : w < 6) : CT_ l D b yX16_of hX16_of (rm_ d 0 0) [.ref m, .int (nI s), .int (nI w)] (ty, mi, mr, n) (qi_ (v (10 + 6 * s + w)) (ty, mi, mr, n)) := by
  obtain ⟨a0, -, -, a1, a2, -⟩ := hh
  refine ct_of [some (.ref m), some (.int (nI s)), some (.int (nI w))] (by decide) rfl rfl ?_
  refine go_aload_n dX16_of_0 rfl ?_
  refine go_getR fX16_11_16 dX16_of_1 (by assumption) rfl (by assumption) ?_
  refine go_bipush (v := nI 10) dX16_of_4 (by decide) ?_
  refine go_bipush (v := nI 6) dX16_of_6 (by decide) ?_
  refine go_iload_n dX16_of_8 rfl ?_
  refine go_imul dX16_of_9 ?_
  rw [pk_mul]
  refine go_iadd dX16_of_10 ?_
  rw [nI_add]
  refine go_iload_n dX16_of_11 rfl ?_
  refine go_iadd dX16_of_12 ?_
  rw [nI_add]
  refine go_iald dX16_of_13 (by assumption) ⟨rfl, by omega, by decide⟩ ?_
  rw [ht _ (by omega)]
  refine go_iret rfl dX16_of_14 (Nat.zero_le _) (Nat.zero_le _) ?_
  exact ⟨rfl, rfl⟩
theorem cm_people (hh : mh_ ty mr m) (ht : mt_ mi m v) (hv : wf_ v) : CT_ l D b yX16_people hX16_people (rm_ 1 0 0) [.ref m] (ty, mi, mr, n) (qi_ (pe_ v) (ty, mi, mr, n)) := by
  have hh0 := hh
  obtain ⟨a0, -, -, a1, a2, -⟩ := hh
  have h4 := hv.2.1
  have e0 : mi (m + 2) 0 = nI (sN v) := (ht 0 (by omega)).trans hv.1
  refine ct_of [some (.ref m), none, none] (by decide) rfl rfl ?_
  refine go_iconst (v := nI 0) dX16_people_0 (by decide) ?_
  refine go_istore_n (ls2 := [_, _, _]) dX16_people_1 rfl rfl ?_
  refine go_iconst (v := nI 0) dX16_people_2 (by decide) ?_
  refine go_istore_n (ls2 := [_, _, _]) dX16_people_3 rfl rfl ?_
  refine go_for (sN v) (fun s => [some (.ref m), some (.int (sm_ (fun s => v (10 + 6 * s)) s)), some (.int (nI s))]) (fun _ => (ty, mi, mr, n)) 0 (by omega) (fun s _ hs ih => ?_) ?_
  · refine go_iload_n dX16_people_4 rfl ?_
    refine go_aload_n dX16_people_5 rfl ?_
    refine go_getR fX16_11_16 dX16_people_6 (by assumption) rfl (by assumption) ?_
    refine go_iconst (v := nI 0) dX16_people_9 (by decide) ?_
    refine go_iald dX16_people_10 (by assumption) ⟨rfl, by omega, by decide⟩ ?_
    rw [e0]
    refine go_icmp_ge (tgt := 29) dX16_people_11 (by decide) (fun h0_ => absurd h0_ (nI_ge (by omega) (by omega))) (fun _ => ?_)
    refine go_iload_n dX16_people_14 rfl ?_
    refine go_aload_n dX16_people_15 rfl ?_
    refine go_iload_n dX16_people_16 rfl ?_
    refine go_iconst (v := nI 0) dX16_people_17 (by decide) ?_
    refine go_callV vX16_69_16 (cm_of (d := 0) hh0 ht (s := s) (w := 0) (by omega) (by omega)) dX16_people_18 (by assumption) rfl rfl rfl rfl rfl (Nat.le_of_ble_eq_true rfl) (Nat.le_of_ble_eq_true rfl) (Nat.le_of_ble_eq_true rfl) (Nat.le_of_ble_eq_true rfl) (Nat.le_of_ble_eq_true rfl) (kr_i ?_) kt_i
    refine go_iadd dX16_people_21 ?_
    refine go_istore_n (ls2 := [_, _, _]) dX16_people_22 rfl rfl ?_
    refine go_iinc (ls2 := [_, _, _]) dX16_people_23 rfl (nI_inc _) rfl rfl ?_
    refine go_goto (tgt := 4) dX16_people_26 (by decide) ?_
    exact ih
  · refine go_iload_n dX16_people_4 rfl ?_
    refine go_aload_n dX16_people_5 rfl ?_
    refine go_getR fX16_11_16 dX16_people_6 (by assumption) rfl (by assumption) ?_
    refine go_iconst (v := nI 0) dX16_people_9 (by decide) ?_
    refine go_iald dX16_people_10 (by assumption) ⟨rfl, by omega, by decide⟩ ?_
    rw [e0]
    refine go_icmp_ge (tgt := 29) dX16_people_11 (by decide) (fun _ => ?_) (fun h0_ => absurd (nI_le (by omega) (by omega)) h0_)
    refine go_iload_n dX16_people_29 rfl ?_
    refine go_iret rfl dX16_people_30 (Nat.le_of_ble_eq_true rfl) (Nat.le_of_ble_eq_true rfl) ?_
    exact ⟨rfl, rfl⟩
theorem cm_ago {k d : Nat} (hh : mh_ ty mr m) (ht : mt_ mi m v) (hv : wf_ v) (hk : 1 ≤ k) (hk8 : k ≤ 8) : CT_ l D b yX16_ago hX16_ago (rm_ d 0 0) [.ref m, .int (nI k)] (ty, mi, mr, n) (qi_ (ag_ v k) (ty, mi, mr, n)) := by
  obtain ⟨a0, -, -, a1, a2, -⟩ := hh
  have hw8 := hv.2.2.2.2.2.1
  have e4 : mi (m + 2) 4 = nI (wN v) := (ht 4 (by omega)).trans hv.2.2.2.2.1
  refine ct_of [some (.ref m), some (.int (nI k))] (by decide) rfl rfl ?_
  refine go_iload_n dX16_ago_0 rfl ?_
  refine go_aload_n dX16_ago_1 rfl ?_
  refine go_getR fX16_11_16 dX16_ago_2 (by assumption) rfl (by assumption) ?_
  refine go_iconst (v := nI 4) dX16_ago_5 (by decide) ?_
  refine go_iald dX16_ago_6 (by assumption) ⟨rfl, by omega, by decide⟩ ?_
  rw [e4]
  refine go_icmp_gt (tgt := 24) dX16_ago_7 (by decide) (fun h => ?_) (fun h => ?_)
  · have h2 := (nI_ltI (by omega) (by omega)).mp h
    refine go_aload_n dX16_ago_24 rfl ?_
    refine go_getR fX16_11_16 dX16_ago_25 (by assumption) rfl (by assumption) ?_
    refine go_iconst (v := nI 2) dX16_ago_28 (by decide) ?_
    refine go_iald dX16_ago_29 (by assumption) ⟨rfl, by omega, by decide⟩ ?_
    rw [ht 2 (by omega)]
    refine go_iret rfl dX16_ago_30 (Nat.zero_le _) (Nat.zero_le _) ?_
    exact ⟨by unfold ag_; rw [if_neg (by omega)], rfl⟩
  · have h2 : ¬ wN v < k := fun z => h (nI_lt z (by omega))
    refine go_aload_n dX16_ago_10 rfl ?_
    refine go_getR fX16_11_16 dX16_ago_11 (by assumption) rfl (by assumption) ?_
    refine go_bipush (v := nI 60) dX16_ago_14 (by decide) ?_
    refine go_iload_n dX16_ago_16 rfl ?_
    refine go_iadd dX16_ago_17 ?_
    rw [nI_add]
    refine go_iconst (v := nI 1) dX16_ago_18 (by decide) ?_
    refine go_isub dX16_ago_19 ?_
    rw [pk_sub (by omega)]
    refine go_iald dX16_ago_20 (by assumption) ⟨rfl, by omega, by decide⟩ ?_
    rw [ht _ (by omega)]
    refine go_goto (tgt := 30) dX16_ago_21 (by decide) ?_
    refine go_iret rfl dX16_ago_30 (Nat.zero_le _) (Nat.zero_le _) ?_
    refine ⟨?_, rfl⟩
    unfold ag_
    rw [if_pos (by omega), show 60 + k - 1 = 60 + (k - 1) by omega]
theorem cm_foretold {kd sp : Nat} (hh : mh_ ty mr m) (ht : mt_ mi m v) (hv : wf_ v) (hk : kd < 6) (h1 : 1 ≤ sp) (h2 : sp ≤ 6) : CT_ l D b yX16_foretold hX16_foretold (rm_ 2 0 0) [.ref m, .int (nI kd), .int (nI sp)] (ty, mi, mr, n) (qi_ (fo_ v kd sp) (ty, mi, mr, n)) := by
  have hh0 := hh
  obtain ⟨a0, -, -, a1, a2, -⟩ := hh
  refine ct_of [some (.ref m), some (.int (nI kd)), some (.int (nI sp)), none, none] (by decide) rfl rfl ?_
  refine go_iconst (v := nI 0) dX16_foretold_0 (by decide) ?_
  refine go_istore_n (ls2 := [_, _, _, _, _]) dX16_foretold_1 rfl rfl ?_
  refine go_iload_n dX16_foretold_2 rfl ?_
  have mean : ∀ r, (kd = 2 ∧ r = fo_ v 2 sp) ∨ (kd = 4 ∧ r = fo_ v 4 sp) → G_ l D b (RX16, "foretold", 5, some .int, rm_ 2 0 0, []) (qi_ r (ty, mi, mr, n)) cX16_foretold 84 [some (.ref m), some (.int (nI kd)), some (.int (nI sp)), some (.int (nI 0)), none] [] (ty, mi, mr, n) 0 0 := by
    intro r hr
    refine go_iconst (v := nI 1) dX16_foretold_84 (by decide) ?_
    refine go_istore (ls2 := [_, _, _, _, _]) dX16_foretold_85 rfl rfl ?_
    refine go_for (sp + 1) (fun k => [some (.ref m), some (.int (nI kd)), some (.int (nI sp)), some (.int (sm_ (fun k => ag_ v (k + 1)) (k - 1))), some (.int (nI k))]) (fun _ => (ty, mi, mr, n)) 1 (by omega) (fun k hk1 hk2 ih => ?_) ?_
    · refine go_iload dX16_foretold_87 rfl ?_
      refine go_iload_n dX16_foretold_89 rfl ?_
      refine go_icmp_gt (tgt := 108) dX16_foretold_90 (by decide) (fun h0_ => absurd h0_ (nI_nlt (by omega) (by omega))) (fun _ => ?_)
      refine go_iload_n dX16_foretold_93 rfl ?_
      refine go_aload_n dX16_foretold_94 rfl ?_
      refine go_iload dX16_foretold_95 rfl ?_
      refine go_callV vX16_115_16 (cm_ago (d := 0) hh0 ht hv hk1 (by omega)) dX16_foretold_97 (by assumption) rfl rfl rfl rfl rfl (Nat.le_of_ble_eq_true rfl) (Nat.le_of_ble_eq_true rfl) (Nat.le_of_ble_eq_true rfl) (Nat.le_of_ble_eq_true rfl) (Nat.le_of_ble_eq_true rfl) (kr_i ?_) kt_i
      refine go_iadd dX16_foretold_100 ?_
      refine go_istore_n (ls2 := [_, _, _, _, _]) dX16_foretold_101 rfl rfl ?_
      refine go_iinc (ls2 := [_, _, _, _, _]) dX16_foretold_102 rfl (nI_inc _) rfl rfl ?_
      refine go_goto (tgt := 87) dX16_foretold_105 (by decide) ?_
      have e : sm_ (fun k => ag_ v (k + 1)) (k - 1) + ag_ v k = sm_ (fun k => ag_ v (k + 1)) (k + 1 - 1) := by
        obtain ⟨j, rfl⟩ : ∃ j, k = j + 1 := ⟨k - 1, by omega⟩
        rfl
      rw [e]
      exact ih
    · refine go_iload dX16_foretold_87 rfl ?_
      refine go_iload_n dX16_foretold_89 rfl ?_
      refine go_icmp_gt (tgt := 108) dX16_foretold_90 (by decide) (fun _ => ?_) (fun h0_ => absurd (nI_lt (by omega) (by omega)) h0_)
      refine go_iload_n dX16_foretold_108 rfl ?_
      refine go_iconst (v := nI 2) dX16_foretold_109 (by decide) ?_
      rcases hr with ⟨rfl, rfl⟩ | ⟨rfl, rfl⟩
      · refine go_icmp_ne (tgt := 119) dX16_foretold_110 (by decide) (fun h0_ => absurd (rfl) h0_) (fun _ => ?_)
        refine go_iload_n dX16_foretold_113 rfl ?_
        refine go_iload_n dX16_foretold_114 rfl ?_
        refine go_idiv dX16_foretold_115 (nI_ne0 (by omega) (by omega)) ?_
        refine go_goto (tgt := 128) dX16_foretold_116 (by decide) ?_
        refine go_iret rfl dX16_foretold_128 (Nat.le_of_ble_eq_true rfl) (Nat.le_of_ble_eq_true rfl) ?_
        exact ⟨rfl, rfl⟩
      · refine go_icmp_ne (tgt := 119) dX16_foretold_110 (by decide) (fun _ => ?_) (fun h0_ => absurd h0_ ((by decide)))
        refine go_iconst (v := nI 0) dX16_foretold_119 (by decide) ?_
        refine go_iload_n dX16_foretold_120 rfl ?_
        refine go_iload_n dX16_foretold_121 rfl ?_
        refine go_idiv dX16_foretold_122 (nI_ne0 (by omega) (by omega)) ?_
        refine go_iload_n dX16_foretold_123 rfl ?_
        refine go_isub dX16_foretold_124 ?_
        refine go_callS sX16_121 (ct_max) dX16_foretold_125 rfl rfl rfl (Nat.le_of_ble_eq_true rfl) (Nat.le_of_ble_eq_true rfl) (Nat.le_of_ble_eq_true rfl) (Nat.le_of_ble_eq_true rfl) (Nat.le_of_ble_eq_true rfl) (kr_i ?_) kt_i
        refine go_iret rfl dX16_foretold_128 (Nat.le_of_ble_eq_true rfl) (Nat.le_of_ble_eq_true rfl) ?_
        exact ⟨rfl, rfl⟩
  match kd, hk, mean with
  | 0, _, _ =>
    refine go_tableIn (off := 37) (tgt := 40) dX16_foretold_3 (by decide) (by decide) rfl (by decide) ?_
    refine go_aload_n dX16_foretold_40 rfl ?_
    refine go_iload_n dX16_foretold_41 rfl ?_
    refine go_callV vX16_115_16 (cm_ago (d := 0) hh0 ht hv h1 (by omega)) dX16_foretold_42 (by assumption) rfl rfl rfl rfl rfl (Nat.le_of_ble_eq_true rfl) (Nat.le_of_ble_eq_true rfl) (Nat.le_of_ble_eq_true rfl) (Nat.le_of_ble_eq_true rfl) (Nat.le_of_ble_eq_true rfl) (kr_i ?_) kt_i
    refine go_iret rfl dX16_foretold_45 (Nat.le_of_ble_eq_true rfl) (Nat.le_of_ble_eq_true rfl) ?_
    exact ⟨rfl, rfl⟩
  | 1, _, _ =>
    refine go_tableIn (off := 43) (tgt := 46) dX16_foretold_3 (by decide) (by decide) rfl (by decide) ?_
    refine go_iconst (v := nI 0) dX16_foretold_46 (by decide) ?_
    refine go_aload_n dX16_foretold_47 rfl ?_
    refine go_callV vX16_118_16 (cm_people hh0 ht hv) dX16_foretold_48 (by assumption) rfl rfl rfl rfl rfl (Nat.le_of_ble_eq_true rfl) (Nat.le_of_ble_eq_true rfl) (Nat.le_of_ble_eq_true rfl) (Nat.le_of_ble_eq_true rfl) (Nat.le_of_ble_eq_true rfl) (kr_i ?_) kt_i
    refine go_aload_n dX16_foretold_51 rfl ?_
    refine go_iload_n dX16_foretold_52 rfl ?_
    refine go_callV vX16_115_16 (cm_ago (d := 0) hh0 ht hv h1 (by omega)) dX16_foretold_53 (by assumption) rfl rfl rfl rfl rfl (Nat.le_of_ble_eq_true rfl) (Nat.le_of_ble_eq_true rfl) (Nat.le_of_ble_eq_true rfl) (Nat.le_of_ble_eq_true rfl) (Nat.le_of_ble_eq_true rfl) (kr_i ?_) kt_i
    refine go_isub dX16_foretold_56 ?_
    refine go_callS sX16_121 (ct_max) dX16_foretold_57 rfl rfl rfl (Nat.le_of_ble_eq_true rfl) (Nat.le_of_ble_eq_true rfl) (Nat.le_of_ble_eq_true rfl) (Nat.le_of_ble_eq_true rfl) (Nat.le_of_ble_eq_true rfl) (kr_i ?_) kt_i
    refine go_iret rfl dX16_foretold_60 (Nat.le_of_ble_eq_true rfl) (Nat.le_of_ble_eq_true rfl) ?_
    exact ⟨rfl, rfl⟩
  | 2, _, mean =>
    refine go_tableIn (off := 81) (tgt := 84) dX16_foretold_3 (by decide) (by decide) rfl (by decide) ?_
    exact mean _ (Or.inl ⟨rfl, rfl⟩)
  | 3, _, _ =>
    refine go_tableIn (off := 58) (tgt := 61) dX16_foretold_3 (by decide) (by decide) rfl (by decide) ?_
    refine go_iconst (v := nI 0) dX16_foretold_61 (by decide) ?_
    refine go_iconst (v := nI 2) dX16_foretold_62 (by decide) ?_
    refine go_aload_n dX16_foretold_63 rfl ?_
    refine go_iconst (v := nI 1) dX16_foretold_64 (by decide) ?_
    refine go_callV vX16_115_16 (cm_ago (d := 0) (k := 1) hh0 ht hv (by omega) (by omega)) dX16_foretold_65 (by assumption) rfl rfl rfl rfl rfl (Nat.le_of_ble_eq_true rfl) (Nat.le_of_ble_eq_true rfl) (Nat.le_of_ble_eq_true rfl) (Nat.le_of_ble_eq_true rfl) (Nat.le_of_ble_eq_true rfl) (kr_i ?_) kt_i
    refine go_imul dX16_foretold_68 ?_
    refine go_aload_n dX16_foretold_69 rfl ?_
    refine go_iload_n dX16_foretold_70 rfl ?_
    refine go_callV vX16_115_16 (cm_ago (d := 0) hh0 ht hv h1 (by omega)) dX16_foretold_71 (by assumption) rfl rfl rfl rfl rfl (Nat.le_of_ble_eq_true rfl) (Nat.le_of_ble_eq_true rfl) (Nat.le_of_ble_eq_true rfl) (Nat.le_of_ble_eq_true rfl) (Nat.le_of_ble_eq_true rfl) (kr_i ?_) kt_i
    refine go_isub dX16_foretold_74 ?_
    refine go_callS sX16_121 (ct_max) dX16_foretold_75 rfl rfl rfl (Nat.le_of_ble_eq_true rfl) (Nat.le_of_ble_eq_true rfl) (Nat.le_of_ble_eq_true rfl) (Nat.le_of_ble_eq_true rfl) (Nat.le_of_ble_eq_true rfl) (kr_i ?_) kt_i
    refine go_iret rfl dX16_foretold_78 (Nat.le_of_ble_eq_true rfl) (Nat.le_of_ble_eq_true rfl) ?_
    exact ⟨rfl, rfl⟩
  | 4, _, mean =>
    refine go_tableIn (off := 81) (tgt := 84) dX16_foretold_3 (by decide) (by decide) rfl (by decide) ?_
    exact mean _ (Or.inr ⟨rfl, rfl⟩)
  | 5, _, _ =>
    refine go_tableIn (off := 76) (tgt := 79) dX16_foretold_3 (by decide) (by decide) rfl (by decide) ?_
    refine go_bipush (v := nI 10) dX16_foretold_79 (by decide) ?_
    refine go_iload_n dX16_foretold_81 rfl ?_
    refine go_imul dX16_foretold_82 ?_
    refine go_iret rfl dX16_foretold_83 (Nat.le_of_ble_eq_true rfl) (Nat.le_of_ble_eq_true rfl) ?_
    exact ⟨rfl, rfl⟩
  | k + 6, h, _ => exact absurd h (by omega)
theorem cm_isRoom {r : Nat} (hh : mh_ ty mr m) (ht : mt_ mi m v) (hv : wf_ v) (hr : r < rN v) : CT_ l D b yX16_isRoom hX16_isRoom (rm_ 3 0 0) [.ref m, .int (nI r)] (ty, mi, mr, n) (qi_ (bo_ (ro_ v r)) (ty, mi, mr, n)) := by
  have hh0 := hh
  obtain ⟨a0, -, -, a1, a2, -⟩ := hh
  have h6 := hv.2.2.2.1
  obtain ⟨r1, r2, r3, r4, r5⟩ := hv.2.2.2.2.2.2.2.2.1 r hr
  refine ct_of [some (.ref m), some (.int (nI r))] (by decide) rfl rfl ?_
  refine go_aload_n dX16_isRoom_0 rfl ?_
  refine go_aload_n dX16_isRoom_1 rfl ?_
  refine go_getR fX16_11_16 dX16_isRoom_2 (by assumption) rfl (by assumption) ?_
  refine go_bipush (v := nI 40) dX16_isRoom_5 (by decide) ?_
  refine go_iconst (v := nI 3) dX16_isRoom_7 (by decide) ?_
  refine go_iload_n dX16_isRoom_8 rfl ?_
  refine go_imul dX16_isRoom_9 ?_
  rw [pk_mul]
  refine go_iadd dX16_isRoom_10 ?_
  rw [nI_add]
  refine go_iald dX16_isRoom_11 (by assumption) ⟨rfl, by omega, by decide⟩ ?_
  rw [ht _ (by omega), r1]
  refine go_aload_n dX16_isRoom_12 rfl ?_
  refine go_getR fX16_11_16 dX16_isRoom_13 (by assumption) rfl (by assumption) ?_
  refine go_bipush (v := nI 40) dX16_isRoom_16 (by decide) ?_
  refine go_iconst (v := nI 3) dX16_isRoom_18 (by decide) ?_
  refine go_iload_n dX16_isRoom_19 rfl ?_
  refine go_imul dX16_isRoom_20 ?_
  rw [pk_mul]
  refine go_iadd dX16_isRoom_21 ?_
  rw [nI_add]
  refine go_iconst (v := nI 1) dX16_isRoom_22 (by decide) ?_
  refine go_iadd dX16_isRoom_23 ?_
  rw [nI_add]
  refine go_iald dX16_isRoom_24 (by assumption) ⟨rfl, by omega, by decide⟩ ?_
  rw [ht _ (by omega), r3]
  refine go_callV vX16_126_16 (cm_foretold hh0 ht hv r2 r4 r5) dX16_isRoom_25 (by assumption) rfl rfl rfl rfl rfl (Nat.le_of_ble_eq_true rfl) (Nat.le_of_ble_eq_true rfl) (Nat.le_of_ble_eq_true rfl) (Nat.le_of_ble_eq_true rfl) (Nat.le_of_ble_eq_true rfl) (kr_i ?_) kt_i
  refine go_aload_n dX16_isRoom_28 rfl ?_
  refine go_getR fX16_11_16 dX16_isRoom_29 (by assumption) rfl (by assumption) ?_
  refine go_iconst (v := nI 2) dX16_isRoom_32 (by decide) ?_
  refine go_iald dX16_isRoom_33 (by assumption) ⟨rfl, by omega, by decide⟩ ?_
  rw [ht 2 (by omega)]
  refine go_ticmp_gt (m := nI 0) (n := nI 1) (t1 := 41) (t2 := 42) dX16_isRoom_34 (by decide) dX16_isRoom_37 (by decide) dX16_isRoom_38 (by decide) dX16_isRoom_41 (by decide) rfl ?_
  rw [bo_le]
  refine go_zret rfl (bo_nw _) dX16_isRoom_42 (Nat.le_of_ble_eq_true rfl) (Nat.le_of_ble_eq_true rfl) ?_
  exact ⟨rfl, rfl⟩
theorem cm_hat {f : Nat} (hh : mh_ ty mr m) (ht : mt_ mi m v) (hv : wf_ v) (hf : f < rN v) : CT_ l D b yX16_hat hX16_hat (rm_ 3 0 0) [.ref m, .int (nI f)] (ty, mi, mr, n) (qi_ (nI (hat_ v f)) (ty, mi, mr, n)) := by
  obtain ⟨a0, -, -, a1, a2, -⟩ := hh
  have h6 := hv.2.2.2.1
  have e1 : mi (m + 2) 1 = nI (rN v) := (ht 1 (by omega)).trans hv.2.2.1
  have hle : ∀ i, f + i < rN v → ha_ v f i < rN v := by
    intro i
    induction i with
    | zero => intro h; exact h
    | succ i ih =>
      intro h
      have := ih (by omega)
      unfold ha_
      split <;> omega
  refine ct_of [some (.ref m), some (.int (nI f)), none, none] (by decide) rfl rfl ?_
  refine go_iload_n dX16_hat_0 rfl ?_
  refine go_istore_n (ls2 := [_, _, _, _]) dX16_hat_1 rfl rfl ?_
  refine go_iload_n dX16_hat_2 rfl ?_
  refine go_iconst (v := nI 1) dX16_hat_3 (by decide) ?_
  refine go_iadd dX16_hat_4 ?_
  rw [nI_add]
  refine go_istore_n (ls2 := [_, _, _, _]) dX16_hat_5 rfl rfl ?_
  refine go_ls (ls2 := [some (.ref m), some (.int (nI f)), some (.int (nI (ha_ v f (f + 1 - (f + 1))))), some (.int (nI (f + 1)))]) (by rw [Nat.sub_self]; rfl) ?_
  refine go_for (rN v) (fun r => [some (.ref m), some (.int (nI f)), some (.int (nI (ha_ v f (r - (f + 1))))), some (.int (nI r))]) (fun _ => (ty, mi, mr, n)) (f + 1) (by omega) (fun r hr1 hr2 ih => ?_) ?_
  · have hb := hle (r - (f + 1)) (by omega)
    have hs : ha_ v f (r + 1 - (f + 1)) = if v (40 + 3 * ha_ v f (r - (f + 1)) + 2) < v (40 + 3 * r + 2) then r else ha_ v f (r - (f + 1)) := by
      rw [show r + 1 - (f + 1) = (r - (f + 1)) + 1 by omega]
      show (if v (40 + 3 * ha_ v f (r - (f + 1)) + 2) < v (40 + 3 * (f + 1 + (r - (f + 1))) + 2) then f + 1 + (r - (f + 1)) else ha_ v f (r - (f + 1))) = _
      rw [show f + 1 + (r - (f + 1)) = r by omega]
    generalize ha_ v f (r - (f + 1)) = B at hb hs ⊢
    refine go_iload_n dX16_hat_6 rfl ?_
    refine go_aload_n dX16_hat_7 rfl ?_
    refine go_getR fX16_11_16 dX16_hat_8 (by assumption) rfl (by assumption) ?_
    refine go_iconst (v := nI 1) dX16_hat_11 (by decide) ?_
    refine go_iald dX16_hat_12 (by assumption) ⟨rfl, by omega, by decide⟩ ?_
    rw [e1]
    refine go_icmp_ge (tgt := 57) dX16_hat_13 (by decide) (fun h0_ => absurd h0_ (nI_ge (by omega) (by omega))) (fun _ => ?_)
    refine go_aload_n dX16_hat_16 rfl ?_
    refine go_getR fX16_11_16 dX16_hat_17 (by assumption) rfl (by assumption) ?_
    refine go_bipush (v := nI 40) dX16_hat_20 (by decide) ?_
    refine go_iconst (v := nI 3) dX16_hat_22 (by decide) ?_
    refine go_iload_n dX16_hat_23 rfl ?_
    refine go_imul dX16_hat_24 ?_
    rw [pk_mul]
    refine go_iadd dX16_hat_25 ?_
    rw [nI_add]
    refine go_iconst (v := nI 2) dX16_hat_26 (by decide) ?_
    refine go_iadd dX16_hat_27 ?_
    rw [nI_add]
    refine go_iald dX16_hat_28 (by assumption) ⟨rfl, by omega, by decide⟩ ?_
    rw [ht _ (by omega)]
    refine go_aload_n dX16_hat_29 rfl ?_
    refine go_getR fX16_11_16 dX16_hat_30 (by assumption) rfl (by assumption) ?_
    refine go_bipush (v := nI 40) dX16_hat_33 (by decide) ?_
    refine go_iconst (v := nI 3) dX16_hat_35 (by decide) ?_
    refine go_iload_n dX16_hat_36 rfl ?_
    refine go_imul dX16_hat_37 ?_
    rw [pk_mul]
    refine go_iadd dX16_hat_38 ?_
    rw [nI_add]
    refine go_iconst (v := nI 2) dX16_hat_39 (by decide) ?_
    refine go_iadd dX16_hat_40 ?_
    rw [nI_add]
    refine go_iald dX16_hat_41 (by assumption) ⟨rfl, by omega, by decide⟩ ?_
    rw [ht _ (by omega)]
    refine go_icmp_le (tgt := 49) dX16_hat_42 (by decide) (fun h => ?_) (fun h => ?_)
    · rw [if_neg (by simpa using h)] at hs
      rw [hs] at ih
      refine go_iload_n dX16_hat_49 rfl ?_
      refine go_istore_n (ls2 := [_, _, _, _]) dX16_hat_50 rfl rfl ?_
      refine go_iinc (ls2 := [_, _, _, _]) dX16_hat_51 rfl (nI_inc _) rfl rfl ?_
      refine go_goto (tgt := 6) dX16_hat_54 (by decide) ?_
      exact ih
    · rw [if_pos (by simpa using h)] at hs
      rw [hs] at ih
      refine go_iload_n dX16_hat_45 rfl ?_
      refine go_goto (tgt := 50) dX16_hat_46 (by decide) ?_
      refine go_istore_n (ls2 := [_, _, _, _]) dX16_hat_50 rfl rfl ?_
      refine go_iinc (ls2 := [_, _, _, _]) dX16_hat_51 rfl (nI_inc _) rfl rfl ?_
      refine go_goto (tgt := 6) dX16_hat_54 (by decide) ?_
      exact ih
  · refine go_iload_n dX16_hat_6 rfl ?_
    refine go_aload_n dX16_hat_7 rfl ?_
    refine go_getR fX16_11_16 dX16_hat_8 (by assumption) rfl (by assumption) ?_
    refine go_iconst (v := nI 1) dX16_hat_11 (by decide) ?_
    refine go_iald dX16_hat_12 (by assumption) ⟨rfl, by omega, by decide⟩ ?_
    rw [e1]
    refine go_icmp_ge (tgt := 57) dX16_hat_13 (by decide) (fun _ => ?_) (fun h0_ => absurd (nI_le (by omega) (by omega)) h0_)
    refine go_iload_n dX16_hat_57 rfl ?_
    refine go_iret rfl dX16_hat_58 (Nat.le_of_ble_eq_true rfl) (Nat.le_of_ble_eq_true rfl) ?_
    exact ⟨rfl, rfl⟩
theorem cm_worthGone {d s : Nat} {p : Int32} (hh : mh_ ty mr m) (ht : mt_ mi m v) (hs : s < 5) : CT_ l D b yX16_worthGone hX16_worthGone (rm_ 1 0 0) [.ref m, .int (nI s), .int p] (ty, mi, mr, n) (qi_ (wg_ v s p) (ty, mi, mr, n)) := by
  have hh0 := hh
  obtain ⟨a0, -, -, a1, a2, -⟩ := hh
  refine ct_of [some (.ref m), some (.int (nI s)), some (.int p)] (by decide) rfl rfl ?_
  refine go_iload_n dX16_worthGone_0 rfl ?_
  refine go_aload_n dX16_worthGone_1 rfl ?_
  refine go_getR fX16_11_16 dX16_worthGone_2 (by assumption) rfl (by assumption) ?_
  refine go_iconst (v := nI 2) dX16_worthGone_5 (by decide) ?_
  refine go_iald dX16_worthGone_6 (by assumption) ⟨rfl, by omega, by decide⟩ ?_
  rw [ht 2 (by omega)]
  refine go_icmp_gt (tgt := 19) dX16_worthGone_7 (by decide) (fun h => ?_) (fun h => ?_)
  · refine go_aload_n dX16_worthGone_19 rfl ?_
    refine go_iload_n dX16_worthGone_20 rfl ?_
    refine go_iconst (v := nI 4) dX16_worthGone_21 (by decide) ?_
    refine go_callV vX16_69_16 (cm_of (d := 0) (s := s) (w := 4) hh0 ht hs (by omega)) dX16_worthGone_22 (by assumption) rfl rfl rfl rfl rfl (Nat.le_of_ble_eq_true rfl) (Nat.le_of_ble_eq_true rfl) (Nat.le_of_ble_eq_true rfl) (Nat.le_of_ble_eq_true rfl) (Nat.le_of_ble_eq_true rfl) (kr_i ?_) kt_i
    refine go_aload_n dX16_worthGone_25 rfl ?_
    refine go_getR fX16_11_16 dX16_worthGone_26 (by assumption) rfl (by assumption) ?_
    refine go_iconst (v := nI 5) dX16_worthGone_29 (by decide) ?_
    refine go_iald dX16_worthGone_30 (by assumption) ⟨rfl, by omega, by decide⟩ ?_
    rw [ht 5 (by omega)]
    refine go_isub dX16_worthGone_31 ?_
    refine go_iret rfl dX16_worthGone_32 (Nat.le_of_ble_eq_true rfl) (Nat.le_of_ble_eq_true rfl) ?_
    exact ⟨by unfold wg_; rw [if_neg (by simpa using h)], rfl⟩
  · refine go_aload_n dX16_worthGone_10 rfl ?_
    refine go_iload_n dX16_worthGone_11 rfl ?_
    refine go_iconst (v := nI 3) dX16_worthGone_12 (by decide) ?_
    refine go_callV vX16_69_16 (cm_of (d := 0) (s := s) (w := 3) hh0 ht hs (by omega)) dX16_worthGone_13 (by assumption) rfl rfl rfl rfl rfl (Nat.le_of_ble_eq_true rfl) (Nat.le_of_ble_eq_true rfl) (Nat.le_of_ble_eq_true rfl) (Nat.le_of_ble_eq_true rfl) (Nat.le_of_ble_eq_true rfl) (kr_i ?_) kt_i
    refine go_goto (tgt := 25) dX16_worthGone_16 (by decide) ?_
    refine go_aload_n dX16_worthGone_25 rfl ?_
    refine go_getR fX16_11_16 dX16_worthGone_26 (by assumption) rfl (by assumption) ?_
    refine go_iconst (v := nI 5) dX16_worthGone_29 (by decide) ?_
    refine go_iald dX16_worthGone_30 (by assumption) ⟨rfl, by omega, by decide⟩ ?_
    rw [ht 5 (by omega)]
    refine go_isub dX16_worthGone_31 ?_
    refine go_iret rfl dX16_worthGone_32 (Nat.le_of_ble_eq_true rfl) (Nat.le_of_ble_eq_true rfl) ?_
    exact ⟨by unfold wg_; rw [if_pos (by simpa using h)], rfl⟩
theorem cm_worthNext {s : Nat} {p : Int32} (hh : mh_ ty mr m) (ht : mt_ mi m v) (hs : s < 4) (hg : mi (m + 10) s = bo_ (gf_ v s)) : CT_ l D b yX16_worthNext hX16_worthNext (rm_ 2 0 0) [.ref m, .int (nI s), .int p] (ty, mi, mr, n) (qi_ (wo_ v s p) (ty, mi, mr, n)) := by
  have hh0 := hh
  obtain ⟨a0, -, -, a1, a2, -, -, -, -, -, -, -, -, -, -, -, -, -, -, a14, a10, -⟩ := hh
  refine ct_of [some (.ref m), some (.int (nI s)), some (.int p)] (by decide) rfl rfl ?_
  refine go_aload_n dX16_worthNext_0 rfl ?_
  refine go_getR fX16_50_16 dX16_worthNext_1 (by assumption) rfl (by assumption) ?_
  refine go_iload_n dX16_worthNext_4 rfl ?_
  refine go_zald dX16_worthNext_5 (by assumption) ⟨rfl, by omega, by decide⟩ ?_
  rw [hg]
  refine go_if_eq (tgt := 18) dX16_worthNext_6 (by decide) (fun h => ?_) (fun h => ?_)
  · have h2 := bo_0.mp h
    refine go_aload_n dX16_worthNext_18 rfl ?_
    refine go_iload_n dX16_worthNext_19 rfl ?_
    refine go_iconst (v := nI 5) dX16_worthNext_20 (by decide) ?_
    refine go_callV vX16_69_16 (cm_of (d := 0) (s := s) (w := 5) hh0 ht (by omega) (by omega)) dX16_worthNext_21 (by assumption) rfl rfl rfl rfl rfl (Nat.le_of_ble_eq_true rfl) (Nat.le_of_ble_eq_true rfl) (Nat.le_of_ble_eq_true rfl) (Nat.le_of_ble_eq_true rfl) (Nat.le_of_ble_eq_true rfl) (kr_i ?_) kt_i
    refine go_iret rfl dX16_worthNext_24 (Nat.le_of_ble_eq_true rfl) (Nat.le_of_ble_eq_true rfl) ?_
    exact ⟨by unfold wo_; rw [if_neg (by rw [h2]; decide)], rfl⟩
  · have h2 := bo_ne h
    refine go_aload_n dX16_worthNext_9 rfl ?_
    refine go_iload_n dX16_worthNext_10 rfl ?_
    refine go_iload_n dX16_worthNext_11 rfl ?_
    refine go_callV vX16_136_16 (cm_worthGone (d := 0) hh0 ht (by omega)) dX16_worthNext_12 (by assumption) rfl rfl rfl rfl rfl (Nat.le_of_ble_eq_true rfl) (Nat.le_of_ble_eq_true rfl) (Nat.le_of_ble_eq_true rfl) (Nat.le_of_ble_eq_true rfl) (Nat.le_of_ble_eq_true rfl) (kr_i ?_) kt_i
    refine go_goto (tgt := 24) dX16_worthNext_15 (by decide) ?_
    refine go_iret rfl dX16_worthNext_24 (Nat.le_of_ble_eq_true rfl) (Nat.le_of_ble_eq_true rfl) ?_
    exact ⟨by unfold wo_; rw [if_pos h2], rfl⟩
end MODEL1
