/-! ACTS BY NUMBER: the town's, the weeks' -/
set_option maxRecDepth 100000
def op_after (a : Int32) (S : cS_) : rr_ := wt_ a (nI 1) (nI 60) S (.inl (lp_ S.1 (iN_ a)), S)
def op_rem (a : Int32) (S : cS_) : rr_ := wt_ a (nI 1) (nI 8) S (.inl (ag_ S.1 (iN_ a)), S)
def op_penny (a : Int32) (S : cS_) : rr_ := wt_ a (nI 0) (nI 9) S (.inl (S.1 5), s_town S (tu_ S.1 5 a))
def op_gains (a c : Int32) (S : cS_) : rr_ := mu_ (isS_ a S.1) 1 S (wt_ c (nI 1) (nI 60) S (.inl (sm_ (ga_ S.1 (iN_ a)) (iN_ c)), S))
def op_off (S : cS_) : Int32 := if (pfin_ S.1).1 = 0 then -9 else (pfin_ S.1).2.2.2.1 - (pfin_ S.1).2.2.1
def op_which (a : Int32) (S : cS_) : rr_ := wt_ a (nI 1) (nI 60) S (.inl (nI (10 * (bx_ S.1 (iN_ a) 35 / 6) + bx_ S.1 (iN_ a) 35 % 6 + 1)), S)
def op_longer (a : Int32) (S : cS_) : rr_ := wt_ a (nI 1) (nI 60) S (.inl (mo_ (lg2_ S.1) (iN_ a - 1) - le_ (lg2_ S.1) (iN_ a - 1)), S)
def op_seeds (a c : Int32) (S : cS_) : rr_ := wt_ a (nI 1) (nI 20) S (.inl (sm_ (sf_ S.1 c) (iN_ a)), S)
def op_row (a : Int32) (S : cS_) : rr_ := wt_ a (nI 0) (nI 99) S (mu_ (decide (S.2.2.2.2.1 < 12)) 6 S (.inl (nI (S.2.2.2.2.1 + 1)), s_row S (fu_ S.2.2.2.1 S.2.2.2.2.1 a) (S.2.2.2.2.1 + 1)))
def dop_ (w : Nat) (a c : Int32) (S : cS_) : rr_ := match w with
  | 0 => op_letter a S
  | 1 => rdt_ S
  | 2 => op_sort a c S
  | 3 => op_rule a c S
  | 4 => op_rem a S
  | 5 => op_penny a S
  | 6 => (.inl (pr_ S.1), s_town S (wk_ S.1))
  | 7 => (.inl (pr_ S.1), S)
  | 8 => op_goes a S
  | 9 => op_worth a S
  | 10 => op_after a S
  | 11 => op_look 11 a S
  | 12 => op_look 12 a S
  | 13 => op_look 13 a S
  | 14 => (.inl (fa_ S.1 40), S)
  | 15 => op_gains a c S
  | 16 => (.inl (pfin_ S.1).1, S)
  | 17 => op_rest a S
  | 18 => op_best a S
  | 19 => (.inl (op_off S), S)
  | 20 => (.inl (bq_ (fun k => tu_ S.1 5 (nI k)) (fun F => F.2.2.1) 10).1, S)
  | 21 => (.inl (bq_ (fun k => tu_ S.1 2 (nI k)) (fun F => F.2.1) 61).1, S)
  | 22 => op_which a S
  | 23 => op_longer a S
  | 24 => op_seeds a c S
  | 25 => op_row a S
  | 26 => (.inl (jr_ S.1 S.2.2.2.1 S.2.2.2.2.1 0), s_row S S.2.2.2.1 0)
  | 27 => (.inl (S.1 3), s_img S S.1)
  | _ => mu_ S.2.1 3 S (.inl (S.2.2.1 3), s_town S S.2.2.1)
section KA
variable {l : Launch} {D : dd_} {b : Nat} {M : mc_} {Q : Outcome → so_ → Prop} {cc : ByteArray} {pc : Nat} {ls : List (Option Value)} {rest : List Value} {kc ks : Nat} {x : Nat} {σ : so_} {res : rr_}
theorem kr_a (k : ∀ r σ2, ao_ x σ res (.returned (some (.int r))) σ2 → G_ l D b M Q cc pc ls (.int r :: rest) σ2 kc ks) : ∀ (v : Option Value) (σ2 : so_), ao_ x σ res (.returned v) σ2 → G_ l D b M Q cc pc ls (v.toList ++ rest) σ2 kc ks := by
  rintro v σ2 h
  have h0 := h
  obtain ⟨h1, h2, h3⟩ := h
  obtain ⟨r, S2⟩ := res
  cases r with
  | inl z =>
    cases h3
    exact k z σ2 h0
  | inr e =>
    obtain ⟨a, h4, -⟩ := h3
    cases h4
theorem kt_a : ∀ (z : Nat) (σ2 : so_), ao_ x σ res (.threw z) σ2 → ao_ x σ res (.threw z) σ2 := fun _ _ h => h
end KA
theorem ci_.tn {ty : ty_} {mi mi2 : mi_} {mr : mr_} {n x : Nat} {S : cS_} {v2 : tv_} (h : ci_ ty mi mr n x S) (hm : fm_ mi mi2 (x + 15) (x + 23)) (ht : tr_ ty mi2 mr x (x + 15) v2) (hv : wf_ v2) : ci_ ty mi2 mr n x (s_town S v2) := h.town (fun a j _ _ h3 => hm a j (by omega)) (fun _ _ _ _ _ _ _ => rfl) ht hv h.2.2.2.2.2.1
section OFTOWN
variable {l : Launch} {D : dd_} {b : Nat} {ty : ty_} {mi : mi_} {mr : mr_} {n x : Nat} {S : cS_} {a c : Int32}
theorem ct_ofTown {w : Nat} (hw : w < 10) (hc : ci_ ty mi mr n x S) : CT_ l D b yX0_ofTown hX0_ofTown (rm_ 12 1000 7000) [.ref x, .int (nI w), .int a, .int c] (ty, mi, mr, n) (ao_ x (ty, mi, mr, n) (dop_ w a c S)) := by
  have a1 := hc.1.1
  have hx := hc.2.1
  have hv := hc.2.2.2.2.1
  have a2 := hc.1.2.2.2.2.2.2.2.2.1
  have ts := hc.1.2.2.2.2.2.2.2.2.2.2.2.1
  have tr := hc.2.2.2.1
  have a3 := ts.1
  refine ct_of [some (.ref x), some (.int (nI w)), some (.int a), some (.int c), none] (by decide) rfl rfl ?_
  refine go_iload_n dX0_ofTown_0 rfl ?_
  match w, hw with
  | 0, _ =>
    refine go_tableIn (off := 51) (tgt := 52) dX0_ofTown_1 (by decide) (by decide) rfl (by decide) ?_
    refine go_aload_n dX0_ofTown_52 rfl ?_
    refine go_iload_n dX0_ofTown_53 rfl ?_
    refine go_callV vX0_351_0 (ct_letterIt hc) dX0_ofTown_54 (by assumption) rfl rfl rfl rfl rfl (Nat.le_of_ble_eq_true rfl) (Nat.le_of_ble_eq_true rfl) (Nat.le_of_ble_eq_true rfl) (Nat.le_of_ble_eq_true rfl) (Nat.le_of_ble_eq_true rfl) (kr_a (fun r σ2 h => ?_)) kt_a
    refine go_iret rfl dX0_ofTown_57 (Nat.le_of_ble_eq_true rfl) (Nat.le_of_ble_eq_true rfl) ?_
    exact h
  | 1, _ =>
    refine go_tableIn (off := 57) (tgt := 58) dX0_ofTown_1 (by decide) (by decide) rfl (by decide) ?_
    refine go_aload_n dX0_ofTown_58 rfl ?_
    refine go_callV vX0_354_0 (ct_readTown hc) dX0_ofTown_59 (by assumption) rfl rfl rfl rfl rfl (Nat.le_of_ble_eq_true rfl) (Nat.le_of_ble_eq_true rfl) (Nat.le_of_ble_eq_true rfl) (Nat.le_of_ble_eq_true rfl) (Nat.le_of_ble_eq_true rfl) (kr_a (fun r σ2 h => ?_)) kt_a
    refine go_iret rfl dX0_ofTown_62 (Nat.le_of_ble_eq_true rfl) (Nat.le_of_ble_eq_true rfl) ?_
    exact h
  | 2, _ =>
    refine go_tableIn (off := 62) (tgt := 63) dX0_ofTown_1 (by decide) (by decide) rfl (by decide) ?_
    refine go_aload_n dX0_ofTown_63 rfl ?_
    refine go_iload_n dX0_ofTown_64 rfl ?_
    refine go_iload_n dX0_ofTown_65 rfl ?_
    refine go_callV vX0_357_0 (ct_sortTold2 hc) dX0_ofTown_66 (by assumption) rfl rfl rfl rfl rfl (Nat.le_of_ble_eq_true rfl) (Nat.le_of_ble_eq_true rfl) (Nat.le_of_ble_eq_true rfl) (Nat.le_of_ble_eq_true rfl) (Nat.le_of_ble_eq_true rfl) (kr_a (fun r σ2 h => ?_)) kt_a
    refine go_iret rfl dX0_ofTown_69 (Nat.le_of_ble_eq_true rfl) (Nat.le_of_ble_eq_true rfl) ?_
    exact h
  | 3, _ =>
    refine go_tableIn (off := 69) (tgt := 70) dX0_ofTown_1 (by decide) (by decide) rfl (by decide) ?_
    refine go_aload_n dX0_ofTown_70 rfl ?_
    refine go_iload_n dX0_ofTown_71 rfl ?_
    refine go_iload_n dX0_ofTown_72 rfl ?_
    refine go_callV vX0_360_0 (ct_ruleTold2 hc) dX0_ofTown_73 (by assumption) rfl rfl rfl rfl rfl (Nat.le_of_ble_eq_true rfl) (Nat.le_of_ble_eq_true rfl) (Nat.le_of_ble_eq_true rfl) (Nat.le_of_ble_eq_true rfl) (Nat.le_of_ble_eq_true rfl) (kr_a (fun r σ2 h => ?_)) kt_a
    refine go_iret rfl dX0_ofTown_76 (Nat.le_of_ble_eq_true rfl) (Nat.le_of_ble_eq_true rfl) ?_
    exact h
  | 4, _ =>
    show G_ l D b _ (ao_ x (ty, mi, mr, n) (op_rem a S)) _ _ _ _ _ _ _
    generalize hres : op_rem a S = res
    unfold op_rem at hres
    refine go_tableIn (off := 76) (tgt := 77) dX0_ofTown_1 (by decide) (by decide) rfl (by decide) ?_
    refine go_iload_n dX0_ofTown_77 rfl ?_
    refine go_i2l dX0_ofTown_78 ?_
    refine go_lconst (v := (nI 1).toInt64) dX0_ofTown_79 (by decide) ?_
    refine go_ldc2 q808 dX0_ofTown_80 ?_
    refine go_topl (show (8 : Int64) = (nI 8).toInt64 by decide) ?_
    refine go_callS sX0_305 (ct_within) dX0_ofTown_83 rfl rfl rfl (Nat.le_of_ble_eq_true rfl) (Nat.le_of_ble_eq_true rfl) (Nat.le_of_ble_eq_true rfl) (Nat.le_of_ble_eq_true rfl) (Nat.le_of_ble_eq_true rfl) (kr_t (fun hn => ?_)) (kt_t (fun z hz o σ2 ht => ?_))
    · rw [wt_ok hn] at hres
      obtain ⟨k, hk1, hk, rfl⟩ := wi_nat (by omega) (by omega) hn
      rw [iN_n (by omega)] at hres
      refine go_aload_n dX0_ofTown_86 rfl ?_
      refine go_getR fX0_73_0 dX0_ofTown_87 (by assumption) rfl (by assumption) ?_
      refine go_iload_n dX0_ofTown_90 rfl ?_
      refine go_callV vX0_365_15 (ct_ago ts tr hv hk1 hk) dX0_ofTown_91 (by assumption) rfl rfl rfl rfl rfl (Nat.le_of_ble_eq_true rfl) (Nat.le_of_ble_eq_true rfl) (Nat.le_of_ble_eq_true rfl) (Nat.le_of_ble_eq_true rfl) (Nat.le_of_ble_eq_true rfl) (kr_i ?_) kt_i
      refine go_iret rfl dX0_ofTown_94 (Nat.le_of_ble_eq_true rfl) (Nat.le_of_ble_eq_true rfl) ?_
      rw [← hres]
      exact ao_0 hc
    · obtain ⟨e, he1, he2⟩ := wt_no (S := S) (k := (.inl (ag_ S.1 (iN_ a)), S)) hz
      rw [he2] at hres
      rw [← hres]
      exact ao_t hc he1 ht
  | 5, _ =>
    show G_ l D b _ (ao_ x (ty, mi, mr, n) (op_penny a S)) _ _ _ _ _ _ _
    generalize hres : op_penny a S = res
    unfold op_penny at hres
    refine go_tableIn (off := 94) (tgt := 95) dX0_ofTown_1 (by decide) (by decide) rfl (by decide) ?_
    refine go_iload_n dX0_ofTown_95 rfl ?_
    refine go_i2l dX0_ofTown_96 ?_
    refine go_lconst (v := (nI 0).toInt64) dX0_ofTown_97 (by decide) ?_
    refine go_ldc2 q810 dX0_ofTown_98 ?_
    refine go_topl (show (9 : Int64) = (nI 9).toInt64 by decide) ?_
    refine go_callS sX0_305 (ct_within) dX0_ofTown_101 rfl rfl rfl (Nat.le_of_ble_eq_true rfl) (Nat.le_of_ble_eq_true rfl) (Nat.le_of_ble_eq_true rfl) (Nat.le_of_ble_eq_true rfl) (Nat.le_of_ble_eq_true rfl) (kr_t (fun hn => ?_)) (kt_t (fun z hz o σ2 ht => ?_))
    · rw [wt_ok hn] at hres
      refine go_aload_n dX0_ofTown_104 rfl ?_
      refine go_getR fX0_73_0 dX0_ofTown_105 (by assumption) rfl (by assumption) ?_
      refine go_getI fX0_236_15 dX0_ofTown_108 (by assumption) rfl ?_
      rw [tr.2.2.2.2.2.1]
      refine go_istore (ls2 := [_, _, _, _, _]) dX0_ofTown_111 rfl rfl ?_
      refine go_aload_n dX0_ofTown_113 rfl ?_
      refine go_getR fX0_73_0 dX0_ofTown_114 (by assumption) rfl (by assumption) ?_
      refine go_iload_n dX0_ofTown_117 rfl ?_
      refine go_putI fX0_236_15 p15_10 rfl rfl rfl dX0_ofTown_118 (by assumption) ?_
      refine go_iload dX0_ofTown_121 rfl ?_
      refine go_iret rfl dX0_ofTown_123 (Nat.le_of_ble_eq_true rfl) (Nat.le_of_ble_eq_true rfl) ?_
      rw [← hres]
      have e1 : ∀ z j, z ≠ x + 15 → um_ mi (x + 15) 10 a z j = mi z j := fun z j h => um_a h
      have e2 : ∀ j, j ≠ 10 → um_ mi (x + 15) 10 a (x + 15) j = mi (x + 15) j := fun j h => um_k h
      refine ao_s (hc.tn (fun z j h => um_a (by omega)) (tr_t tr (by omega) e1 (tu_n (by decide)) (tu_n (by decide)) (fun j h => tu_n (by omega)) ((e2 _ (by decide)).trans (tr.1.trans (tu_n (by decide)).symm)) ((e2 _ (by decide)).trans (tr.2.1.trans (tu_n (by decide)).symm)) ((e2 _ (by decide)).trans (tr.2.2.1.trans (tu_n (by decide)).symm)) ((e2 _ (by decide)).trans (tr.2.2.2.1.trans (tu_n (by decide)).symm)) ((e2 _ (by decide)).trans (tr.2.2.2.2.1.trans (tu_n (by decide)).symm)) (um_s.trans tu_s.symm)) (wf_up hv (tu_n (by decide)) (tu_n (by decide)) (tu_n (by decide)) (by rw [tu_n (by decide)]; exact hv.2.2.2.2.2.2.1) (fun j h => tu_n (by omega)))) (fun z j _ h => ⟨um_a (by omega), rfl⟩)
    · obtain ⟨e, he1, he2⟩ := wt_no (S := S) (k := (.inl (S.1 5), s_town S (tu_ S.1 5 a))) hz
      rw [he2] at hres
      rw [← hres]
      exact ao_t hc he1 ht
  | 6, _ =>
    refine go_tableIn (off := 123) (tgt := 124) dX0_ofTown_1 (by decide) (by decide) rfl (by decide) ?_
    refine go_aload_n dX0_ofTown_124 rfl ?_
    refine go_getR fX0_73_0 dX0_ofTown_125 (by assumption) rfl (by assumption) ?_
    refine go_callV vX0_146_15 (ct_week hc.1.2.1 ts tr hv (by omega)) dX0_ofTown_128 (by assumption) rfl rfl rfl rfl rfl (Nat.le_of_ble_eq_true rfl) (Nat.le_of_ble_eq_true rfl) (Nat.le_of_ble_eq_true rfl) (Nat.le_of_ble_eq_true rfl) (Nat.le_of_ble_eq_true rfl) (kr_p (fun r mi2 hp => ?_)) kt_p
    obtain ⟨e1, e2, e3, -⟩ := hp
    subst e1
    refine go_iret rfl dX0_ofTown_131 (Nat.le_of_ble_eq_true rfl) (Nat.le_of_ble_eq_true rfl) ?_
    exact ao_s (hc.tn e3 e2 (wk_wf hv)) (fun z j _ h => ⟨e3 z j (by omega), rfl⟩)
  | 7, _ =>
    refine go_tableIn (off := 131) (tgt := 132) dX0_ofTown_1 (by decide) (by decide) rfl (by decide) ?_
    refine go_aload_n dX0_ofTown_132 rfl ?_
    refine go_getR fX0_73_0 dX0_ofTown_133 (by assumption) rfl (by assumption) ?_
    refine go_callV vX0_344_15 (ct_askAll hc.1.2.1 ts tr hv (by omega)) dX0_ofTown_136 (by assumption) rfl rfl rfl rfl rfl (Nat.le_of_ble_eq_true rfl) (Nat.le_of_ble_eq_true rfl) (Nat.le_of_ble_eq_true rfl) (Nat.le_of_ble_eq_true rfl) (Nat.le_of_ble_eq_true rfl) (kr_i ?_) kt_i
    refine go_iret rfl dX0_ofTown_139 (Nat.le_of_ble_eq_true rfl) (Nat.le_of_ble_eq_true rfl) ?_
    exact ao_k hc aa_sk sr_.rf
  | 8, _ =>
    refine go_tableIn (off := 139) (tgt := 140) dX0_ofTown_1 (by decide) (by decide) rfl (by decide) ?_
    refine go_aload_n dX0_ofTown_140 rfl ?_
    refine go_iload_n dX0_ofTown_141 rfl ?_
    refine go_callV vX0_370_0 (ct_goesNext hc) dX0_ofTown_142 (by assumption) rfl rfl rfl rfl rfl (Nat.le_of_ble_eq_true rfl) (Nat.le_of_ble_eq_true rfl) (Nat.le_of_ble_eq_true rfl) (Nat.le_of_ble_eq_true rfl) (Nat.le_of_ble_eq_true rfl) (kr_a (fun r σ2 h => ?_)) kt_a
    refine go_iret rfl dX0_ofTown_145 (Nat.le_of_ble_eq_true rfl) (Nat.le_of_ble_eq_true rfl) ?_
    exact h
  | 9, _ =>
    refine go_tableOut (tgt := 146) dX0_ofTown_1 (by decide) (by decide) ?_
    refine go_aload_n dX0_ofTown_146 rfl ?_
    refine go_iload_n dX0_ofTown_147 rfl ?_
    refine go_callV vX0_373_0 (ct_worthNext hc) dX0_ofTown_148 (by assumption) rfl rfl rfl rfl rfl (Nat.le_of_ble_eq_true rfl) (Nat.le_of_ble_eq_true rfl) (Nat.le_of_ble_eq_true rfl) (Nat.le_of_ble_eq_true rfl) (Nat.le_of_ble_eq_true rfl) (kr_a (fun r σ2 h => ?_)) kt_a
    refine go_iret rfl dX0_ofTown_151 (Nat.le_of_ble_eq_true rfl) (Nat.le_of_ble_eq_true rfl) ?_
    exact h
  | w + 10, h => exact absurd h (by omega)
theorem ct_ofWeeks {w : Nat} (hw1 : 10 ≤ w) (hw2 : w < 16) (hc : ci_ ty mi mr n x S) : CT_ l D b yX0_ofWeeks hX0_ofWeeks (rm_ 12 1000 7000) [.ref x, .int (nI w), .int a, .int c] (ty, mi, mr, n) (ao_ x (ty, mi, mr, n) (dop_ w a c S)) := by
  have a1 := hc.1.1
  have hx := hc.2.1
  have hv := hc.2.2.2.2.1
  refine ct_of [some (.ref x), some (.int (nI w)), some (.int a), some (.int c)] (by decide) rfl rfl ?_
  refine go_iload_n dX0_ofWeeks_0 rfl ?_
  have hw3 : w = 10 ∨ w = 11 ∨ w = 12 ∨ w = 13 ∨ w = 14 ∨ w = 15 := by omega
  rcases hw3 with rfl | rfl | rfl | rfl | rfl | rfl
  · show G_ l D b _ (ao_ x (ty, mi, mr, n) (op_after a S)) _ _ _ _ _ _ _
    generalize hres : op_after a S = res
    unfold op_after at hres
    refine go_lookup (off := 35) (tgt := 36) dX0_ofWeeks_1 (by decide) (by decide) (by decide) ?_
    refine go_iload_n dX0_ofWeeks_36 rfl ?_
    refine go_callS sX0_376 (ct_mustBeWeeks) dX0_ofWeeks_37 rfl rfl rfl (Nat.le_of_ble_eq_true rfl) (Nat.le_of_ble_eq_true rfl) (Nat.le_of_ble_eq_true rfl) (Nat.le_of_ble_eq_true rfl) (Nat.le_of_ble_eq_true rfl) (kr_t (fun hn => ?_)) (kt_t (fun z hz o σ2 ht => ?_))
    · rw [wt_ok hn] at hres
      obtain ⟨k, hk1, hk, rfl⟩ := wi_nat (by omega) (by omega) hn
      rw [iN_n (by omega)] at hres
      refine go_aload_n dX0_ofWeeks_40 rfl ?_
      refine go_iload_n dX0_ofWeeks_41 rfl ?_
      refine go_callV vX0_379_0 (ct_afterWeeks hc hk) dX0_ofWeeks_42 (by assumption) rfl rfl rfl rfl rfl (Nat.le_of_ble_eq_true rfl) (Nat.le_of_ble_eq_true rfl) (Nat.le_of_ble_eq_true rfl) (Nat.le_of_ble_eq_true rfl) (Nat.le_of_ble_eq_true rfl) (kr_k (fun r mi2 mr2 hp => ?_)) kt_k
      obtain ⟨rfl, h1, h2⟩ := hp
      refine go_iret rfl dX0_ofWeeks_45 (Nat.le_of_ble_eq_true rfl) (Nat.le_of_ble_eq_true rfl) ?_
      rw [← hres]
      exact ao_k hc h1 h2
    · obtain ⟨e, he1, he2⟩ := wt_no (S := S) (k := (.inl (lp_ S.1 (iN_ a)), S)) hz
      rw [he2] at hres
      rw [← hres]
      exact ao_t hc he1 ht
  · refine go_lookup (off := 70) (tgt := 71) dX0_ofWeeks_1 (by decide) (by decide) (by decide) ?_
    refine go_aload_n dX0_ofWeeks_71 rfl ?_
    refine go_iload_n dX0_ofWeeks_72 rfl ?_
    refine go_iload_n dX0_ofWeeks_73 rfl ?_
    refine go_callV vX0_385_0 (ct_lookTold (w := 11) (by omega) hc) dX0_ofWeeks_74 (by assumption) rfl rfl rfl rfl rfl (Nat.le_of_ble_eq_true rfl) (Nat.le_of_ble_eq_true rfl) (Nat.le_of_ble_eq_true rfl) (Nat.le_of_ble_eq_true rfl) (Nat.le_of_ble_eq_true rfl) (kr_a (fun r σ2 h => ?_)) kt_a
    refine go_iret rfl dX0_ofWeeks_77 (Nat.le_of_ble_eq_true rfl) (Nat.le_of_ble_eq_true rfl) ?_
    exact h
  · refine go_lookup (off := 70) (tgt := 71) dX0_ofWeeks_1 (by decide) (by decide) (by decide) ?_
    refine go_aload_n dX0_ofWeeks_71 rfl ?_
    refine go_iload_n dX0_ofWeeks_72 rfl ?_
    refine go_iload_n dX0_ofWeeks_73 rfl ?_
    refine go_callV vX0_385_0 (ct_lookTold (w := 12) (by omega) hc) dX0_ofWeeks_74 (by assumption) rfl rfl rfl rfl rfl (Nat.le_of_ble_eq_true rfl) (Nat.le_of_ble_eq_true rfl) (Nat.le_of_ble_eq_true rfl) (Nat.le_of_ble_eq_true rfl) (Nat.le_of_ble_eq_true rfl) (kr_a (fun r σ2 h => ?_)) kt_a
    refine go_iret rfl dX0_ofWeeks_77 (Nat.le_of_ble_eq_true rfl) (Nat.le_of_ble_eq_true rfl) ?_
    exact h
  · refine go_lookup (off := 70) (tgt := 71) dX0_ofWeeks_1 (by decide) (by decide) (by decide) ?_
    refine go_aload_n dX0_ofWeeks_71 rfl ?_
    refine go_iload_n dX0_ofWeeks_72 rfl ?_
    refine go_iload_n dX0_ofWeeks_73 rfl ?_
    refine go_callV vX0_385_0 (ct_lookTold (w := 13) (by omega) hc) dX0_ofWeeks_74 (by assumption) rfl rfl rfl rfl rfl (Nat.le_of_ble_eq_true rfl) (Nat.le_of_ble_eq_true rfl) (Nat.le_of_ble_eq_true rfl) (Nat.le_of_ble_eq_true rfl) (Nat.le_of_ble_eq_true rfl) (kr_a (fun r σ2 h => ?_)) kt_a
    refine go_iret rfl dX0_ofWeeks_77 (Nat.le_of_ble_eq_true rfl) (Nat.le_of_ble_eq_true rfl) ?_
    exact h
  · refine go_lookup (off := 45) (tgt := 46) dX0_ofWeeks_1 (by decide) (by decide) (by decide) ?_
    refine go_aload_n dX0_ofWeeks_46 rfl ?_
    refine go_callV vX0_382_0 (ct_againBehind hc) dX0_ofWeeks_47 (by assumption) rfl rfl rfl rfl rfl (Nat.le_of_ble_eq_true rfl) (Nat.le_of_ble_eq_true rfl) (Nat.le_of_ble_eq_true rfl) (Nat.le_of_ble_eq_true rfl) (Nat.le_of_ble_eq_true rfl) (kr_k (fun r mi2 mr2 hp => ?_)) kt_k
    obtain ⟨rfl, h1, h2⟩ := hp
    refine go_iret rfl dX0_ofWeeks_50 (Nat.le_of_ble_eq_true rfl) (Nat.le_of_ble_eq_true rfl) ?_
    exact ao_k hc h1 h2
  · show G_ l D b _ (ao_ x (ty, mi, mr, n) (op_gains a c S)) _ _ _ _ _ _ _
    generalize hres : op_gains a c S = res
    unfold op_gains at hres
    refine go_lookup (off := 50) (tgt := 51) dX0_ofWeeks_1 (by decide) (by decide) (by decide) ?_
    refine go_aload_n dX0_ofWeeks_51 rfl ?_
    refine go_iload_n dX0_ofWeeks_52 rfl ?_
    refine go_callV vX0_311_0 (ct_mustBeSort hc) dX0_ofWeeks_53 (by assumption) rfl rfl rfl rfl rfl (Nat.le_of_ble_eq_true rfl) (Nat.le_of_ble_eq_true rfl) (Nat.le_of_ble_eq_true rfl) (Nat.le_of_ble_eq_true rfl) (Nat.le_of_ble_eq_true rfl) (kr_t (fun hn => ?_)) (kt_t (fun z hz o σ2 ht => ?_))
    · have h1 := qt_ok hn
      rw [mu_ok h1] at hres
      obtain ⟨s, hs, rfl⟩ := in_nat (by have := hv.2.1; omega) h1
      have hs4 := hv.2.1
      rw [iN_n (by omega)] at hres
      refine go_iload_n dX0_ofWeeks_56 rfl ?_
      refine go_callS sX0_376 (ct_mustBeWeeks) dX0_ofWeeks_57 rfl rfl rfl (Nat.le_of_ble_eq_true rfl) (Nat.le_of_ble_eq_true rfl) (Nat.le_of_ble_eq_true rfl) (Nat.le_of_ble_eq_true rfl) (Nat.le_of_ble_eq_true rfl) (kr_t (fun hn => ?_)) (kt_t (fun z hz o σ2 ht => ?_))
      · rw [wt_ok hn] at hres
        obtain ⟨k, hk1, hk, rfl⟩ := wi_nat (by omega) (by omega) hn
        rw [iN_n (by omega)] at hres
        refine go_aload_n dX0_ofWeeks_60 rfl ?_
        refine go_aload_n dX0_ofWeeks_61 rfl ?_
        refine go_callV vX0_142_0 (ct_openMind hc) dX0_ofWeeks_62 (by assumption) rfl rfl rfl rfl rfl (Nat.le_of_ble_eq_true rfl) (Nat.le_of_ble_eq_true rfl) (Nat.le_of_ble_eq_true rfl) (Nat.le_of_ble_eq_true rfl) (Nat.le_of_ble_eq_true rfl) (kr_z (fun mA mr2 hp => ?_)) kt_z
        obtain ⟨p1, p2, p3⟩ := hp
        refine go_iload_n dX0_ofWeeks_65 rfl ?_
        refine go_iload_n dX0_ofWeeks_66 rfl ?_
        refine go_callV vX0_245_0 (ct_gainsOf a1 p3 hv hs hk) dX0_ofWeeks_67 (by assumption) rfl rfl rfl rfl rfl (Nat.le_of_ble_eq_true rfl) (Nat.le_of_ble_eq_true rfl) (Nat.le_of_ble_eq_true rfl) (Nat.le_of_ble_eq_true rfl) (Nat.le_of_ble_eq_true rfl) (kr_p (fun r mi2 hp => ?_)) kt_p
        obtain ⟨rfl, h3⟩ := hp
        refine go_iret rfl dX0_ofWeeks_70 (Nat.le_of_ble_eq_true rfl) (Nat.le_of_ble_eq_true rfl) ?_
        rw [← hres]
        exact ao_k hc ((sk_mind p1).tr (sk_mind h3)) p2
      · obtain ⟨e, he1, he2⟩ := wt_no (S := S) (k := (.inl (sm_ (ga_ S.1 s) (iN_ c)), S)) hz
        rw [he2] at hres
        rw [← hres]
        exact ao_t hc he1 ht
    · obtain ⟨h1, rfl⟩ := qt_in hz
      rw [mu_no h1] at hres
      rw [← hres]
      exact ao_t hc (by decide) ht
end OFTOWN
