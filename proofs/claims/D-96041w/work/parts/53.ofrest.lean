/-! ACTS BY NUMBER: plans, the rest -/
set_option maxRecDepth 100000
theorem i2b_id : ∀ j, j < 100 → (nI j).toInt8.toInt32 = nI j := by decide +kernel
theorem narb_id : ∀ j, j < 100 → vp_nar .byte (nI j) = nI j := by decide +kernel
theorem ci_.img {ty : ty_} {mi mi2 : mi_} {mr mr2 : mr_} {n x : Nat} {S : cS_} {v2 : tv_} (h : ci_ ty mi mr n x S) (hm : ∀ a j, a < n → ¬ (a = x ∧ j = 5) → (a < x + 31 ∨ x + 39 ≤ a) → mi2 a j = mi a j) (h5' : mi2 x 5 = nI 1) (hr : fr2_ mr mr2 (x + 31)) (ht : tr_ ty mi2 mr2 x (x + 31) v2) (hv : wf_ v2) (ha : ar_ ty mr2 (x + 31)) : ci_ ty mi2 mr2 n x (s_img S v2) := by
  obtain ⟨h1, h2, h3, h4, h5, h6, h7, h8, h9, h10, h11, h12, h13, h14, h15, h16⟩ := h
  have e0 : ∀ j, j ≠ 5 → mi2 x j = mi x j := fun j hj => hm x j (by omega) (by omega) (by omega)
  refine ⟨h1.up2 h2 (fun _ _ => rfl) (fun a j g => hr a j (by omega) (by omega)), h2, h3, ?_, h5, ?_, h5', fun _ => ⟨ht, hv⟩, ha, by rw [e0 _ (by omega)]; exact h10, h11, fun k hk => ?_, by rw [e0 _ (by omega)]; exact h13, h14, fun k hk => ?_, fun k hk => ?_⟩
  · exact h4.up (by omega) h2 h3 (fun _ _ => rfl) (fun j hj => hm _ j (by omega) (by omega) (by omega)) (fun a j g1 g2 => hm a j (by omega) (by omega) (by omega)) (fun a j g1 g2 => hm a j g2 (by omega) (by omega)) (fun j => hr _ j (by omega) (by omega)) (fun j => hr _ j (by omega) (by omega)) (fun a j g1 g2 => hr a j (by omega) (by omega))
  · exact h6.up h3 (fun _ _ => rfl) (fun j => hr _ j (by omega) (by omega)) (fun j => hr _ j (by omega) (by omega))
  · rw [hm _ _ (by omega) (by omega) (by omega)]
    exact h12 k hk
  · rw [hm _ _ (by omega) (by omega) (by omega)]
    exact h15 k hk
  · rw [hm _ _ (by omega) (by omega) (by omega)]
    exact h16 k hk
section OFREST
variable {l : Launch} {D : dd_} {b : Nat} {ty : ty_} {mi : mi_} {mr : mr_} {n x : Nat} {S : cS_} {a c : Int32}
theorem ct_ofPlans {w : Nat} (hw1 : 16 ≤ w) (hw2 : w < 22) (hc : ci_ ty mi mr n x S) : CT_ l D b yX0_ofPlans hX0_ofPlans (rm_ 11 100 700) [.ref x, .int (nI w), .int a] (ty, mi, mr, n) (ao_ x (ty, mi, mr, n) (dop_ w a c S)) := by
  have a1 := hc.1.1
  have hv := hc.2.2.2.2.1
  have pc := hc.1.pc
  obtain ⟨-, a2, -, a17, -, a44, ts⟩ := pc
  refine ct_of [some (.ref x), some (.int (nI w)), some (.int a)] (by decide) rfl rfl ?_
  refine go_iload_n dX0_ofPlans_0 rfl ?_
  have hw3 : w = 16 ∨ w = 17 ∨ w = 18 ∨ w = 19 ∨ w = 20 ∨ w = 21 := by omega
  rcases hw3 with rfl | rfl | rfl | rfl | rfl | rfl
  · refine go_tableIn (off := 35) (tgt := 36) dX0_ofPlans_1 (by decide) (by decide) rfl (by decide) ?_
    refine go_aload_n dX0_ofPlans_36 rfl ?_
    refine go_aload_n dX0_ofPlans_37 rfl ?_
    refine go_getR fX0_73_0 dX0_ofPlans_38 (by assumption) rfl (by assumption) ?_
    refine go_callV vX0_239_0 (ct_findPlans hc.1.pc ts hc.2.2.2.1 hv hc.2.2.2.1 hv rfl (fun _ _ => rfl) (by omega) (by omega)) dX0_ofPlans_41 (by assumption) rfl rfl rfl rfl rfl (Nat.le_of_ble_eq_true rfl) (Nat.le_of_ble_eq_true rfl) (Nat.le_of_ble_eq_true rfl) (Nat.le_of_ble_eq_true rfl) (Nat.le_of_ble_eq_true rfl) (kr_w (fun mi2 hp => ?_)) kt_w
    obtain ⟨⟨g1, g2, g3⟩, g4, g5⟩ := hp
    refine go_aload_n dX0_ofPlans_44 rfl ?_
    refine go_getI fX0_196_0 dX0_ofPlans_45 (by assumption) rfl ?_
    rw [g1]
    refine go_iret rfl dX0_ofPlans_48 (Nat.le_of_ble_eq_true rfl) (Nat.le_of_ble_eq_true rfl) ?_
    exact ao_k hc (pfr_sk g5) sr_.rf
  · refine go_tableIn (off := 48) (tgt := 49) dX0_ofPlans_1 (by decide) (by decide) rfl (by decide) ?_
    refine go_aload_n dX0_ofPlans_49 rfl ?_
    refine go_iload_n dX0_ofPlans_50 rfl ?_
    refine go_callV vX0_388_0 (ct_restTold hc) dX0_ofPlans_51 (by assumption) rfl rfl rfl rfl rfl (Nat.le_of_ble_eq_true rfl) (Nat.le_of_ble_eq_true rfl) (Nat.le_of_ble_eq_true rfl) (Nat.le_of_ble_eq_true rfl) (Nat.le_of_ble_eq_true rfl) (kr_a (fun r σ2 h => ?_)) kt_a
    refine go_iret rfl dX0_ofPlans_54 (Nat.le_of_ble_eq_true rfl) (Nat.le_of_ble_eq_true rfl) ?_
    exact h
  · refine go_tableIn (off := 54) (tgt := 55) dX0_ofPlans_1 (by decide) (by decide) rfl (by decide) ?_
    refine go_aload_n dX0_ofPlans_55 rfl ?_
    refine go_iload_n dX0_ofPlans_56 rfl ?_
    refine go_callV vX0_391_0 (ct_bestTold hc) dX0_ofPlans_57 (by assumption) rfl rfl rfl rfl rfl (Nat.le_of_ble_eq_true rfl) (Nat.le_of_ble_eq_true rfl) (Nat.le_of_ble_eq_true rfl) (Nat.le_of_ble_eq_true rfl) (Nat.le_of_ble_eq_true rfl) (kr_a (fun r σ2 h => ?_)) kt_a
    refine go_iret rfl dX0_ofPlans_60 (Nat.le_of_ble_eq_true rfl) (Nat.le_of_ble_eq_true rfl) ?_
    exact h
  · show G_ l D b _ (ao_ x (ty, mi, mr, n) (.inl (op_off S), S)) _ _ _ _ _ _ _
    generalize hres : op_off S = res
    unfold op_off at hres
    refine go_tableIn (off := 60) (tgt := 61) dX0_ofPlans_1 (by decide) (by decide) rfl (by decide) ?_
    refine go_aload_n dX0_ofPlans_61 rfl ?_
    refine go_aload_n dX0_ofPlans_62 rfl ?_
    refine go_getR fX0_73_0 dX0_ofPlans_63 (by assumption) rfl (by assumption) ?_
    refine go_callV vX0_239_0 (ct_findPlans hc.1.pc ts hc.2.2.2.1 hv hc.2.2.2.1 hv rfl (fun _ _ => rfl) (by omega) (by omega)) dX0_ofPlans_66 (by assumption) rfl rfl rfl rfl rfl (Nat.le_of_ble_eq_true rfl) (Nat.le_of_ble_eq_true rfl) (Nat.le_of_ble_eq_true rfl) (Nat.le_of_ble_eq_true rfl) (Nat.le_of_ble_eq_true rfl) (kr_w (fun mi2 hp => ?_)) kt_w
    obtain ⟨⟨g1, g2, g3⟩, g4, g5⟩ := hp
    refine go_aload_n dX0_ofPlans_69 rfl ?_
    refine go_getI fX0_196_0 dX0_ofPlans_70 (by assumption) rfl ?_
    rw [g1]
    refine go_if_ne (tgt := 81) dX0_ofPlans_73 (by decide) (fun h => ?_) (fun h => ?_)
    · rw [if_neg h] at hres
      refine go_aload_n dX0_ofPlans_81 rfl ?_
      refine go_getI fX0_206_0 dX0_ofPlans_82 (by assumption) rfl ?_
      rw [(g2 g4).1]
      refine go_aload_n dX0_ofPlans_85 rfl ?_
      refine go_getI fX0_227_0 dX0_ofPlans_86 (by assumption) rfl ?_
      rw [(g3 h).2.1]
      refine go_isub dX0_ofPlans_89 ?_
      refine go_iret rfl dX0_ofPlans_90 (Nat.le_of_ble_eq_true rfl) (Nat.le_of_ble_eq_true rfl) ?_
      rw [← hres]
      exact ao_k hc (pfr_sk g5) sr_.rf
    · rw [if_pos h] at hres
      refine go_bipush (v := (-9)) dX0_ofPlans_76 (by decide) ?_
      refine go_goto (tgt := 90) dX0_ofPlans_78 (by decide) ?_
      refine go_iret rfl dX0_ofPlans_90 (Nat.le_of_ble_eq_true rfl) (Nat.le_of_ble_eq_true rfl) ?_
      rw [← hres]
      exact ao_k hc (pfr_sk g5) sr_.rf
  · refine go_tableIn (off := 90) (tgt := 91) dX0_ofPlans_1 (by decide) (by decide) rfl (by decide) ?_
    refine go_aload_n dX0_ofPlans_91 rfl ?_
    refine go_callV vX0_394_0 (ct_bestPenny hc) dX0_ofPlans_92 (by assumption) rfl rfl rfl rfl rfl (Nat.le_of_ble_eq_true rfl) (Nat.le_of_ble_eq_true rfl) (Nat.le_of_ble_eq_true rfl) (Nat.le_of_ble_eq_true rfl) (Nat.le_of_ble_eq_true rfl) (kr_k (fun r mi2 mr2 hp => ?_)) kt_k
    obtain ⟨rfl, h1, h2⟩ := hp
    refine go_iret rfl dX0_ofPlans_95 (Nat.le_of_ble_eq_true rfl) (Nat.le_of_ble_eq_true rfl) ?_
    exact ao_k hc h1 h2
  · refine go_tableOut (tgt := 96) dX0_ofPlans_1 (by decide) (by decide) ?_
    refine go_aload_n dX0_ofPlans_96 rfl ?_
    refine go_callV vX0_397_0 (ct_bestChairs hc) dX0_ofPlans_97 (by assumption) rfl rfl rfl rfl rfl (Nat.le_of_ble_eq_true rfl) (Nat.le_of_ble_eq_true rfl) (Nat.le_of_ble_eq_true rfl) (Nat.le_of_ble_eq_true rfl) (Nat.le_of_ble_eq_true rfl) (kr_k (fun r mi2 mr2 hp => ?_)) kt_k
    obtain ⟨rfl, h1, h2⟩ := hp
    refine go_iret rfl dX0_ofPlans_100 (Nat.le_of_ble_eq_true rfl) (Nat.le_of_ble_eq_true rfl) ?_
    exact ao_k hc h1 h2
theorem ct_ofRest {w : Nat} (hw1 : 16 ≤ w) (hw2 : w < 29) (hc : ci_ ty mi mr n x S) : CT_ l D b yX0_ofRest hX0_ofRest (rm_ 12 1000 7000) [.ref x, .int (nI w), .int a, .int c] (ty, mi, mr, n) (ao_ x (ty, mi, mr, n) (dop_ w a c S)) := by
  have a1 := hc.1.1
  have hx := hc.2.1
  have hv := hc.2.2.2.2.1
  have hcs := hc.1
  obtain ⟨-, -, -, -, -, -, -, -, c9, c10, c11, c12, c13, c14, c15, c16, -⟩ := hcs
  have c121 := c12.1
  have c141 := c14.1
  refine ct_of [some (.ref x), some (.int (nI w)), some (.int a), some (.int c)] (by decide) rfl rfl ?_
  refine go_iload_n dX0_ofRest_0 rfl ?_
  by_cases hp22 : w < 22
  · refine go_tableOut (tgt := 191) dX0_ofRest_1 (Or.inl (by rw [nI_toInt (by omega)]; omega)) (by decide) ?_
    refine go_aload_n dX0_ofRest_191 rfl ?_
    refine go_iload_n dX0_ofRest_192 rfl ?_
    refine go_iload_n dX0_ofRest_193 rfl ?_
    refine go_callV vX0_426_0 (ct_ofPlans hw1 hp22 hc) dX0_ofRest_194 (by assumption) rfl rfl rfl rfl rfl (Nat.le_of_ble_eq_true rfl) (Nat.le_of_ble_eq_true rfl) (Nat.le_of_ble_eq_true rfl) (Nat.le_of_ble_eq_true rfl) (Nat.le_of_ble_eq_true rfl) (kr_a (fun r σ2 h => ?_)) kt_a
    refine go_iret rfl dX0_ofRest_197 (Nat.le_of_ble_eq_true rfl) (Nat.le_of_ble_eq_true rfl) ?_
    exact h
  have hw3 : w = 22 ∨ w = 23 ∨ w = 24 ∨ w = 25 ∨ w = 26 ∨ w = 27 ∨ w = 28 := by omega
  rcases hw3 with rfl | rfl | rfl | rfl | rfl | rfl | rfl
  · show G_ l D b _ (ao_ x (ty, mi, mr, n) (op_which a S)) _ _ _ _ _ _ _
    generalize hres : op_which a S = res
    unfold op_which at hres
    refine go_tableIn (off := 43) (tgt := 44) dX0_ofRest_1 (by decide) (by decide) rfl (by decide) ?_
    refine go_iload_n dX0_ofRest_44 rfl ?_
    refine go_callS sX0_376 (ct_mustBeWeeks) dX0_ofRest_45 rfl rfl rfl (Nat.le_of_ble_eq_true rfl) (Nat.le_of_ble_eq_true rfl) (Nat.le_of_ble_eq_true rfl) (Nat.le_of_ble_eq_true rfl) (Nat.le_of_ble_eq_true rfl) (kr_t (fun hn => ?_)) (kt_t (fun z hz o σ2 ht => ?_))
    · rw [wt_ok hn] at hres
      obtain ⟨k, hk1, hk, rfl⟩ := wi_nat (by omega) (by omega) hn
      rw [iN_n (by omega)] at hres
      refine go_aload_n dX0_ofRest_48 rfl ?_
      refine go_iload_n dX0_ofRest_49 rfl ?_
      refine go_callV vX0_404_0 (ct_mostRight hc hk) dX0_ofRest_50 (by assumption) rfl rfl rfl rfl rfl (Nat.le_of_ble_eq_true rfl) (Nat.le_of_ble_eq_true rfl) (Nat.le_of_ble_eq_true rfl) (Nat.le_of_ble_eq_true rfl) (Nat.le_of_ble_eq_true rfl) (kr_k (fun r mi2 mr2 hp => ?_)) kt_k
      obtain ⟨rfl, h1, h2⟩ := hp
      refine go_iret rfl dX0_ofRest_53 (Nat.le_of_ble_eq_true rfl) (Nat.le_of_ble_eq_true rfl) ?_
      rw [← hres]
      exact ao_k hc h1 h2
    · obtain ⟨e, he1, he2⟩ := wt_no (S := S) (k := (.inl (nI (10 * (bx_ S.1 (iN_ a) 35 / 6) + bx_ S.1 (iN_ a) 35 % 6 + 1)), S)) hz
      rw [he2] at hres
      rw [← hres]
      exact ao_t hc he1 ht
  · show G_ l D b _ (ao_ x (ty, mi, mr, n) (op_longer a S)) _ _ _ _ _ _ _
    generalize hres : op_longer a S = res
    unfold op_longer at hres
    refine go_tableIn (off := 53) (tgt := 54) dX0_ofRest_1 (by decide) (by decide) rfl (by decide) ?_
    refine go_iload_n dX0_ofRest_54 rfl ?_
    refine go_callS sX0_376 (ct_mustBeWeeks) dX0_ofRest_55 rfl rfl rfl (Nat.le_of_ble_eq_true rfl) (Nat.le_of_ble_eq_true rfl) (Nat.le_of_ble_eq_true rfl) (Nat.le_of_ble_eq_true rfl) (Nat.le_of_ble_eq_true rfl) (kr_t (fun hn => ?_)) (kt_t (fun z hz o σ2 ht => ?_))
    · rw [wt_ok hn] at hres
      obtain ⟨k, hk1, hk, rfl⟩ := wi_nat (by omega) (by omega) hn
      rw [iN_n (by omega)] at hres
      refine go_aload_n dX0_ofRest_58 rfl ?_
      refine go_iload_n dX0_ofRest_59 rfl ?_
      refine go_callV vX0_407_0 (ct_swingOfLonger hc hk1 hk) dX0_ofRest_60 (by assumption) rfl rfl rfl rfl rfl (Nat.le_of_ble_eq_true rfl) (Nat.le_of_ble_eq_true rfl) (Nat.le_of_ble_eq_true rfl) (Nat.le_of_ble_eq_true rfl) (Nat.le_of_ble_eq_true rfl) (kr_k (fun r mi2 mr2 hp => ?_)) kt_k
      obtain ⟨rfl, h1, h2⟩ := hp
      refine go_iret rfl dX0_ofRest_63 (Nat.le_of_ble_eq_true rfl) (Nat.le_of_ble_eq_true rfl) ?_
      rw [← hres]
      exact ao_k hc h1 h2
    · obtain ⟨e, he1, he2⟩ := wt_no (S := S) (k := (.inl (mo_ (lg2_ S.1) (iN_ a - 1) - le_ (lg2_ S.1) (iN_ a - 1)), S)) hz
      rw [he2] at hres
      rw [← hres]
      exact ao_t hc he1 ht
  · show G_ l D b _ (ao_ x (ty, mi, mr, n) (op_seeds a c S)) _ _ _ _ _ _ _
    generalize hres : op_seeds a c S = res
    unfold op_seeds at hres
    refine go_tableIn (off := 63) (tgt := 64) dX0_ofRest_1 (by decide) (by decide) rfl (by decide) ?_
    refine go_iload_n dX0_ofRest_64 rfl ?_
    refine go_i2l dX0_ofRest_65 ?_
    refine go_lconst (v := (nI 1).toInt64) dX0_ofRest_66 (by decide) ?_
    refine go_ldc2 q930 dX0_ofRest_67 ?_
    refine go_topl (show (20 : Int64) = (nI 20).toInt64 by decide) ?_
    refine go_callS sX0_305 (ct_within) dX0_ofRest_70 rfl rfl rfl (Nat.le_of_ble_eq_true rfl) (Nat.le_of_ble_eq_true rfl) (Nat.le_of_ble_eq_true rfl) (Nat.le_of_ble_eq_true rfl) (Nat.le_of_ble_eq_true rfl) (kr_t (fun hn => ?_)) (kt_t (fun z hz o σ2 ht => ?_))
    · rw [wt_ok hn] at hres
      obtain ⟨k, hk1, hk, rfl⟩ := wi_nat (by omega) (by omega) hn
      rw [iN_n (by omega)] at hres
      refine go_aload_n dX0_ofRest_73 rfl ?_
      refine go_iload_n dX0_ofRest_74 rfl ?_
      refine go_iload_n dX0_ofRest_75 rfl ?_
      refine go_callV vX0_412_0 (ct_bySeeds hc (by omega)) dX0_ofRest_76 (by assumption) rfl rfl rfl rfl rfl (Nat.le_of_ble_eq_true rfl) (Nat.le_of_ble_eq_true rfl) (Nat.le_of_ble_eq_true rfl) (Nat.le_of_ble_eq_true rfl) (Nat.le_of_ble_eq_true rfl) (kr_k (fun r mi2 mr2 hp => ?_)) kt_k
      obtain ⟨rfl, h1, h2⟩ := hp
      refine go_iret rfl dX0_ofRest_79 (Nat.le_of_ble_eq_true rfl) (Nat.le_of_ble_eq_true rfl) ?_
      rw [← hres]
      exact ao_k hc h1 h2
    · obtain ⟨e, he1, he2⟩ := wt_no (S := S) (k := (.inl (sm_ (sf_ S.1 c) (iN_ a)), S)) hz
      rw [he2] at hres
      rw [← hres]
      exact ao_t hc he1 ht
  · show G_ l D b _ (ao_ x (ty, mi, mr, n) (op_row a S)) _ _ _ _ _ _ _
    have l7 := hc.2.2.2.2.2.2.2.2.2.1
    have l12 := hc.2.2.2.2.2.2.2.2.2.2.1
    have l39 := hc.2.2.2.2.2.2.2.2.2.2.2.1
    generalize hres : op_row a S = res
    unfold op_row at hres
    generalize hrn : S.2.2.2.2.1 = rn at l7 l12 l39 hres
    refine go_tableIn (off := 79) (tgt := 80) dX0_ofRest_1 (by decide) (by decide) rfl (by decide) ?_
    refine go_iload_n dX0_ofRest_80 rfl ?_
    refine go_i2l dX0_ofRest_81 ?_
    refine go_lconst (v := (nI 0).toInt64) dX0_ofRest_82 (by decide) ?_
    refine go_ldc2 q939 dX0_ofRest_83 ?_
    refine go_topl (show (99 : Int64) = (nI 99).toInt64 by decide) ?_
    refine go_callS sX0_305 (ct_within) dX0_ofRest_86 rfl rfl rfl (Nat.le_of_ble_eq_true rfl) (Nat.le_of_ble_eq_true rfl) (Nat.le_of_ble_eq_true rfl) (Nat.le_of_ble_eq_true rfl) (Nat.le_of_ble_eq_true rfl) (kr_t (fun hn => ?_)) (kt_t (fun z hz o σ2 ht => ?_))
    · rw [wt_ok hn] at hres
      obtain ⟨j, -, hj, rfl⟩ := wi_nat (by omega) (by omega) hn
      refine go_aload_n dX0_ofRest_89 rfl ?_
      refine go_getI fX0_274_0 dX0_ofRest_90 (by assumption) rfl ?_
      rw [l7]
      refine go_bipush (v := nI 12) dX0_ofRest_93 (by decide) ?_
      refine go_ticmp_ge (m := nI 0) (n := nI 1) (t1 := 102) (t2 := 103) dX0_ofRest_95 (by decide) dX0_ofRest_98 (by decide) dX0_ofRest_99 (by decide) dX0_ofRest_102 (by decide) rfl ?_
      have e1 : (if nI 12 ≤ nI rn then nI 0 else nI 1) = bo_ (decide (rn < 12)) := by
        by_cases h : rn < 12
        · rw [if_neg (nI_ge h (by omega)), decide_eq_true h]; rfl
        · rw [if_pos (nI_le (by omega) (by omega)), decide_eq_false h]; rfl
      rw [e1]
      refine go_bipush (v := (-6)) dX0_ofRest_103 (by decide) ?_
      refine go_callS sX0_9 (ct_must) dX0_ofRest_105 rfl rfl rfl (Nat.le_of_ble_eq_true rfl) (Nat.le_of_ble_eq_true rfl) (Nat.le_of_ble_eq_true rfl) (Nat.le_of_ble_eq_true rfl) (Nat.le_of_ble_eq_true rfl) (kr_t (fun hn2 => ?_)) (kt_t (fun z hz o σ2 ht => ?_))
      · have h80 := qt_ok hn2
        have h8 := of_decide_eq_true h80
        rw [mu_ok h80] at hres
        refine go_aload_n dX0_ofRest_108 rfl ?_
        refine go_getR fX0_83_0 dX0_ofRest_109 (by assumption) rfl (by assumption) ?_
        refine go_aload_n dX0_ofRest_112 rfl ?_
        refine go_getI fX0_274_0 dX0_ofRest_113 (by assumption) rfl ?_
        rw [l7]
        refine go_iload_n dX0_ofRest_116 rfl ?_
        refine go_i2b dX0_ofRest_117 ?_
        rw [i2b_id j (by omega)]
        refine go_bast dX0_ofRest_118 (by assumption) ⟨rfl, by omega, by decide⟩ ?_
        rw [narb_id j (by omega)]
        refine go_aload_n dX0_ofRest_119 rfl ?_
        refine go_dup dX0_ofRest_120 rfl ?_
        refine go_getI fX0_274_0 dX0_ofRest_121 (by assumption) rfl ?_
        rw [um_a (by omega), l7]
        refine go_iconst (v := nI 1) dX0_ofRest_124 (by decide) ?_
        refine go_iadd dX0_ofRest_125 ?_
        rw [nI_add]
        refine go_putI fX0_274_0 p0_7 rfl rfl rfl dX0_ofRest_126 (by assumption) ?_
        refine go_aload_n dX0_ofRest_129 rfl ?_
        refine go_getI fX0_274_0 dX0_ofRest_130 (by assumption) rfl ?_
        rw [um_s]
        refine go_iret rfl dX0_ofRest_133 (Nat.le_of_ble_eq_true rfl) (Nat.le_of_ble_eq_true rfl) ?_
        rw [← hres]
        refine ao_s (hc.row (fun a j h1 h2 h3 => ?_) um_s (by omega) (fun k hk => ?_)) (fun a j h1 h2 => ⟨?_, rfl⟩)
        · exact (if_neg h2).trans (um_a h3)
        · refine (um_a (by omega)).trans ?_
          unfold fu_
          by_cases h : k = rn
          · subst h
            rw [um_s, if_pos rfl]
          · rw [um_k h, if_neg h]
            exact l39 k (by omega)
        · exact (um_a (by omega)).trans (um_a (by omega))
      · obtain ⟨h1, rfl⟩ := qt_in hz
        rw [mu_no h1] at hres
        rw [← hres]
        exact ao_t hc (by decide) ht
    · obtain ⟨e, he1, he2⟩ := wt_no (S := S) (k := mu_ (decide (rn < 12)) 6 S (.inl (nI (rn + 1)), s_row S (fu_ S.2.2.2.1 rn a) (rn + 1))) hz
      rw [he2] at hres
      rw [← hres]
      exact ao_t hc he1 ht
  · refine go_tableIn (off := 133) (tgt := 134) dX0_ofRest_1 (by decide) (by decide) rfl (by decide) ?_
    refine go_aload_n dX0_ofRest_134 rfl ?_
    refine go_callV vX0_417_0 (ct_judgeRow hc) dX0_ofRest_135 (by assumption) rfl rfl rfl rfl rfl (Nat.le_of_ble_eq_true rfl) (Nat.le_of_ble_eq_true rfl) (Nat.le_of_ble_eq_true rfl) (Nat.le_of_ble_eq_true rfl) (Nat.le_of_ble_eq_true rfl) (kr_k (fun r mi2 mr2 hp => ?_)) kt_k
    obtain ⟨rfl, h1, h2⟩ := hp
    refine go_iret rfl dX0_ofRest_138 (Nat.le_of_ble_eq_true rfl) (Nat.le_of_ble_eq_true rfl) ?_
    exact ao_s h1 h2
  · refine go_tableIn (off := 138) (tgt := 139) dX0_ofRest_1 (by decide) (by decide) rfl (by decide) ?_
    refine go_aload_n dX0_ofRest_139 rfl ?_
    refine go_iconst (v := nI 1) dX0_ofRest_140 (by decide) ?_
    refine go_putI fX0_420_0 p0_5 rfl rfl rfl dX0_ofRest_141 (by assumption) ?_
    refine go_aload_n dX0_ofRest_144 rfl ?_
    refine go_getR fX0_80_0 dX0_ofRest_145 (by assumption) rfl (by assumption) ?_
    refine go_aload_n dX0_ofRest_148 rfl ?_
    refine go_getR fX0_73_0 dX0_ofRest_149 (by assumption) rfl (by assumption) ?_
    have hc1 : tr_ ty (um_ mi x 5 (nI 1)) mr x (x + 15) S.1 := tr_fr hc.2.2.2.1 (fun _ _ _ h => h) (fun a j h1 _ => um_a (by omega)) (fun _ _ _ _ => rfl) (by omega)
    refine go_callV vX0_128_15 (ct_set (x := x) c14 c12 hc1 hv (by omega) (by omega) (by omega) hc.2.2.2.2.2.1) dX0_ofRest_152 (by assumption) rfl rfl rfl rfl rfl (Nat.le_of_ble_eq_true rfl) (Nat.le_of_ble_eq_true rfl) (Nat.le_of_ble_eq_true rfl) (Nat.le_of_ble_eq_true rfl) (Nat.le_of_ble_eq_true rfl) (kr_w2 (fun m2 r2 hp => ?_)) kt_w2
    obtain ⟨g1, g2, g3, g4⟩ := hp
    have w2 : r2 x 2 = some (x + 15) := (g3 _ _ (by omega) (by omega)).trans c9
    refine go_aload_n dX0_ofRest_155 rfl ?_
    refine go_getR fX0_73_0 dX0_ofRest_156 (by assumption) rfl (by assumption) ?_
    refine go_getI fX0_424_15 dX0_ofRest_159 (by assumption) rfl ?_
    rw [g2 _ _ (by omega), hc1.2.2.2.2.1]
    refine go_iret rfl dX0_ofRest_162 (Nat.le_of_ble_eq_true rfl) (Nat.le_of_ble_eq_true rfl) ?_
    refine ao_s (hc.img (fun a j h1 h2 h3 => (g2 a j (by omega)).trans (if_neg h2)) ((g2 _ _ (by omega)).trans um_s) g3 g1 hv g4) (fun a j h1 h2 => ⟨(g2 a j (by omega)).trans (um_a (by omega)), g3 a j (by omega) (by omega)⟩)
  · show G_ l D b _ (ao_ x (ty, mi, mr, n) (mu_ S.2.1 3 S (.inl (S.2.2.1 3), s_town S S.2.2.1))) _ _ _ _ _ _ _
    generalize hres : mu_ S.2.1 3 S (.inl (S.2.2.1 3), s_town S S.2.2.1) = res
    refine go_tableIn (off := 162) (tgt := 163) dX0_ofRest_1 (by decide) (by decide) rfl (by decide) ?_
    refine go_aload_n dX0_ofRest_163 rfl ?_
    refine go_getI fX0_420_0 dX0_ofRest_164 (by assumption) rfl ?_
    rw [hc.2.2.2.2.2.2.1]
    refine go_bipush (v := (-3)) dX0_ofRest_167 (by decide) ?_
    refine go_callS sX0_9 (ct_must) dX0_ofRest_169 rfl rfl rfl (Nat.le_of_ble_eq_true rfl) (Nat.le_of_ble_eq_true rfl) (Nat.le_of_ble_eq_true rfl) (Nat.le_of_ble_eq_true rfl) (Nat.le_of_ble_eq_true rfl) (kr_t (fun hn => ?_)) (kt_t (fun z hz o σ2 ht => ?_))
    · have h1 := qt_ok hn
      rw [mu_ok h1] at hres
      obtain ⟨h2, h3⟩ := hc.2.2.2.2.2.2.2.1 h1
      refine go_aload_n dX0_ofRest_172 rfl ?_
      refine go_getR fX0_73_0 dX0_ofRest_173 (by assumption) rfl (by assumption) ?_
      refine go_aload_n dX0_ofRest_176 rfl ?_
      refine go_getR fX0_80_0 dX0_ofRest_177 (by assumption) rfl (by assumption) ?_
      refine go_callV vX0_128_15 (ct_set (x := x) c12 c14 h2 h3 (by omega) (by omega) (by omega) hc.2.2.2.2.2.2.2.2.1) dX0_ofRest_180 (by assumption) rfl rfl rfl rfl rfl (Nat.le_of_ble_eq_true rfl) (Nat.le_of_ble_eq_true rfl) (Nat.le_of_ble_eq_true rfl) (Nat.le_of_ble_eq_true rfl) (Nat.le_of_ble_eq_true rfl) (kr_w2 (fun m2 r2 hp => ?_)) kt_w2
      obtain ⟨g1, g2, g3, g4⟩ := hp
      have w2 : r2 x 2 = some (x + 15) := (g3 _ _ (by omega) (by omega)).trans c9
      refine go_aload_n dX0_ofRest_183 rfl ?_
      refine go_getR fX0_73_0 dX0_ofRest_184 (by assumption) rfl (by assumption) ?_
      refine go_getI fX0_424_15 dX0_ofRest_187 (by assumption) rfl ?_
      rw [g1.2.2.2.2.1]
      refine go_iret rfl dX0_ofRest_190 (Nat.le_of_ble_eq_true rfl) (Nat.le_of_ble_eq_true rfl) ?_
      rw [← hres]
      exact ao_s (hc.town (fun a j _ _ h3 => g2 a j (by omega)) (fun a j _ _ _ y3 y4 => g3 a j y3 y4) g1 h3 g4) (fun a j h1 h2 => ⟨g2 a j (by omega), g3 a j (by omega) (by omega)⟩)
    · obtain ⟨h1, rfl⟩ := qt_in hz
      rw [mu_no h1] at hres
      rw [← hres]
      exact ao_t hc (by decide) ht
theorem ct_doIt {w : Nat} (hw : w < 29) (hc : ci_ ty mi mr n x S) : CT_ l D b yX0_doIt hX0_doIt (rm_ 13 1000 7000) [.ref x, .int (nI w), .int a, .int c] (ty, mi, mr, n) (ao_ x (ty, mi, mr, n) (dop_ w a c S)) := by
  have a1 := hc.1.1
  refine ct_of [some (.ref x), some (.int (nI w)), some (.int a), some (.int c)] (by decide) rfl rfl ?_
  refine go_iload_n dX0_doIt_0 rfl ?_
  refine go_bipush (v := nI 10) dX0_doIt_1 (by decide) ?_
  by_cases h10 : w < 10
  · refine go_icmp_ge (tgt := 16) dX0_doIt_3 (by decide) (fun h0_ => absurd h0_ (nI_ge (by omega) (by omega))) (fun _ => ?_)
    refine go_aload_n dX0_doIt_6 rfl ?_
    refine go_iload_n dX0_doIt_7 rfl ?_
    refine go_iload_n dX0_doIt_8 rfl ?_
    refine go_iload_n dX0_doIt_9 rfl ?_
    refine go_callV vX0_277_0 (ct_ofTown h10 hc) dX0_doIt_10 (by assumption) rfl rfl rfl rfl rfl (Nat.le_of_ble_eq_true rfl) (Nat.le_of_ble_eq_true rfl) (Nat.le_of_ble_eq_true rfl) (Nat.le_of_ble_eq_true rfl) (Nat.le_of_ble_eq_true rfl) (kr_a (fun r σ2 h => ?_)) kt_a
    refine go_goto (tgt := 39) dX0_doIt_13 (by decide) ?_
    refine go_iret rfl dX0_doIt_39 (Nat.le_of_ble_eq_true rfl) (Nat.le_of_ble_eq_true rfl) ?_
    exact h
  · refine go_icmp_ge (tgt := 16) dX0_doIt_3 (by decide) (fun _ => ?_) (fun h0_ => absurd (nI_le (by omega) (by omega)) h0_)
    refine go_iload_n dX0_doIt_16 rfl ?_
    refine go_bipush (v := nI 16) dX0_doIt_17 (by decide) ?_
    by_cases h16 : w < 16
    · refine go_icmp_ge (tgt := 32) dX0_doIt_19 (by decide) (fun h0_ => absurd h0_ (nI_ge (by omega) (by omega))) (fun _ => ?_)
      refine go_aload_n dX0_doIt_22 rfl ?_
      refine go_iload_n dX0_doIt_23 rfl ?_
      refine go_iload_n dX0_doIt_24 rfl ?_
      refine go_iload_n dX0_doIt_25 rfl ?_
      refine go_callV vX0_281_0 (ct_ofWeeks (by omega) h16 hc) dX0_doIt_26 (by assumption) rfl rfl rfl rfl rfl (Nat.le_of_ble_eq_true rfl) (Nat.le_of_ble_eq_true rfl) (Nat.le_of_ble_eq_true rfl) (Nat.le_of_ble_eq_true rfl) (Nat.le_of_ble_eq_true rfl) (kr_a (fun r σ2 h => ?_)) kt_a
      refine go_goto (tgt := 39) dX0_doIt_29 (by decide) ?_
      refine go_iret rfl dX0_doIt_39 (Nat.le_of_ble_eq_true rfl) (Nat.le_of_ble_eq_true rfl) ?_
      exact h
    · refine go_icmp_ge (tgt := 32) dX0_doIt_19 (by decide) (fun _ => ?_) (fun h0_ => absurd (nI_le (by omega) (by omega)) h0_)
      refine go_aload_n dX0_doIt_32 rfl ?_
      refine go_iload_n dX0_doIt_33 rfl ?_
      refine go_iload_n dX0_doIt_34 rfl ?_
      refine go_iload_n dX0_doIt_35 rfl ?_
      refine go_callV vX0_284_0 (ct_ofRest (by omega) hw hc) dX0_doIt_36 (by assumption) rfl rfl rfl rfl rfl (Nat.le_of_ble_eq_true rfl) (Nat.le_of_ble_eq_true rfl) (Nat.le_of_ble_eq_true rfl) (Nat.le_of_ble_eq_true rfl) (Nat.le_of_ble_eq_true rfl) (kr_a (fun r σ2 h => ?_)) kt_a
      refine go_iret rfl dX0_doIt_39 (Nat.le_of_ble_eq_true rfl) (Nat.le_of_ble_eq_true rfl) ?_
      exact h
end OFREST
