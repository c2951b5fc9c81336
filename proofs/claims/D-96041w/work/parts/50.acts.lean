/-! THE COMPONENT'S ACTS -/
set_option maxRecDepth 100000
theorem aa_sk {x n : Nat} {mi : mi_} {v : tv_} : sk_ x n mi (aa_ mi v (x + 15)) := fun a j _ h2 => by
  unfold aa_
  rw [if_neg (by unfold sc_ at h2; omega), if_neg (by unfold sc_ at h2; omega)]
theorem aa_g {mi : mi_} {v : tv_} {t s : Nat} (h : s < sN v) : aa_ mi v t (t + 6) s = bo_ (gf_ v s) := by
  unfold aa_
  rw [if_neg (by omega), if_pos ⟨rfl, h⟩]
theorem bo_ne {p : Bool} (h : ¬ bo_ p = 0) : p = true := by
  cases p with
  | true => rfl
  | false => exact absurd rfl h
theorem qt_in {c : Bool} {z y : Int32} (h : (if c = true then none else some z) = some y) : ¬ c = true ∧ y = z := by
  by_cases hc : c = true
  · rw [if_pos hc] at h; cases h
  · rw [if_neg hc] at h; cases h; exact ⟨hc, rfl⟩
theorem qt_ok {c : Bool} {z : Int32} (h : (if c = true then none else some z) = none) : c = true := by
  by_cases hc : c = true
  · exact hc
  · rw [if_neg hc] at h; cases h
section ACTS
variable {l : Launch} {D : dd_} {b : Nat} {ty : ty_} {mi : mi_} {mr : mr_} {n x : Nat} {S : cS_} {a c : Int32}
theorem go_gkind {k : Nat} {Q : Outcome → so_ → Prop} {ls : List (Option Value)} {kc ks : Nat} (hks : ks_ ty x) (hk : k < 6) (hc : kc ≤ 2) (hs : ks ≤ 14) (K : G_ l D b (RX0, "sortTold", 4, some .int, rm_ 10 2 14, []) Q cX0_sortTold 76 ls [.int (nI k)] (ty, mi, mr, n) 2 14) : G_ l D b (RX0, "sortTold", 4, some .int, rm_ 10 2 14, []) Q cX0_sortTold 73 ls [.ref (x + 9 + k)] (ty, mi, mr, n) kc ks := by
  refine go_widen hc hs ?_
  have hT := (hks k hk).2
  match k, hk, hT, K with
  | 0, _, hT, K =>
    refine go_callU uX0_320_9 (ct_kind9) dX0_sortTold_73 (by assumption) rfl rfl rfl rfl rfl (Nat.le_of_ble_eq_true rfl) (Nat.le_of_ble_eq_true rfl) (Nat.le_of_ble_eq_true rfl) (Nat.le_of_ble_eq_true rfl) (Nat.le_of_ble_eq_true rfl) (kr_i ?_) kt_i
    exact K
  | 1, _, hT, K =>
    refine go_callU uX0_320_10 (ct_kind10) dX0_sortTold_73 (by assumption) rfl rfl rfl rfl rfl (Nat.le_of_ble_eq_true rfl) (Nat.le_of_ble_eq_true rfl) (Nat.le_of_ble_eq_true rfl) (Nat.le_of_ble_eq_true rfl) (Nat.le_of_ble_eq_true rfl) (kr_i ?_) kt_i
    exact K
  | 2, _, hT, K =>
    refine go_callU uX0_320_11 (ct_kind11) dX0_sortTold_73 (by assumption) rfl rfl rfl rfl rfl (Nat.le_of_ble_eq_true rfl) (Nat.le_of_ble_eq_true rfl) (Nat.le_of_ble_eq_true rfl) (Nat.le_of_ble_eq_true rfl) (Nat.le_of_ble_eq_true rfl) (kr_i ?_) kt_i
    exact K
  | 3, _, hT, K =>
    refine go_callU uX0_320_12 (ct_kind12) dX0_sortTold_73 (by assumption) rfl rfl rfl rfl rfl (Nat.le_of_ble_eq_true rfl) (Nat.le_of_ble_eq_true rfl) (Nat.le_of_ble_eq_true rfl) (Nat.le_of_ble_eq_true rfl) (Nat.le_of_ble_eq_true rfl) (kr_i ?_) kt_i
    exact K
  | 4, _, hT, K =>
    refine go_callU uX0_320_13 (ct_kind13) dX0_sortTold_73 (by assumption) rfl rfl rfl rfl rfl (Nat.le_of_ble_eq_true rfl) (Nat.le_of_ble_eq_true rfl) (Nat.le_of_ble_eq_true rfl) (Nat.le_of_ble_eq_true rfl) (Nat.le_of_ble_eq_true rfl) (kr_i ?_) kt_i
    exact K
  | 5, _, hT, K =>
    refine go_callU uX0_320_14 (ct_kind14) dX0_sortTold_73 (by assumption) rfl rfl rfl rfl rfl (Nat.le_of_ble_eq_true rfl) (Nat.le_of_ble_eq_true rfl) (Nat.le_of_ble_eq_true rfl) (Nat.le_of_ble_eq_true rfl) (Nat.le_of_ble_eq_true rfl) (kr_i ?_) kt_i
    exact K
  | k + 6, h, _, _ => exact absurd h (by omega)
theorem ct_sortTold2 (hc : ci_ ty mi mr n x S) : CT_ l D b yX0_sortTold hX0_sortTold (rm_ 10 2 14) [.ref x, .int a, .int c] (ty, mi, mr, n) (ao_ x (ty, mi, mr, n) (op_sort a c S)) := by
  have a1 := hc.1.1
  have hv := hc.2.2.2.2.1
  have hs4 := hv.2.1
  have a2 := hc.1.2.2.2.2.2.2.2.2.1
  have ts := hc.1.2.2.2.2.2.2.2.2.2.2.2.1
  have a3 := ts.1
  have a4 := ts.2.1
  have a5 := ts.2.2.2.2.2.2.2.2.1
  generalize hres : op_sort a c S = res
  unfold op_sort at hres
  refine ct_of [some (.ref x), some (.int a), some (.int c), none] (by decide) rfl rfl ?_
  refine go_aload_n dX0_sortTold_0 rfl ?_
  refine go_iload_n dX0_sortTold_1 rfl ?_
  refine go_callV vX0_311_0 (ct_mustBeSort hc) dX0_sortTold_2 (by assumption) rfl rfl rfl rfl rfl (Nat.le_of_ble_eq_true rfl) (Nat.le_of_ble_eq_true rfl) (Nat.le_of_ble_eq_true rfl) (Nat.le_of_ble_eq_true rfl) (Nat.le_of_ble_eq_true rfl) (kr_t (fun hn => ?_)) (kt_t (fun z hz o σ2 ht => ?_))
  · have h1 := qt_ok hn
    rw [mu_ok h1] at hres
    obtain ⟨s, hs, rfl⟩ := in_nat (by omega) h1
    obtain ⟨q, q1, g1, g2, g3, g4, g5, g6, g7, g8⟩ := hc.2.2.2.1.2.2.2.2.2.2.1 s hs
    refine go_iload_n dX0_sortTold_5 rfl ?_
    refine go_i2l dX0_sortTold_6 ?_
    refine go_lconst (v := (nI 0).toInt64) dX0_sortTold_7 (by decide) ?_
    refine go_ldc2 q711 dX0_sortTold_8 ?_
    refine go_topl (show (5 : Int64) = (nI 5).toInt64 by decide) ?_
    refine go_callS sX0_13 (ct_in (d := 0)) dX0_sortTold_11 rfl rfl rfl (Nat.le_of_ble_eq_true rfl) (Nat.le_of_ble_eq_true rfl) (Nat.le_of_ble_eq_true rfl) (Nat.le_of_ble_eq_true rfl) (Nat.le_of_ble_eq_true rfl) (kr_i ?_) kt_i
    refine go_bipush (v := (-2)) dX0_sortTold_14 (by decide) ?_
    refine go_callS sX0_9 (ct_must) dX0_sortTold_16 rfl rfl rfl (Nat.le_of_ble_eq_true rfl) (Nat.le_of_ble_eq_true rfl) (Nat.le_of_ble_eq_true rfl) (Nat.le_of_ble_eq_true rfl) (Nat.le_of_ble_eq_true rfl) (kr_t (fun hn => ?_)) (kt_t (fun z hz o σ2 ht => ?_))
    · have h2 := qt_ok hn
      rw [mu_ok h2] at hres
      obtain ⟨w, hw, rfl⟩ := in_nat2 (by omega) h2
      rw [iN_n (by omega), iN_n (by omega)] at hres
      refine go_aload_n dX0_sortTold_19 rfl ?_
      refine go_getR fX0_73_0 dX0_sortTold_20 (by assumption) rfl (by assumption) ?_
      refine go_getR fX0_180_15 dX0_sortTold_23 (by assumption) rfl (by assumption) ?_
      refine go_iload_n dX0_sortTold_26 rfl ?_
      refine go_aald dX0_sortTold_27 (by assumption) ⟨rfl, by omega, by decide⟩ (by assumption) ?_
      refine go_astore_n (ls2 := [_, _, _, _]) dX0_sortTold_28 rfl rfl ?_
      refine go_iload_n dX0_sortTold_29 rfl ?_
      match w, hw, hres with
      | 0, _, hres =>
        refine go_tableIn (off := 34) (tgt := 64) dX0_sortTold_30 (by decide) (by decide) rfl (by decide) ?_
        refine go_aload_n dX0_sortTold_64 rfl ?_
        refine go_getI fX0_184_25 dX0_sortTold_65 (by assumption) rfl ?_
        rw [g3]
        refine go_iret rfl dX0_sortTold_68 (Nat.le_of_ble_eq_true rfl) (Nat.le_of_ble_eq_true rfl) ?_
        rw [← hres]
        exact ao_0 hc
      | 1, _, hres =>
        have e1 := (hv.2.2.2.2.2.2.2.1 s hs).2.1
        refine go_tableIn (off := 39) (tgt := 69) dX0_sortTold_30 (by decide) (by decide) rfl (by decide) ?_
        refine go_aload_n dX0_sortTold_69 rfl ?_
        refine go_getR fX0_316_25 dX0_sortTold_70 (by assumption) rfl (by assumption) ?_
        refine go_gkind hc.1.2.1 (hv.2.2.2.2.2.2.2.1 s hs).2.2.1 (Nat.le_of_ble_eq_true rfl) (Nat.le_of_ble_eq_true rfl) ?_
        rw [← e1]
        refine go_iret rfl dX0_sortTold_76 (Nat.le_of_ble_eq_true rfl) (Nat.le_of_ble_eq_true rfl) ?_
        rw [← hres]
        exact ao_0 hc
      | 2, _, hres =>
        refine go_tableIn (off := 47) (tgt := 77) dX0_sortTold_30 (by decide) (by decide) rfl (by decide) ?_
        refine go_aload_n dX0_sortTold_77 rfl ?_
        refine go_getI fX0_323_25 dX0_sortTold_78 (by assumption) rfl ?_
        rw [g4]
        refine go_iret rfl dX0_sortTold_81 (Nat.le_of_ble_eq_true rfl) (Nat.le_of_ble_eq_true rfl) ?_
        rw [← hres]
        exact ao_0 hc
      | 3, _, hres =>
        refine go_tableIn (off := 52) (tgt := 82) dX0_sortTold_30 (by decide) (by decide) rfl (by decide) ?_
        refine go_aload_n dX0_sortTold_82 rfl ?_
        refine go_getI fX0_326_25 dX0_sortTold_83 (by assumption) rfl ?_
        rw [g5]
        refine go_iret rfl dX0_sortTold_86 (Nat.le_of_ble_eq_true rfl) (Nat.le_of_ble_eq_true rfl) ?_
        rw [← hres]
        exact ao_0 hc
      | 4, _, hres =>
        refine go_tableIn (off := 57) (tgt := 87) dX0_sortTold_30 (by decide) (by decide) rfl (by decide) ?_
        refine go_aload_n dX0_sortTold_87 rfl ?_
        refine go_getI fX0_329_25 dX0_sortTold_88 (by assumption) rfl ?_
        rw [g6]
        refine go_iret rfl dX0_sortTold_91 (Nat.le_of_ble_eq_true rfl) (Nat.le_of_ble_eq_true rfl) ?_
        rw [← hres]
        exact ao_0 hc
      | 5, _, hres =>
        refine go_tableOut (tgt := 92) dX0_sortTold_30 (by decide) (by decide) ?_
        refine go_aload_n dX0_sortTold_92 rfl ?_
        refine go_getI fX0_189_25 dX0_sortTold_93 (by assumption) rfl ?_
        rw [g7]
        refine go_iret rfl dX0_sortTold_96 (Nat.le_of_ble_eq_true rfl) (Nat.le_of_ble_eq_true rfl) ?_
        rw [← hres]
        exact ao_0 hc
      | w + 6, hw, _ => exact absurd hw (by omega)
    · obtain ⟨h2, rfl⟩ := qt_in hz
      rw [mu_no h2] at hres
      rw [← hres]
      exact ao_t hc (by decide) ht
  · obtain ⟨h1, rfl⟩ := qt_in hz
    rw [mu_no h1] at hres
    rw [← hres]
    exact ao_t hc (by decide) ht
theorem go_rkind {k : Nat} {Q : Outcome → so_ → Prop} {ls : List (Option Value)} {kc ks : Nat} (hks : ks_ ty x) (hk : k < 6) (hc : kc ≤ 2) (hs : ks ≤ 14) (K : G_ l D b (RX0, "ruleTold", 3, some .int, rm_ 9 2 14, []) Q cX0_ruleTold 41 ls [.int (nI k)] (ty, mi, mr, n) 2 14) : G_ l D b (RX0, "ruleTold", 3, some .int, rm_ 9 2 14, []) Q cX0_ruleTold 38 ls [.ref (x + 2 + k)] (ty, mi, mr, n) kc ks := by
  refine go_widen hc hs ?_
  have hT := (hks k hk).1
  match k, hk, hT, K with
  | 0, _, hT, K =>
    refine go_callU uX0_337_2 (ct_kind2) dX0_ruleTold_38 (by assumption) rfl rfl rfl rfl rfl (Nat.le_of_ble_eq_true rfl) (Nat.le_of_ble_eq_true rfl) (Nat.le_of_ble_eq_true rfl) (Nat.le_of_ble_eq_true rfl) (Nat.le_of_ble_eq_true rfl) (kr_i ?_) kt_i
    exact K
  | 1, _, hT, K =>
    refine go_callU uX0_337_3 (ct_kind3) dX0_ruleTold_38 (by assumption) rfl rfl rfl rfl rfl (Nat.le_of_ble_eq_true rfl) (Nat.le_of_ble_eq_true rfl) (Nat.le_of_ble_eq_true rfl) (Nat.le_of_ble_eq_true rfl) (Nat.le_of_ble_eq_true rfl) (kr_i ?_) kt_i
    exact K
  | 2, _, hT, K =>
    refine go_callU uX0_337_4 (ct_kind4) dX0_ruleTold_38 (by assumption) rfl rfl rfl rfl rfl (Nat.le_of_ble_eq_true rfl) (Nat.le_of_ble_eq_true rfl) (Nat.le_of_ble_eq_true rfl) (Nat.le_of_ble_eq_true rfl) (Nat.le_of_ble_eq_true rfl) (kr_i ?_) kt_i
    exact K
  | 3, _, hT, K =>
    refine go_callU uX0_337_5 (ct_kind5) dX0_ruleTold_38 (by assumption) rfl rfl rfl rfl rfl (Nat.le_of_ble_eq_true rfl) (Nat.le_of_ble_eq_true rfl) (Nat.le_of_ble_eq_true rfl) (Nat.le_of_ble_eq_true rfl) (Nat.le_of_ble_eq_true rfl) (kr_i ?_) kt_i
    exact K
  | 4, _, hT, K =>
    refine go_callU uX0_337_6 (ct_kind6) dX0_ruleTold_38 (by assumption) rfl rfl rfl rfl rfl (Nat.le_of_ble_eq_true rfl) (Nat.le_of_ble_eq_true rfl) (Nat.le_of_ble_eq_true rfl) (Nat.le_of_ble_eq_true rfl) (Nat.le_of_ble_eq_true rfl) (kr_i ?_) kt_i
    exact K
  | 5, _, hT, K =>
    refine go_callU uX0_337_7 (ct_kind7) dX0_ruleTold_38 (by assumption) rfl rfl rfl rfl rfl (Nat.le_of_ble_eq_true rfl) (Nat.le_of_ble_eq_true rfl) (Nat.le_of_ble_eq_true rfl) (Nat.le_of_ble_eq_true rfl) (Nat.le_of_ble_eq_true rfl) (kr_i ?_) kt_i
    exact K
  | k + 6, h, _, _ => exact absurd h (by omega)
theorem ct_ruleTold2 (hc : ci_ ty mi mr n x S) : CT_ l D b yX0_ruleTold hX0_ruleTold (rm_ 9 2 14) [.ref x, .int a, .int c] (ty, mi, mr, n) (ao_ x (ty, mi, mr, n) (op_rule a c S)) := by
  have a1 := hc.1.1
  have hv := hc.2.2.2.2.1
  have hr6 := hv.2.2.2.1
  have a2 := hc.1.2.2.2.2.2.2.2.2.1
  have ts := hc.1.2.2.2.2.2.2.2.2.2.2.2.1
  have ts0 := ts
  obtain ⟨a3, a4, a5, a6, a7, -, -, -, a9, a10, a11, a12, -⟩ := ts
  generalize hres : op_rule a c S = res
  unfold op_rule at hres
  refine ct_of [some (.ref x), some (.int a), some (.int c)] (by decide) rfl rfl ?_
  refine go_iload_n dX0_ruleTold_0 rfl ?_
  refine go_aload_n dX0_ruleTold_1 rfl ?_
  refine go_getR fX0_73_0 dX0_ruleTold_2 (by assumption) rfl (by assumption) ?_
  refine go_getI fX0_252_15 dX0_ruleTold_5 (by assumption) rfl ?_
  rw [hc.2.2.2.1.2.2.1.trans hv.2.2.1]
  refine go_callS sX0_300 (ct_mustBe) dX0_ruleTold_8 rfl rfl rfl (Nat.le_of_ble_eq_true rfl) (Nat.le_of_ble_eq_true rfl) (Nat.le_of_ble_eq_true rfl) (Nat.le_of_ble_eq_true rfl) (Nat.le_of_ble_eq_true rfl) (kr_t (fun hn => ?_)) (kt_t (fun z hz o σ2 ht => ?_))
  · have h1 : isR_ a S.1 = true := qt_ok hn
    rw [mu_ok h1] at hres
    obtain ⟨s, hs, rfl⟩ := in_nat (by omega) h1
    obtain ⟨g1, g2, g3⟩ := hc.2.2.2.1.2.2.2.2.2.2.2.1 s hs
    refine go_iload_n dX0_ruleTold_11 rfl ?_
    refine go_i2l dX0_ruleTold_12 ?_
    refine go_lconst (v := (nI 0).toInt64) dX0_ruleTold_13 (by decide) ?_
    refine go_ldc2 q737 dX0_ruleTold_14 ?_
    refine go_topl (show (3 : Int64) = (nI 3).toInt64 by decide) ?_
    refine go_callS sX0_13 (ct_in (d := 0)) dX0_ruleTold_17 rfl rfl rfl (Nat.le_of_ble_eq_true rfl) (Nat.le_of_ble_eq_true rfl) (Nat.le_of_ble_eq_true rfl) (Nat.le_of_ble_eq_true rfl) (Nat.le_of_ble_eq_true rfl) (kr_i ?_) kt_i
    refine go_bipush (v := (-2)) dX0_ruleTold_20 (by decide) ?_
    refine go_callS sX0_9 (ct_must) dX0_ruleTold_22 rfl rfl rfl (Nat.le_of_ble_eq_true rfl) (Nat.le_of_ble_eq_true rfl) (Nat.le_of_ble_eq_true rfl) (Nat.le_of_ble_eq_true rfl) (Nat.le_of_ble_eq_true rfl) (kr_t (fun hn => ?_)) (kt_t (fun z hz o σ2 ht => ?_))
    · have h2 := qt_ok hn
      rw [mu_ok h2] at hres
      obtain ⟨w, hw, rfl⟩ := in_nat2 (by omega) h2
      rw [iN_n (by omega), iN_n (by omega)] at hres
      refine go_iload_n dX0_ruleTold_25 rfl ?_
      match w, hw, hres with
      | 0, _, hres =>
        have e1 := (hv.2.2.2.2.2.2.2.2.1 s hs).1
        rw [if_neg (by decide)] at hres
        refine go_if_ne (tgt := 44) dX0_ruleTold_26 (by decide) (fun h0_ => absurd (rfl) h0_) (fun _ => ?_)
        refine go_aload_n dX0_ruleTold_29 rfl ?_
        refine go_getR fX0_73_0 dX0_ruleTold_30 (by assumption) rfl (by assumption) ?_
        refine go_getR fX0_334_15 dX0_ruleTold_33 (by assumption) rfl (by assumption) ?_
        refine go_iload_n dX0_ruleTold_36 rfl ?_
        refine go_aald dX0_ruleTold_37 (by assumption) ⟨rfl, by omega, by decide⟩ (by assumption) ?_
        refine go_rkind hc.1.2.1 (hv.2.2.2.2.2.2.2.2.1 s hs).2.1 (Nat.le_of_ble_eq_true rfl) (Nat.le_of_ble_eq_true rfl) ?_
        rw [← e1]
        refine go_goto (tgt := 86) dX0_ruleTold_41 (by decide) ?_
        refine go_iret rfl dX0_ruleTold_86 (Nat.le_of_ble_eq_true rfl) (Nat.le_of_ble_eq_true rfl) ?_
        rw [← hres]
        exact ao_0 hc
      | 1, _, hres =>
        rw [if_neg (by decide)] at hres
        refine go_if_ne (tgt := 44) dX0_ruleTold_26 (by decide) (fun _ => ?_) (fun h0_ => absurd h0_ ((by decide)))
        refine go_iload_n dX0_ruleTold_44 rfl ?_
        refine go_iconst (v := nI 1) dX0_ruleTold_45 (by decide) ?_
        refine go_icmp_ne (tgt := 61) dX0_ruleTold_46 (by decide) (fun h0_ => absurd (rfl) h0_) (fun _ => ?_)
        refine go_aload_n dX0_ruleTold_49 rfl ?_
        refine go_getR fX0_73_0 dX0_ruleTold_50 (by assumption) rfl (by assumption) ?_
        refine go_getR fX0_255_15 dX0_ruleTold_53 (by assumption) rfl (by assumption) ?_
        refine go_iload_n dX0_ruleTold_56 rfl ?_
        refine go_iald dX0_ruleTold_57 (by assumption) ⟨rfl, by omega, by decide⟩ ?_
        rw [g2]
        refine go_goto (tgt := 86) dX0_ruleTold_58 (by decide) ?_
        refine go_iret rfl dX0_ruleTold_86 (Nat.le_of_ble_eq_true rfl) (Nat.le_of_ble_eq_true rfl) ?_
        rw [← hres]
        exact ao_0 hc
      | 2, _, hres =>
        rw [if_neg (by decide)] at hres
        refine go_if_ne (tgt := 44) dX0_ruleTold_26 (by decide) (fun _ => ?_) (fun h0_ => absurd h0_ ((by decide)))
        refine go_iload_n dX0_ruleTold_44 rfl ?_
        refine go_iconst (v := nI 1) dX0_ruleTold_45 (by decide) ?_
        refine go_icmp_ne (tgt := 61) dX0_ruleTold_46 (by decide) (fun _ => ?_) (fun h0_ => absurd h0_ ((by decide)))
        refine go_iload_n dX0_ruleTold_61 rfl ?_
        refine go_iconst (v := nI 2) dX0_ruleTold_62 (by decide) ?_
        refine go_icmp_ne (tgt := 78) dX0_ruleTold_63 (by decide) (fun h0_ => absurd (rfl) h0_) (fun _ => ?_)
        refine go_aload_n dX0_ruleTold_66 rfl ?_
        refine go_getR fX0_73_0 dX0_ruleTold_67 (by assumption) rfl (by assumption) ?_
        refine go_getR fX0_338_15 dX0_ruleTold_70 (by assumption) rfl (by assumption) ?_
        refine go_iload_n dX0_ruleTold_73 rfl ?_
        refine go_iald dX0_ruleTold_74 (by assumption) ⟨rfl, by omega, by decide⟩ ?_
        rw [g3]
        refine go_goto (tgt := 86) dX0_ruleTold_75 (by decide) ?_
        refine go_iret rfl dX0_ruleTold_86 (Nat.le_of_ble_eq_true rfl) (Nat.le_of_ble_eq_true rfl) ?_
        rw [← hres]
        exact ao_0 hc
      | 3, _, hres =>
        rw [if_pos rfl] at hres
        refine go_if_ne (tgt := 44) dX0_ruleTold_26 (by decide) (fun _ => ?_) (fun h0_ => absurd h0_ ((by decide)))
        refine go_iload_n dX0_ruleTold_44 rfl ?_
        refine go_iconst (v := nI 1) dX0_ruleTold_45 (by decide) ?_
        refine go_icmp_ne (tgt := 61) dX0_ruleTold_46 (by decide) (fun _ => ?_) (fun h0_ => absurd h0_ ((by decide)))
        refine go_iload_n dX0_ruleTold_61 rfl ?_
        refine go_iconst (v := nI 2) dX0_ruleTold_62 (by decide) ?_
        refine go_icmp_ne (tgt := 78) dX0_ruleTold_63 (by decide) (fun _ => ?_) (fun h0_ => absurd h0_ ((by decide)))
        refine go_aload_n dX0_ruleTold_78 rfl ?_
        refine go_getR fX0_73_0 dX0_ruleTold_79 (by assumption) rfl (by assumption) ?_
        refine go_iload_n dX0_ruleTold_82 rfl ?_
        refine go_callV vX0_341_15 (ct_foretold hc.1.2.1 ts0 hc.2.2.2.1 hv hs) dX0_ruleTold_83 (by assumption) rfl rfl rfl rfl rfl (Nat.le_of_ble_eq_true rfl) (Nat.le_of_ble_eq_true rfl) (Nat.le_of_ble_eq_true rfl) (Nat.le_of_ble_eq_true rfl) (Nat.le_of_ble_eq_true rfl) (kr_i ?_) kt_i
        refine go_iret rfl dX0_ruleTold_86 (Nat.le_of_ble_eq_true rfl) (Nat.le_of_ble_eq_true rfl) ?_
        rw [← hres]
        exact ao_0 hc
      | w + 4, hw, _ => exact absurd hw (by omega)
    · obtain ⟨h2, rfl⟩ := qt_in hz
      rw [mu_no h2] at hres
      rw [← hres]
      exact ao_t hc (by decide) ht
  · obtain ⟨h1, rfl⟩ := qt_in hz
    rw [mu_no (show ¬ isR_ a S.1 = true from h1)] at hres
    rw [← hres]
    exact ao_t hc (by decide) ht
theorem ct_goesNext (hc : ci_ ty mi mr n x S) : CT_ l D b yX0_goesNext hX0_goesNext (rm_ 10 1 7) [.ref x, .int a] (ty, mi, mr, n) (ao_ x (ty, mi, mr, n) (op_goes a S)) := by
  have a1 := hc.1.1
  have hv := hc.2.2.2.2.1
  have hs4 := hv.2.1
  have a2 := hc.1.2.2.2.2.2.2.2.2.1
  have ts := hc.1.2.2.2.2.2.2.2.2.2.2.2.1
  have ts0 := ts
  obtain ⟨a3, -, -, -, -, -, a8, -, -, -, -, -, -, a14, -⟩ := ts
  generalize hres : op_goes a S = res
  unfold op_goes at hres
  refine ct_of [some (.ref x), some (.int a)] (by decide) rfl rfl ?_
  refine go_aload_n dX0_goesNext_0 rfl ?_
  refine go_iload_n dX0_goesNext_1 rfl ?_
  refine go_callV vX0_311_0 (ct_mustBeSort hc) dX0_goesNext_2 (by assumption) rfl rfl rfl rfl rfl (Nat.le_of_ble_eq_true rfl) (Nat.le_of_ble_eq_true rfl) (Nat.le_of_ble_eq_true rfl) (Nat.le_of_ble_eq_true rfl) (Nat.le_of_ble_eq_true rfl) (kr_t (fun hn => ?_)) (kt_t (fun z hz o σ2 ht => ?_))
  · have h1 := qt_ok hn
    rw [mu_ok h1] at hres
    obtain ⟨s, hs, rfl⟩ := in_nat (by omega) h1
    rw [iN_n (by omega)] at hres
    refine go_aload_n dX0_goesNext_5 rfl ?_
    refine go_getR fX0_73_0 dX0_goesNext_6 (by assumption) rfl (by assumption) ?_
    refine go_callV vX0_344_15 (ct_askAll hc.1.2.1 ts0 hc.2.2.2.1 hv (by omega)) dX0_goesNext_9 (by assumption) rfl rfl rfl rfl rfl (Nat.le_of_ble_eq_true rfl) (Nat.le_of_ble_eq_true rfl) (Nat.le_of_ble_eq_true rfl) (Nat.le_of_ble_eq_true rfl) (Nat.le_of_ble_eq_true rfl) (kr_i ?_) kt_i
    refine go_pop dX0_goesNext_12 rfl ?_
    refine go_aload_n dX0_goesNext_13 rfl ?_
    refine go_getR fX0_73_0 dX0_goesNext_14 (by assumption) rfl (by assumption) ?_
    refine go_getR fX0_347_15 dX0_goesNext_17 (by assumption) rfl (by assumption) ?_
    refine go_iload_n dX0_goesNext_20 rfl ?_
    refine go_zald dX0_goesNext_21 (by assumption) ⟨rfl, by omega, by decide⟩ ?_
    rw [show x + 15 + 6 = (x + 15) + 6 from rfl, aa_g hs]
    refine go_tif_eq (m := nI 0) (n := nI 1) (t1 := 29) (t2 := 30) dX0_goesNext_22 (by decide) dX0_goesNext_25 (by decide) dX0_goesNext_26 (by decide) dX0_goesNext_29 (by decide) rfl ?_
    have e : (if bo_ (gf_ S.1 s) = 0 then nI 0 else nI 1) = bo_ (gf_ S.1 s) := by cases gf_ S.1 s <;> rfl
    rw [e]
    refine go_iret rfl dX0_goesNext_30 (Nat.le_of_ble_eq_true rfl) (Nat.le_of_ble_eq_true rfl) ?_
    rw [← hres]
    exact ao_k hc aa_sk sr_.rf
  · obtain ⟨h1, rfl⟩ := qt_in hz
    rw [mu_no h1] at hres
    rw [← hres]
    exact ao_t hc (by decide) ht
end ACTS
