/-! THE COMPONENT'S ACTS: worth, looks, rests, the best -/
set_option maxRecDepth 100000
section ACTS2
variable {l : Launch} {D : dd_} {b : Nat} {ty : ty_} {mi : mi_} {mr : mr_} {n x : Nat} {S : cS_} {a c : Int32}
theorem in_or {v : tv_} (hv : wf_ v) (h : (decide (a = -1) || isS_ a v) = true) : (a = -1) ∨ ∃ s, s < sN v ∧ a = nI s := by
  rw [Bool.or_eq_true, decide_eq_true_eq] at h
  rcases h with h | h
  · exact Or.inl h
  · exact Or.inr (in_nat (by have := hv.2.1; omega) h)
theorem ct_worthNext (hc : ci_ ty mi mr n x S) : CT_ l D b yX0_worthNext hX0_worthNext (rm_ 8 1 7) [.ref x, .int a] (ty, mi, mr, n) (ao_ x (ty, mi, mr, n) (op_worth a S)) := by
  have a1 := hc.1.1
  have hv := hc.2.2.2.2.1
  have hs4 := hv.2.1
  have a2 := hc.1.2.2.2.2.2.2.2.2.1
  have ts := hc.1.2.2.2.2.2.2.2.2.2.2.2.1
  have ts0 := ts
  obtain ⟨a3, a4, -, -, -, -, a8, -, a9, -, -, -, -, a14, -⟩ := ts
  generalize hres : op_worth a S = res
  unfold op_worth at hres
  refine ct_of [some (.ref x), some (.int a), none, none, none] (by decide) rfl rfl ?_
  have main : ∀ p, p = (decide (a = -1) || isS_ a S.1) → G_ l D b (RX0, "worthNext", 5, some .int, rm_ 8 1 7, []) (ao_ x (ty, mi, mr, n) res) cX0_worthNext 29 [some (.ref x), some (.int a), none, none, none] [.int (bo_ p)] (ty, mi, mr, n) 0 0 := by
    intro p hp
    refine go_iconst (v := (-1)) dX0_worthNext_29 (by decide) ?_
    refine go_callS sX0_9 (ct_must) dX0_worthNext_30 rfl rfl rfl (Nat.le_of_ble_eq_true rfl) (Nat.le_of_ble_eq_true rfl) (Nat.le_of_ble_eq_true rfl) (Nat.le_of_ble_eq_true rfl) (Nat.le_of_ble_eq_true rfl) (kr_t (fun hn => ?_)) (kt_t (fun z hz o σ2 ht => ?_))
    · have h1 := qt_ok hn
      rw [hp] at h1
      rw [mu_ok h1] at hres
      refine go_aload_n dX0_worthNext_33 rfl ?_
      refine go_getR fX0_73_0 dX0_worthNext_34 (by assumption) rfl (by assumption) ?_
      refine go_callV vX0_344_15 (ct_askAll hc.1.2.1 ts0 hc.2.2.2.1 hv (by omega)) dX0_worthNext_37 (by assumption) rfl rfl rfl rfl rfl (Nat.le_of_ble_eq_true rfl) (Nat.le_of_ble_eq_true rfl) (Nat.le_of_ble_eq_true rfl) (Nat.le_of_ble_eq_true rfl) (Nat.le_of_ble_eq_true rfl) (kr_i ?_) kt_i
      have sk := aa_sk (x := x) (n := n) (mi := mi) (v := S.1)
      have hc1 := hc.sk sk (sr_.rf (mr := mr))
      have hg : ∀ s, s < sN S.1 → aa_ mi S.1 (x + 15) (x + 15 + 6) s = bo_ (gf_ S.1 s) := fun s hs => aa_g hs
      generalize aa_ mi S.1 (x + 15) = m1 at sk hc1 hg ⊢
      have n1 : m1 (x + 15) 1 = nI (sN S.1) := hc1.2.2.2.1.2.1.trans hv.1
      refine go_istore_n (ls2 := [_, _, _, _, _]) dX0_worthNext_40 rfl rfl ?_
      refine go_iload_n dX0_worthNext_41 rfl ?_
      rcases in_or hv h1 with rfl | ⟨s, hs, rfl⟩
      · rw [if_pos (by decide)] at hres
        refine go_if_lt (tgt := 55) dX0_worthNext_42 (by decide) (fun _ => ?_) (fun h0_ => absurd ((by decide)) h0_)
        refine go_iconst (v := nI 0) dX0_worthNext_55 (by decide) ?_
        refine go_istore_n (ls2 := [_, _, _, _, _]) dX0_worthNext_56 rfl rfl ?_
        refine go_iconst (v := nI 0) dX0_worthNext_57 (by decide) ?_
        refine go_istore (ls2 := [_, _, _, _, _]) dX0_worthNext_58 rfl rfl ?_
        refine go_for (sN S.1) (fun s => [some (.ref x), some (.int (-1)), some (.int (pr_ S.1)), some (.int (sm_ (fun s => S.1 (10 + 6 * s) * wo_ S.1 s (pr_ S.1)) s)), some (.int (nI s))]) (fun _ => (ty, m1, mr, n)) 0 (by omega) (fun s _ hs ih => ?_) ?_
        · obtain ⟨q, q1, g1, g2, g3, -⟩ := hc1.2.2.2.1.2.2.2.2.2.2.1 s hs
          refine go_iload dX0_worthNext_60 rfl ?_
          refine go_aload_n dX0_worthNext_62 rfl ?_
          refine go_getR fX0_73_0 dX0_worthNext_63 (by assumption) rfl (by assumption) ?_
          refine go_getI fX0_177_15 dX0_worthNext_66 (by assumption) rfl ?_
          rw [n1]
          refine go_icmp_ge (tgt := 105) dX0_worthNext_69 (by decide) (fun h0_ => absurd h0_ (nI_ge (by omega) (by omega))) (fun _ => ?_)
          refine go_iload_n dX0_worthNext_72 rfl ?_
          refine go_aload_n dX0_worthNext_73 rfl ?_
          refine go_getR fX0_73_0 dX0_worthNext_74 (by assumption) rfl (by assumption) ?_
          refine go_getR fX0_180_15 dX0_worthNext_77 (by assumption) rfl (by assumption) ?_
          refine go_iload dX0_worthNext_80 rfl ?_
          refine go_aald dX0_worthNext_82 (by assumption) ⟨rfl, by omega, by decide⟩ (by assumption) ?_
          refine go_getI fX0_184_25 dX0_worthNext_83 (by assumption) rfl ?_
          rw [g3]
          refine go_aload_n dX0_worthNext_86 rfl ?_
          refine go_getR fX0_73_0 dX0_worthNext_87 (by assumption) rfl (by assumption) ?_
          refine go_iload dX0_worthNext_90 rfl ?_
          refine go_iload_n dX0_worthNext_92 rfl ?_
          refine go_callV vX0_174_15 (ct_worth ts0 hc1.2.2.2.1 hv hs (hg s hs) (fun _ _ _ _ => rfl) rfl) dX0_worthNext_93 (by assumption) rfl rfl rfl rfl rfl (Nat.le_of_ble_eq_true rfl) (Nat.le_of_ble_eq_true rfl) (Nat.le_of_ble_eq_true rfl) (Nat.le_of_ble_eq_true rfl) (Nat.le_of_ble_eq_true rfl) (kr_i ?_) kt_i
          refine go_imul dX0_worthNext_96 ?_
          refine go_iadd dX0_worthNext_97 ?_
          refine go_istore_n (ls2 := [_, _, _, _, _]) dX0_worthNext_98 rfl rfl ?_
          refine go_iinc (ls2 := [_, _, _, _, _]) dX0_worthNext_99 rfl (nI_inc _) rfl rfl ?_
          refine go_goto (tgt := 60) dX0_worthNext_102 (by decide) ?_
          exact ih
        · refine go_iload dX0_worthNext_60 rfl ?_
          refine go_aload_n dX0_worthNext_62 rfl ?_
          refine go_getR fX0_73_0 dX0_worthNext_63 (by assumption) rfl (by assumption) ?_
          refine go_getI fX0_177_15 dX0_worthNext_66 (by assumption) rfl ?_
          rw [n1]
          refine go_icmp_ge (tgt := 105) dX0_worthNext_69 (by decide) (fun _ => ?_) (fun h0_ => absurd (nI_le (by omega) (by omega)) h0_)
          refine go_iload_n dX0_worthNext_105 rfl ?_
          refine go_iret rfl dX0_worthNext_106 (Nat.le_of_ble_eq_true rfl) (Nat.le_of_ble_eq_true rfl) ?_
          rw [← hres]
          exact ao_k hc sk sr_.rf
      · rw [if_neg (nI_pos (by omega)), iN_n (by omega)] at hres
        refine go_if_lt (tgt := 55) dX0_worthNext_42 (by decide) (fun h0_ => absurd h0_ (nI_pos (by omega))) (fun _ => ?_)
        refine go_aload_n dX0_worthNext_45 rfl ?_
        refine go_getR fX0_73_0 dX0_worthNext_46 (by assumption) rfl (by assumption) ?_
        refine go_iload_n dX0_worthNext_49 rfl ?_
        refine go_iload_n dX0_worthNext_50 rfl ?_
        refine go_callV vX0_174_15 (ct_worth ts0 hc1.2.2.2.1 hv hs (hg s hs) (fun _ _ _ _ => rfl) rfl) dX0_worthNext_51 (by assumption) rfl rfl rfl rfl rfl (Nat.le_of_ble_eq_true rfl) (Nat.le_of_ble_eq_true rfl) (Nat.le_of_ble_eq_true rfl) (Nat.le_of_ble_eq_true rfl) (Nat.le_of_ble_eq_true rfl) (kr_i ?_) kt_i
        refine go_iret rfl dX0_worthNext_54 (Nat.le_of_ble_eq_true rfl) (Nat.le_of_ble_eq_true rfl) ?_
        rw [← hres]
        exact ao_k hc sk sr_.rf
    · obtain ⟨h1, rfl⟩ := qt_in hz
      rw [hp] at h1
      rw [mu_no h1] at hres
      rw [← hres]
      exact ao_t hc (by decide) ht
  refine go_iload_n dX0_worthNext_0 rfl ?_
  refine go_iconst (v := (-1)) dX0_worthNext_1 (by decide) ?_
  refine go_icmp_eq (tgt := 24) dX0_worthNext_2 (by decide) (fun h => ?_) (fun h => ?_)
  · refine go_iconst (v := nI 1) dX0_worthNext_24 (by decide) ?_
    refine go_goto (tgt := 29) dX0_worthNext_25 (by decide) ?_
    exact main true (by rw [decide_eq_true h]; rfl)
  · refine go_iload_n dX0_worthNext_5 rfl ?_
    refine go_i2l dX0_worthNext_6 ?_
    refine go_lconst (v := (nI 0).toInt64) dX0_worthNext_7 (by decide) ?_
    refine go_aload_n dX0_worthNext_8 rfl ?_
    refine go_getR fX0_73_0 dX0_worthNext_9 (by assumption) rfl (by assumption) ?_
    refine go_getI fX0_177_15 dX0_worthNext_12 (by assumption) rfl ?_
    rw [hc.2.2.2.1.2.1.trans hv.1]
    refine go_iconst (v := nI 1) dX0_worthNext_15 (by decide) ?_
    refine go_isub dX0_worthNext_16 ?_
    refine go_i2l dX0_worthNext_17 ?_
    refine go_callS sX0_13 (ct_in (d := 0)) dX0_worthNext_18 rfl rfl rfl (Nat.le_of_ble_eq_true rfl) (Nat.le_of_ble_eq_true rfl) (Nat.le_of_ble_eq_true rfl) (Nat.le_of_ble_eq_true rfl) (Nat.le_of_ble_eq_true rfl) (kr_i ?_) kt_i
    refine go_if_eq (tgt := 28) dX0_worthNext_21 (by decide) (fun h2 => ?_) (fun h2 => ?_)
    · refine go_iconst (v := nI 0) dX0_worthNext_28 (by decide) ?_
      exact main false (by rw [decide_eq_false h]; exact (bo_0.mp h2).symm)
    · refine go_iconst (v := nI 1) dX0_worthNext_24 (by decide) ?_
      refine go_goto (tgt := 29) dX0_worthNext_25 (by decide) ?_
      exact main true (by rw [decide_eq_false h]; exact (bo_ne h2).symm)
theorem ct_lookTold {w : Nat} (hw : w = 11 ∨ w = 12 ∨ w = 13) (hc : ci_ ty mi mr n x S) : CT_ l D b yX0_lookTold hX0_lookTold (rm_ 10 2 14) [.ref x, .int (nI w), .int a] (ty, mi, mr, n) (ao_ x (ty, mi, mr, n) (op_look w a S)) := by
  have a1 := hc.1.1
  have hx := hc.2.1
  have hv := hc.2.2.2.2.1
  generalize hres : op_look w a S = res
  unfold op_look at hres
  refine ct_of [some (.ref x), some (.int (nI w)), some (.int a)] (by decide) rfl rfl ?_
  refine go_iload_n dX0_lookTold_0 rfl ?_
  refine go_callS sX0_376 (ct_mustBeWeeks) dX0_lookTold_1 rfl rfl rfl (Nat.le_of_ble_eq_true rfl) (Nat.le_of_ble_eq_true rfl) (Nat.le_of_ble_eq_true rfl) (Nat.le_of_ble_eq_true rfl) (Nat.le_of_ble_eq_true rfl) (kr_t (fun hn => ?_)) (kt_t (fun z hz o σ2 ht => ?_))
  · rw [wt_ok hn] at hres
    obtain ⟨k, hk1, hk, rfl⟩ := wi_nat (by omega) (by omega) hn
    rw [iN_n (by omega)] at hres
    refine go_aload_n dX0_lookTold_4 rfl ?_
    refine go_aload_n dX0_lookTold_5 rfl ?_
    refine go_callV vX0_142_0 (ct_openMind hc) dX0_lookTold_6 (by assumption) rfl rfl rfl rfl rfl (Nat.le_of_ble_eq_true rfl) (Nat.le_of_ble_eq_true rfl) (Nat.le_of_ble_eq_true rfl) (Nat.le_of_ble_eq_true rfl) (Nat.le_of_ble_eq_true rfl) (kr_z (fun mA mr2 hp => ?_)) kt_z
    obtain ⟨p1, p2, p3⟩ := hp
    refine go_iload_n dX0_lookTold_9 rfl ?_
    refine go_callV vX0_258_0 (ct_look a1 hx p3 hv hk) dX0_lookTold_10 (by assumption) rfl rfl rfl rfl rfl (Nat.le_of_ble_eq_true rfl) (Nat.le_of_ble_eq_true rfl) (Nat.le_of_ble_eq_true rfl) (Nat.le_of_ble_eq_true rfl) (Nat.le_of_ble_eq_true rfl) (kr_w (fun mB hp => ?_)) kt_w
    obtain ⟨g1, g2, g3, g4⟩ := hp
    obtain ⟨g5, g6⟩ := g4 (by omega)
    have sk := (sk_mind (n := n) p1).tr g1
    refine go_iload_n dX0_lookTold_13 rfl ?_
    refine go_bipush (v := nI 11) dX0_lookTold_14 (by decide) ?_
    rcases hw with rfl | rfl | rfl
    · refine go_icmp_ne (tgt := 31) dX0_lookTold_16 (by decide) (fun h0_ => absurd (rfl) h0_) (fun _ => ?_)
      refine go_bipush (v := nI 100) dX0_lookTold_19 (by decide) ?_
      refine go_aload_n dX0_lookTold_21 rfl ?_
      refine go_getI fX0_150_0 dX0_lookTold_22 (by assumption) rfl ?_
      rw [g2]
      refine go_imul dX0_lookTold_25 ?_
      refine go_iload_n dX0_lookTold_26 rfl ?_
      refine go_idiv dX0_lookTold_27 (nI_ne0 (by omega) (by omega)) ?_
      refine go_goto (tgt := 53) dX0_lookTold_28 (by decide) ?_
      refine go_iret rfl dX0_lookTold_53 (Nat.le_of_ble_eq_true rfl) (Nat.le_of_ble_eq_true rfl) ?_
      rw [← hres]
      exact ao_k hc sk p2
    · refine go_icmp_ne (tgt := 31) dX0_lookTold_16 (by decide) (fun _ => ?_) (fun h0_ => absurd h0_ ((by decide)))
      refine go_iload_n dX0_lookTold_31 rfl ?_
      refine go_bipush (v := nI 12) dX0_lookTold_32 (by decide) ?_
      refine go_icmp_ne (tgt := 49) dX0_lookTold_34 (by decide) (fun h0_ => absurd (rfl) h0_) (fun _ => ?_)
      refine go_aload_n dX0_lookTold_37 rfl ?_
      refine go_getI fX0_156_0 dX0_lookTold_38 (by assumption) rfl ?_
      rw [g5]
      refine go_aload_n dX0_lookTold_41 rfl ?_
      refine go_getI fX0_165_0 dX0_lookTold_42 (by assumption) rfl ?_
      rw [g6]
      refine go_isub dX0_lookTold_45 ?_
      refine go_goto (tgt := 53) dX0_lookTold_46 (by decide) ?_
      refine go_iret rfl dX0_lookTold_53 (Nat.le_of_ble_eq_true rfl) (Nat.le_of_ble_eq_true rfl) ?_
      rw [← hres]
      exact ao_k hc sk p2
    · refine go_icmp_ne (tgt := 31) dX0_lookTold_16 (by decide) (fun _ => ?_) (fun h0_ => absurd h0_ ((by decide)))
      refine go_iload_n dX0_lookTold_31 rfl ?_
      refine go_bipush (v := nI 12) dX0_lookTold_32 (by decide) ?_
      refine go_icmp_ne (tgt := 49) dX0_lookTold_34 (by decide) (fun _ => ?_) (fun h0_ => absurd h0_ ((by decide)))
      refine go_aload_n dX0_lookTold_49 rfl ?_
      refine go_getI fX0_153_0 dX0_lookTold_50 (by assumption) rfl ?_
      rw [g3]
      refine go_iret rfl dX0_lookTold_53 (Nat.le_of_ble_eq_true rfl) (Nat.le_of_ble_eq_true rfl) ?_
      rw [← hres]
      exact ao_k hc sk p2
  · obtain ⟨e, he1, he2⟩ := wt_no (S := S) (k := (.inl (lkt_ w (iN_ a) S.1), S)) hz
    rw [he2] at hres
    rw [← hres]
    exact ao_t hc he1 ht
theorem ct_restTold (hc : ci_ ty mi mr n x S) : CT_ l D b yX0_restTold hX0_restTold (rm_ 8 1 7) [.ref x, .int a] (ty, mi, mr, n) (ao_ x (ty, mi, mr, n) (op_rest a S)) := by
  have a1 := hc.1.1
  have hv := hc.2.2.2.2.1
  have hs4 := hv.2.1
  have pc := hc.1.pc
  obtain ⟨-, a2, -, a17, -, a44, ts⟩ := pc
  have a3 := ts.1
  generalize hres : op_rest a S = res
  unfold op_rest at hres
  refine ct_of [some (.ref x), some (.int a)] (by decide) rfl rfl ?_
  have main : ∀ p, p = (decide (a = -1) || isS_ a S.1) → G_ l D b (RX0, "restTold", 2, some .int, rm_ 8 1 7, []) (ao_ x (ty, mi, mr, n) res) cX0_restTold 29 [some (.ref x), some (.int a)] [.int (bo_ p)] (ty, mi, mr, n) 0 0 := by
    intro p hp
    refine go_iconst (v := (-1)) dX0_restTold_29 (by decide) ?_
    refine go_callS sX0_9 (ct_must) dX0_restTold_30 rfl rfl rfl (Nat.le_of_ble_eq_true rfl) (Nat.le_of_ble_eq_true rfl) (Nat.le_of_ble_eq_true rfl) (Nat.le_of_ble_eq_true rfl) (Nat.le_of_ble_eq_true rfl) (kr_t (fun hn => ?_)) (kt_t (fun z hz o σ2 ht => ?_))
    · have h1 := qt_ok hn
      rw [hp] at h1
      rw [mu_ok h1] at hres
      refine go_aload_n dX0_restTold_33 rfl ?_
      refine go_aload_n dX0_restTold_34 rfl ?_
      refine go_getR fX0_73_0 dX0_restTold_35 (by assumption) rfl (by assumption) ?_
      refine go_callV vX0_239_0 (ct_findPlans hc.1.pc ts hc.2.2.2.1 hv hc.2.2.2.1 hv rfl (fun _ _ => rfl) (by omega) (by omega)) dX0_restTold_38 (by assumption) rfl rfl rfl rfl rfl (Nat.le_of_ble_eq_true rfl) (Nat.le_of_ble_eq_true rfl) (Nat.le_of_ble_eq_true rfl) (Nat.le_of_ble_eq_true rfl) (Nat.le_of_ble_eq_true rfl) (kr_w (fun mi2 hp => ?_)) kt_w
      obtain ⟨⟨g1, g2, g3⟩, g4, g5⟩ := hp
      have sk := pfr_sk (n := n) g5
      refine go_aload_n dX0_restTold_41 rfl ?_
      refine go_getI fX0_196_0 dX0_restTold_42 (by assumption) rfl ?_
      rw [g1]
      refine go_if_ne (tgt := 53) dX0_restTold_45 (by decide) (fun h => ?_) (fun h => ?_)
      · rw [if_neg h] at hres
        refine go_iload_n dX0_restTold_53 rfl ?_
        rcases in_or hv h1 with rfl | ⟨s, hs, rfl⟩
        · rw [if_pos (by decide)] at hres
          refine go_if_ge (tgt := 64) dX0_restTold_54 (by decide) (fun h0_ => absurd h0_ ((by decide))) (fun _ => ?_)
          refine go_aload_n dX0_restTold_57 rfl ?_
          refine go_getI fX0_224_0 dX0_restTold_58 (by assumption) rfl ?_
          rw [(g3 h).1]
          refine go_goto (tgt := 70) dX0_restTold_61 (by decide) ?_
          refine go_iret rfl dX0_restTold_70 (Nat.le_of_ble_eq_true rfl) (Nat.le_of_ble_eq_true rfl) ?_
          rw [← hres]
          exact ao_k hc sk sr_.rf
        · rw [if_neg (nI_pos (by omega)), iN_n (by omega)] at hres
          refine go_if_ge (tgt := 64) dX0_restTold_54 (by decide) (fun _ => ?_) (fun h0_ => absurd (nI_pos' (by omega)) h0_)
          refine go_aload_n dX0_restTold_64 rfl ?_
          refine go_getR fX0_101_0 dX0_restTold_65 (by assumption) rfl (by assumption) ?_
          refine go_iload_n dX0_restTold_68 rfl ?_
          refine go_iald dX0_restTold_69 (by assumption) ⟨rfl, by omega, by decide⟩ ?_
          rw [(g3 h).2.2 s (by omega)]
          refine go_iret rfl dX0_restTold_70 (Nat.le_of_ble_eq_true rfl) (Nat.le_of_ble_eq_true rfl) ?_
          rw [← hres]
          exact ao_k hc sk sr_.rf
      · rw [if_pos h] at hres
        refine go_bipush (v := (-9)) dX0_restTold_48 (by decide) ?_
        refine go_goto (tgt := 70) dX0_restTold_50 (by decide) ?_
        refine go_iret rfl dX0_restTold_70 (Nat.le_of_ble_eq_true rfl) (Nat.le_of_ble_eq_true rfl) ?_
        rw [← hres]
        exact ao_k hc sk sr_.rf
    · obtain ⟨h1, rfl⟩ := qt_in hz
      rw [hp] at h1
      rw [mu_no h1] at hres
      rw [← hres]
      exact ao_t hc (by decide) ht
  refine go_iload_n dX0_restTold_0 rfl ?_
  refine go_iconst (v := (-1)) dX0_restTold_1 (by decide) ?_
  refine go_icmp_eq (tgt := 24) dX0_restTold_2 (by decide) (fun h => ?_) (fun h => ?_)
  · refine go_iconst (v := nI 1) dX0_restTold_24 (by decide) ?_
    refine go_goto (tgt := 29) dX0_restTold_25 (by decide) ?_
    exact main true (by rw [decide_eq_true h]; rfl)
  · refine go_iload_n dX0_restTold_5 rfl ?_
    refine go_i2l dX0_restTold_6 ?_
    refine go_lconst (v := (nI 0).toInt64) dX0_restTold_7 (by decide) ?_
    refine go_aload_n dX0_restTold_8 rfl ?_
    refine go_getR fX0_73_0 dX0_restTold_9 (by assumption) rfl (by assumption) ?_
    refine go_getI fX0_177_15 dX0_restTold_12 (by assumption) rfl ?_
    rw [hc.2.2.2.1.2.1.trans hv.1]
    refine go_iconst (v := nI 1) dX0_restTold_15 (by decide) ?_
    refine go_isub dX0_restTold_16 ?_
    refine go_i2l dX0_restTold_17 ?_
    refine go_callS sX0_13 (ct_in (d := 0)) dX0_restTold_18 rfl rfl rfl (Nat.le_of_ble_eq_true rfl) (Nat.le_of_ble_eq_true rfl) (Nat.le_of_ble_eq_true rfl) (Nat.le_of_ble_eq_true rfl) (Nat.le_of_ble_eq_true rfl) (kr_i ?_) kt_i
    refine go_if_eq (tgt := 28) dX0_restTold_21 (by decide) (fun h2 => ?_) (fun h2 => ?_)
    · refine go_iconst (v := nI 0) dX0_restTold_28 (by decide) ?_
      exact main false (by rw [decide_eq_false h]; exact (bo_0.mp h2).symm)
    · refine go_iconst (v := nI 1) dX0_restTold_24 (by decide) ?_
      refine go_goto (tgt := 29) dX0_restTold_25 (by decide) ?_
      exact main true (by rw [decide_eq_false h]; exact (bo_ne h2).symm)
theorem ct_bestTold (hc : ci_ ty mi mr n x S) : CT_ l D b yX0_bestTold hX0_bestTold (rm_ 8 1 7) [.ref x, .int a] (ty, mi, mr, n) (ao_ x (ty, mi, mr, n) (op_best a S)) := by
  have a1 := hc.1.1
  have hv := hc.2.2.2.2.1
  have pc := hc.1.pc
  obtain ⟨-, a2, -, a17, -, a44, ts⟩ := pc
  have a3 := ts.1
  generalize hres : op_best a S = res
  unfold op_best at hres
  refine ct_of [some (.ref x), some (.int a)] (by decide) rfl rfl ?_
  refine go_iload_n dX0_bestTold_0 rfl ?_
  refine go_i2l dX0_bestTold_1 ?_
  refine go_lconst (v := (nI 0).toInt64) dX0_bestTold_2 (by decide) ?_
  refine go_lconst (v := (nI 1).toInt64) dX0_bestTold_3 (by decide) ?_
  refine go_callS sX0_13 (ct_in (d := 0)) dX0_bestTold_4 rfl rfl rfl (Nat.le_of_ble_eq_true rfl) (Nat.le_of_ble_eq_true rfl) (Nat.le_of_ble_eq_true rfl) (Nat.le_of_ble_eq_true rfl) (Nat.le_of_ble_eq_true rfl) (kr_i ?_) kt_i
  refine go_bipush (v := (-2)) dX0_bestTold_7 (by decide) ?_
  refine go_callS sX0_9 (ct_must) dX0_bestTold_9 rfl rfl rfl (Nat.le_of_ble_eq_true rfl) (Nat.le_of_ble_eq_true rfl) (Nat.le_of_ble_eq_true rfl) (Nat.le_of_ble_eq_true rfl) (Nat.le_of_ble_eq_true rfl) (kr_t (fun hn => ?_)) (kt_t (fun z hz o σ2 ht => ?_))
  · have h1 := qt_ok hn
    rw [mu_ok h1] at hres
    refine go_aload_n dX0_bestTold_12 rfl ?_
    refine go_aload_n dX0_bestTold_13 rfl ?_
    refine go_getR fX0_73_0 dX0_bestTold_14 (by assumption) rfl (by assumption) ?_
    refine go_callV vX0_239_0 (ct_findPlans hc.1.pc ts hc.2.2.2.1 hv hc.2.2.2.1 hv rfl (fun _ _ => rfl) (by omega) (by omega)) dX0_bestTold_17 (by assumption) rfl rfl rfl rfl rfl (Nat.le_of_ble_eq_true rfl) (Nat.le_of_ble_eq_true rfl) (Nat.le_of_ble_eq_true rfl) (Nat.le_of_ble_eq_true rfl) (Nat.le_of_ble_eq_true rfl) (kr_w (fun mi2 hp => ?_)) kt_w
    obtain ⟨⟨g1, g2, g3⟩, g4, g5⟩ := hp
    have sk := pfr_sk (n := n) g5
    refine go_iload_n dX0_bestTold_20 rfl ?_
    refine go_if_ne (tgt := 31) dX0_bestTold_21 (by decide) (fun h => ?_) (fun h => ?_)
    · rw [if_neg h] at hres
      refine go_aload_n dX0_bestTold_31 rfl ?_
      refine go_getI fX0_209_0 dX0_bestTold_32 (by assumption) rfl ?_
      rw [(g2 g4).2]
      refine go_iret rfl dX0_bestTold_35 (Nat.le_of_ble_eq_true rfl) (Nat.le_of_ble_eq_true rfl) ?_
      rw [← hres]
      exact ao_k hc sk sr_.rf
    · rw [if_pos h] at hres
      refine go_aload_n dX0_bestTold_24 rfl ?_
      refine go_getI fX0_206_0 dX0_bestTold_25 (by assumption) rfl ?_
      rw [(g2 g4).1]
      refine go_goto (tgt := 35) dX0_bestTold_28 (by decide) ?_
      refine go_iret rfl dX0_bestTold_35 (Nat.le_of_ble_eq_true rfl) (Nat.le_of_ble_eq_true rfl) ?_
      rw [← hres]
      exact ao_k hc sk sr_.rf
  · obtain ⟨h1, rfl⟩ := qt_in hz
    rw [mu_no h1] at hres
    rw [← hres]
    exact ao_t hc (by decide) ht
end ACTS2
