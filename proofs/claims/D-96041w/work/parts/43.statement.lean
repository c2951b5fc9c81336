/-! A STATEMENT READ -/
set_option maxRecDepth 100000
theorem um_R2 {mi : mi_} {R n a j : Nat} {z : Int32} {k : Nat} {y : Int32} (h : a < n) (h2 : ¬ (a = R ∧ j = 1)) : um_ (um_ mi R 1 z) n k y a j = mi a j := (um_a (Nat.ne_of_lt h)).trans (um_R h2)
section STM
variable {l : Launch} {D : dd_} {b : Nat} {ty : ty_} {mi : mi_} {mr : mr_} {n x R s : Nat} {lt : Nat → Int32} {ln p : Nat}
/-- what a reader needs besides -/
def rk2_ (ty : ty_) (mr : mr_) (x : Nat) : Prop := mr x 0 = some (x + 1) ∧ ty (x + 1) = some (.inr (.object "GoodHalfEmpty$Rule", 6)) ∧ (∀ k, k < 6 → mr (x + 1) k = some (x + 2 + k)) ∧ mr x 1 = some (x + 8) ∧ ty (x + 8) = some (.inr (.object "GoodHalfEmpty$Goer", 6)) ∧ (∀ k, k < 6 → mr (x + 8) k = some (x + 9 + k))
theorem ct_ruleRead (h : rd_ ty mi mr x R lt ln p) (hk : rk2_ ty mr x) : CT_ l D b yX19_rule hX19_rule (rm_ 9 3 17) [.ref R, .int (nI s)] (ty, mi, mr, n) (qT_ (bR_ (rul_ lt ln p) (fun f p2 => .inl ((2, f), p2))) x R s (ty, mi, mr, n)) := by
  have h0 := h
  obtain ⟨h1, h2, h3, h4, h5, h6, h7, h8, h9, h10, h11⟩ := h
  obtain ⟨k1, k2, k3, -⟩ := hk
  refine ct_of [some (.ref R), some (.int (nI s)), none] (by decide) rfl rfl ?_
  refine go_facts (fun hz hl hb => ?_)
  have hRn : R < n := (hl _ _ h1).2
  refine go_aload_n dX19_rule_0 rfl ?_
  refine go_aload_n dX19_rule_1 rfl ?_
  refine go_callV vX19_34_19 (ct_here h0) dX19_rule_2 (by assumption) rfl rfl rfl rfl rfl (Nat.le_of_ble_eq_true rfl) (Nat.le_of_ble_eq_true rfl) (Nat.le_of_ble_eq_true rfl) (Nat.le_of_ble_eq_true rfl) (Nat.le_of_ble_eq_true rfl) (kr_i ?_) kt_i
  refine go_callV vX19_92_19 (ct_ruleOf) dX19_rule_5 (by assumption) rfl rfl rfl rfl rfl (Nat.le_of_ble_eq_true rfl) (Nat.le_of_ble_eq_true rfl) (Nat.le_of_ble_eq_true rfl) (Nat.le_of_ble_eq_true rfl) (Nat.le_of_ble_eq_true rfl) (kr_i ?_) kt_i
  refine go_istore_n (ls2 := [_, _, _]) dX19_rule_8 rfl rfl ?_
  refine go_aload_n dX19_rule_9 rfl ?_
  refine go_iload_n dX19_rule_10 rfl ?_
  refine go_tif_lt (m := nI 0) (n := nI 1) (t1 := 18) (t2 := 19) dX19_rule_11 (by decide) dX19_rule_14 (by decide) dX19_rule_15 (by decide) dX19_rule_18 (by decide) rfl ?_
  rw [oN_t _ (fun k hk => (rof_lt hk).1)]
  refine go_callV vX19_38_19 (ct_mustStand h0) dX19_rule_19 (by assumption) rfl rfl rfl rfl rfl (Nat.le_of_ble_eq_true rfl) (Nat.le_of_ble_eq_true rfl) (Nat.le_of_ble_eq_true rfl) (Nat.le_of_ble_eq_true rfl) (Nat.le_of_ble_eq_true rfl) (kr_f (fun hc => ?_)) (kt_f (fun hc o σ2 ht => ?_))
  · obtain ⟨k, hk⟩ := Option.isSome_iff_exists.mp hc
    have hk6 := (rof_lt hk).1
    have e1 := one_some (f := rof_) hk
    have e2 := one_le rfl e1
    have hE : bR_ (rul_ lt ln p) (fun f p2 => (Sum.inl ((2, f), p2) : R_ tk_)) = bR_ (dgt_ lt ln (p + 1)) fun d p2 => .inl ((2, fd_ k d 0 0 0 0), p2) := by
      unfold rul_
      rw [e1]
      dsimp only [bR_]
      cases dgt_ lt ln (p + 1) with
      | inl q => rfl
      | inr e => rfl
    rw [hk]
    refine go_aload_n dX19_rule_22 rfl ?_
    refine go_dup dX19_rule_23 rfl ?_
    refine go_getI fX19_22_19 dX19_rule_24 (by assumption) rfl ?_
    rw [h3]
    refine go_iconst (v := nI 1) dX19_rule_27 (by decide) ?_
    refine go_iadd dX19_rule_28 ?_
    rw [nI_add]
    refine go_putI fX19_22_19 p19_1 rfl rfl rfl dX19_rule_29 (by assumption) ?_
    refine go_new (c := 26) rfl q634 q105 dX19_rule_32 (Nat.le_of_ble_eq_true rfl) (Nat.le_of_ble_eq_true rfl) ?_
    have hT : ∀ a, a < n → ut_ ty n (.inl 26) a = ty a := fun a h => ut_a (Nat.ne_of_lt h)
    have hTn : ut_ ty n (.inl 26) n = some (.inl 26) := ut_s
    have hTlt : ∀ a u, ut_ ty n (.inl 26) a = some u → a < n + 1 := fun a u h => by
      by_cases h2 : a = n
      · omega
      · rw [ut_a h2] at h
        have := (hl a u h).2
        omega
    generalize ut_ ty n (.inl 26) = ty2 at hT hTn hTlt ⊢
    have b1 : ty2 R = some (.inl 19) := (hT _ hRn).trans h1
    have b2 : ty2 x = some (.inl 0) := (hT _ (by omega)).trans h5
    have b3 : ty2 (x + 1) = some (.inr (.object "GoodHalfEmpty$Rule", 6)) := (hT _ (by omega)).trans k2
    have b4 := k3 k hk6
    have h01 := (h0.um (p2 := p + 1) (by omega)).ty hT hRn
    refine go_dup dX19_rule_35 rfl ?_
    refine go_iload_n dX19_rule_36 rfl ?_
    refine go_aload_n dX19_rule_37 rfl ?_
    refine go_getR fX19_1_19 dX19_rule_38 (by assumption) rfl (by assumption) ?_
    refine go_getR fX19_97_0 dX19_rule_41 (by assumption) rfl (by assumption) ?_
    refine go_iload_n (x := nI k) dX19_rule_44 rfl ?_
    refine go_aald dX19_rule_45 (by assumption) ⟨rfl, by omega, by decide⟩ (by assumption) ?_
    refine go_aload_n dX19_rule_46 rfl ?_
    refine go_callV vX19_50_19 (ct_digit h01) dX19_rule_47 (by assumption) rfl rfl rfl rfl rfl (Nat.le_of_ble_eq_true rfl) (Nat.le_of_ble_eq_true rfl) (Nat.le_of_ble_eq_true rfl) (Nat.le_of_ble_eq_true rfl) (Nat.le_of_ble_eq_true rfl) (kr_R (fun d p2 hd => ?_)) (kt_R (fun e he o σ2 ht => ?_))
    · have e3 := dgt_le hd
      rw [um_um]
      refine go_callI iX19_101 (ct_ruleTold hTn) dX19_rule_50 rfl rfl rfl (Nat.le_of_ble_eq_true rfl) (Nat.le_of_ble_eq_true rfl) (Nat.le_of_ble_eq_true rfl) (Nat.le_of_ble_eq_true rfl) (Nat.le_of_ble_eq_true rfl) (kr_v ?_) kt_v
      refine go_aret rfl dX19_rule_53 (Nat.le_of_ble_eq_true rfl) (Nat.le_of_ble_eq_true rfl) ?_
      rw [hE, hd]
      refine ⟨n, rfl, ⟨?_, Or.inr (Or.inr (Or.inr ⟨rfl, hTn, ur_s, hk6, um_s, e3.2.2⟩))⟩, ?_, hT, fun a j ha hj => ⟨?_, ur_a (Nat.ne_of_lt ha)⟩, Nat.le_succ _, hTlt⟩
      · exact (um_k (by decide)).trans um_s
      · exact (um_a (Nat.ne_of_lt hRn)).trans ((um_a (Nat.ne_of_lt hRn)).trans um_s)
      · exact (um_a (Nat.ne_of_lt ha)).trans ((um_a (Nat.ne_of_lt ha)).trans (um_R hj))
    · refine qT_err (e := e) (by rw [hE, he]; rfl) ?_
      exact ht.tr hT (fun a j _ hj => ⟨um_R hj, rfl⟩) (Nat.le_succ _)
  · have e1 : rof_ (hr_ lt ln p) = none := by
      cases hq : rof_ (hr_ lt ln p) with
      | none => rfl
      | some k => rw [hq] at hc; cases hc
    refine qT_err (e := p) ?_ ht
    unfold rul_
    rw [one_none e1]
    rfl
theorem ct_sortRead (h : rd_ ty mi mr x R lt ln p) (hk : rk2_ ty mr x) : CT_ l D b yX19_sort hX19_sort (rm_ 9 9 57) [.ref R, .int (nI s)] (ty, mi, mr, n) (qT_ (bR_ (srt_ lt ln p) (fun f p2 => .inl ((1, f), p2))) x R s (ty, mi, mr, n)) := by
  have h0 := h
  obtain ⟨h1, h2, h3, h4, h5, h6, h7, h8, h9, h10, h11⟩ := h
  obtain ⟨-, -, -, k1, k2, k3⟩ := hk
  refine ct_of [some (.ref R), some (.int (nI s)), none, none, none, none, none] (by decide) rfl rfl ?_
  refine go_facts (fun hz hl hb => ?_)
  have hRn : R < n := (hl _ _ h1).2
  generalize hr0 : bR_ (srt_ lt ln p) (fun f p2 => (Sum.inl ((1, f), p2) : R_ tk_)) = res
  unfold srt_ at hr0
  refine go_aload_n dX19_sort_0 rfl ?_
  refine go_callV vX19_50_19 (ct_digit h0) dX19_sort_1 (by assumption) rfl rfl rfl rfl rfl (Nat.le_of_ble_eq_true rfl) (Nat.le_of_ble_eq_true rfl) (Nat.le_of_ble_eq_true rfl) (Nat.le_of_ble_eq_true rfl) (Nat.le_of_ble_eq_true rfl) (kr_R (fun d1 p1 hd => ?_)) (kt_R (fun e he o σ2 ht => ?_))
  · have e1 := dgt_le hd
    rw [hd] at hr0
    dsimp only [bR_] at hr0
    have h01 := h0.um (p2 := p1) (by omega)
    refine go_istore_n (ls2 := [_, _, _, _, _, _, _]) dX19_sort_4 rfl rfl ?_
    refine go_aload_n dX19_sort_5 rfl ?_
    refine go_aload_n dX19_sort_6 rfl ?_
    refine go_callV vX19_34_19 (ct_here h01) dX19_sort_7 (by assumption) rfl rfl rfl rfl rfl (Nat.le_of_ble_eq_true rfl) (Nat.le_of_ble_eq_true rfl) (Nat.le_of_ble_eq_true rfl) (Nat.le_of_ble_eq_true rfl) (Nat.le_of_ble_eq_true rfl) (kr_i ?_) kt_i
    refine go_callV vX19_74_19 (ct_goerOf) dX19_sort_10 (by assumption) rfl rfl rfl rfl rfl (Nat.le_of_ble_eq_true rfl) (Nat.le_of_ble_eq_true rfl) (Nat.le_of_ble_eq_true rfl) (Nat.le_of_ble_eq_true rfl) (Nat.le_of_ble_eq_true rfl) (kr_i ?_) kt_i
    refine go_istore_n (ls2 := [_, _, _, _, _, _, _]) dX19_sort_13 rfl rfl ?_
    refine go_aload_n dX19_sort_14 rfl ?_
    refine go_iload_n dX19_sort_15 rfl ?_
    refine go_tif_lt (m := nI 0) (n := nI 1) (t1 := 23) (t2 := 24) dX19_sort_16 (by decide) dX19_sort_19 (by decide) dX19_sort_20 (by decide) dX19_sort_23 (by decide) rfl ?_
    rw [oN_t _ (fun k hk => (gof_lt hk).1)]
    refine go_callV vX19_38_19 (ct_mustStand h01) dX19_sort_24 (by assumption) rfl rfl rfl rfl rfl (Nat.le_of_ble_eq_true rfl) (Nat.le_of_ble_eq_true rfl) (Nat.le_of_ble_eq_true rfl) (Nat.le_of_ble_eq_true rfl) (Nat.le_of_ble_eq_true rfl) (kr_f (fun hc => ?_)) (kt_f (fun hc o σ2 ht => ?_))
    · obtain ⟨k, hk⟩ := Option.isSome_iff_exists.mp hc
      have hk6 := (gof_lt hk).1
      have f1 := one_some (f := gof_) hk
      have e2 := one_le rfl f1
      rw [f1] at hr0
      dsimp only at hr0
      rw [hk]
      refine go_aload_n dX19_sort_27 rfl ?_
      refine go_dup dX19_sort_28 rfl ?_
      refine go_getI fX19_22_19 dX19_sort_29 (by assumption) rfl ?_
      rw [um_s]
      refine go_iconst (v := nI 1) dX19_sort_32 (by decide) ?_
      refine go_iadd dX19_sort_33 ?_
      rw [nI_add]
      refine go_putI fX19_22_19 p19_1 rfl rfl rfl dX19_sort_34 (by assumption) ?_
      rw [um_um]
      have h02 := h0.um (p2 := p1 + 1) (by omega)
      refine go_aload_n dX19_sort_37 rfl ?_
      refine go_callV vX19_50_19 (ct_digit h02) dX19_sort_38 (by assumption) rfl rfl rfl rfl rfl (Nat.le_of_ble_eq_true rfl) (Nat.le_of_ble_eq_true rfl) (Nat.le_of_ble_eq_true rfl) (Nat.le_of_ble_eq_true rfl) (Nat.le_of_ble_eq_true rfl) (kr_R (fun d3 p3 hd => ?_)) (kt_R (fun e he o σ2 ht => ?_))
      · have e3 := dgt_le hd
        rw [hd] at hr0
        dsimp only at hr0
        rw [um_um]
        have h03 := h0.um (p2 := p3) (by omega)
        refine go_istore (ls2 := [_, _, _, _, _, _, _]) dX19_sort_41 rfl rfl ?_
        refine go_aload_n dX19_sort_43 rfl ?_
        refine go_bipush (v := nI 44) dX19_sort_44 (by decide) ?_
        refine go_callV vX19_71_19 (ct_take h03) dX19_sort_46 (by assumption) rfl rfl rfl rfl rfl (Nat.le_of_ble_eq_true rfl) (Nat.le_of_ble_eq_true rfl) (Nat.le_of_ble_eq_true rfl) (Nat.le_of_ble_eq_true rfl) (Nat.le_of_ble_eq_true rfl) (kr_R (fun u4 p4 hd => ?_)) (kt_R (fun e he o σ2 ht => ?_))
        · have e4 := exp_le (by decide) hd
          rw [hd] at hr0
          dsimp only at hr0
          rw [um_um]
          have h04 := h0.um (p2 := p4) (by omega)
          refine go_aload_n dX19_sort_49 rfl ?_
          refine go_callV vX19_50_19 (ct_digit h04) dX19_sort_50 (by assumption) rfl rfl rfl rfl rfl (Nat.le_of_ble_eq_true rfl) (Nat.le_of_ble_eq_true rfl) (Nat.le_of_ble_eq_true rfl) (Nat.le_of_ble_eq_true rfl) (Nat.le_of_ble_eq_true rfl) (kr_R (fun d5 p5 hd => ?_)) (kt_R (fun e he o σ2 ht => ?_))
          · have e5 := dgt_le hd
            rw [hd] at hr0
            dsimp only at hr0
            rw [um_um]
            have h05 := h0.um (p2 := p5) (by omega)
            refine go_istore (ls2 := [_, _, _, _, _, _, _]) dX19_sort_53 rfl rfl ?_
            refine go_aload_n dX19_sort_55 rfl ?_
            refine go_callV vX19_50_19 (ct_digit h05) dX19_sort_56 (by assumption) rfl rfl rfl rfl rfl (Nat.le_of_ble_eq_true rfl) (Nat.le_of_ble_eq_true rfl) (Nat.le_of_ble_eq_true rfl) (Nat.le_of_ble_eq_true rfl) (Nat.le_of_ble_eq_true rfl) (kr_R (fun d6 p6 hd => ?_)) (kt_R (fun e he o σ2 ht => ?_))
            · have e6 := dgt_le hd
              rw [hd] at hr0
              dsimp only at hr0
              rw [um_um]
              have h06 := h0.um (p2 := p6) (by omega)
              refine go_istore (ls2 := [_, _, _, _, _, _, _]) dX19_sort_59 rfl rfl ?_
              refine go_new (c := 24) rfl q573 q103 dX19_sort_61 (Nat.le_of_ble_eq_true rfl) (Nat.le_of_ble_eq_true rfl) ?_
              refine go_dup dX19_sort_64 rfl ?_
              refine go_iload_n dX19_sort_65 rfl ?_
              refine go_new (c := 25) rfl q575 q104 dX19_sort_66 (Nat.le_of_ble_eq_true rfl) (Nat.le_of_ble_eq_true rfl) ?_
              have hT : ∀ a, a < n → ut_ (ut_ ty n (.inl 24)) (n + 1) (.inl 25) a = ty a := fun a h => (ut_a (by omega)).trans (ut_a (Nat.ne_of_lt h))
              have hTn : ut_ (ut_ ty n (.inl 24)) (n + 1) (.inl 25) n = some (.inl 24) := (ut_a (by omega)).trans ut_s
              have hTm : ut_ (ut_ ty n (.inl 24)) (n + 1) (.inl 25) (n + 1) = some (.inl 25) := ut_s
              have hTlt : ∀ a u, ut_ (ut_ ty n (.inl 24)) (n + 1) (.inl 25) a = some u → a < n + 1 + 1 := fun a u h => by
                by_cases h2 : a = n + 1
                · omega
                · rw [ut_a h2] at h
                  by_cases h3 : a = n
                  · omega
                  · rw [ut_a h3] at h
                    have := (hl a u h).2
                    omega
              generalize ut_ (ut_ ty n (.inl 24)) (n + 1) (.inl 25) = ty2 at hT hTn hTm hTlt ⊢
              have b1 : ty2 R = some (.inl 19) := (hT _ hRn).trans h1
              have b2 : ty2 x = some (.inl 0) := (hT _ (by omega)).trans h5
              have b3 : ty2 (x + 8) = some (.inr (.object "GoodHalfEmpty$Goer", 6)) := (hT _ (by omega)).trans k2
              have b4 := k3 k hk6
              have h07 := h06.ty hT hRn
              refine go_dup dX19_sort_69 rfl ?_
              refine go_aload_n dX19_sort_70 rfl ?_
              refine go_getR fX19_1_19 dX19_sort_71 (by assumption) rfl (by assumption) ?_
              refine go_getR fX19_82_0 dX19_sort_74 (by assumption) rfl (by assumption) ?_
              refine go_iload_n (x := nI k) dX19_sort_77 rfl ?_
              refine go_aald dX19_sort_78 (by assumption) ⟨rfl, by omega, by decide⟩ (by assumption) ?_
              refine go_iload_n dX19_sort_79 rfl ?_
              refine go_iload dX19_sort_80 rfl ?_
              refine go_iload dX19_sort_82 rfl ?_
              refine go_iload dX19_sort_84 rfl ?_
              refine go_aload_n dX19_sort_86 rfl ?_
              refine go_callV vX19_50_19 (ct_digit h07) dX19_sort_87 (by assumption) rfl rfl rfl rfl rfl (Nat.le_of_ble_eq_true rfl) (Nat.le_of_ble_eq_true rfl) (Nat.le_of_ble_eq_true rfl) (Nat.le_of_ble_eq_true rfl) (Nat.le_of_ble_eq_true rfl) (kr_R (fun d7 p7 hd => ?_)) (kt_R (fun e he o σ2 ht => ?_))
              · have e7 := dgt_le hd
                rw [hd] at hr0
                dsimp only at hr0
                rw [um_um]
                refine go_callI iX19_86 (ct_sortInit hTm) dX19_sort_90 rfl rfl rfl (Nat.le_of_ble_eq_true rfl) (Nat.le_of_ble_eq_true rfl) (Nat.le_of_ble_eq_true rfl) (Nat.le_of_ble_eq_true rfl) (Nat.le_of_ble_eq_true rfl) (kr_w2 (fun mB mr3 hp => ?_)) kt_w2
                obtain ⟨s0, s1, s2, s3, s4, s5, s6⟩ := hp
                refine go_callI iX19_89 (ct_sortTold hTn) dX19_sort_93 rfl rfl rfl (Nat.le_of_ble_eq_true rfl) (Nat.le_of_ble_eq_true rfl) (Nat.le_of_ble_eq_true rfl) (Nat.le_of_ble_eq_true rfl) (Nat.le_of_ble_eq_true rfl) (kr_v ?_) kt_v
                refine go_aret rfl dX19_sort_96 (Nat.le_of_ble_eq_true rfl) (Nat.le_of_ble_eq_true rfl) ?_
                rw [← hr0]
                have hu : ∀ j, um_ mB n 0 (nI s) (n + 1) j = mB (n + 1) j := fun j => um_a (by omega)
                refine ⟨n, rfl, ⟨um_s, Or.inr (Or.inr (Or.inl ⟨rfl, hTn, n + 1, ur_s, hTm, ?_, hk6, ?_, ?_, ?_, ?_, ?_, ?_, e1.2.2, e3.2.2⟩))⟩, ?_, hT, fun a j ha hj => ⟨?_, ?_⟩, ?_, hTlt⟩
                · exact (ur_a (by omega)).trans s1
                · exact (hu 1).trans s2
                · exact (hu 2).trans s3
                · exact (hu 3).trans s4
                · exact (hu 4).trans s5
                · exact (hu 5).trans s6
                · omega
                · exact (um_a (Nat.ne_of_lt hRn)).trans ((s0 _ _ (Nat.ne_of_lt (Nat.lt_succ_of_lt hRn))).1.trans um_s)
                · exact (um_a (Nat.ne_of_lt ha)).trans ((s0 _ _ (Nat.ne_of_lt (Nat.lt_succ_of_lt ha))).1.trans (um_R hj))
                · exact (ur_a (Nat.ne_of_lt ha)).trans (s0 _ _ (Nat.ne_of_lt (Nat.lt_succ_of_lt ha))).2
                · show n ≤ n + 1 + 1
                  omega
              · rw [he] at hr0
                dsimp only at hr0
                refine qT_err hr0.symm ?_
                exact ht.tr hT (fun a j _ hj => ⟨um_R hj, rfl⟩) (by show n ≤ n + 1 + 1; omega)
            · rw [he] at hr0
              dsimp only at hr0
              exact qT_err hr0.symm ht.um
          · rw [he] at hr0
            dsimp only at hr0
            exact qT_err hr0.symm ht.um
        · rw [he] at hr0
          dsimp only at hr0
          exact qT_err hr0.symm ht.um
      · rw [he] at hr0
        dsimp only at hr0
        exact qT_err hr0.symm ht.um
    · have f1 : gof_ (hr_ lt ln p1) = none := by
        cases hq : gof_ (hr_ lt ln p1) with
        | none => rfl
        | some k => rw [hq] at hc; cases hc
      rw [one_none f1] at hr0
      dsimp only at hr0
      exact qT_err hr0.symm ht.um
  · rw [he] at hr0
    dsimp only [bR_] at hr0
    exact qT_err hr0.symm ht
end STM
