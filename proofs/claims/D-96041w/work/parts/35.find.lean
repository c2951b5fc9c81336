/-! ALL PLANS ARE GONE THROUGH; THE BEST PENNY, THE BEST CHAIRS -/
set_option maxRecDepth 100000
theorem nx_eq {v w : tv_} : ∀ {k : Nat} {p : pln_}, (∀ s, s < k → my_ v s = my_ w s) → nx_ v k p = nx_ w k p
  | 0, _, _ => rfl
  | k + 1, p, h => by
    unfold nx_
    rw [h k (by omega), nx_eq (fun s hs => h s (by omega))]
section FIND
variable {l : Launch} {D : dd_} {b : Nat} {ty : ty_} {mi : mi_} {mr : mr_} {n x t : Nat} {v w : tv_}
theorem ct_findPlans (hc : pc_ ty mr x) (hts : ts_ ty mr t) (hr : tr_ ty mi mr x (x + 15) v) (hv : wf_ v) (hrw : tr_ ty mi mr x t w) (hw : wf_ w) (h0 : w 0 = v 0) (h1 : ∀ s, s < sN v → w (10 + 6 * s) = v (10 + 6 * s)) (ht : x < t) (ht2 : t + 8 ≤ x + 43) : CT_ l D b yX0_findPlans hX0_findPlans (rm_ 3 0 0) [.ref x, .ref t] (ty, mi, mr, n) (qw_ (fun mi2 => fh_ (pfin_ w) mi2 x ∧ (pfin_ w).2.2.2.2.2.2 = false ∧ pfr_ x mi mi2) ty mr n) := by
  have hc0 := hc
  obtain ⟨a1, a2, a3, a4, a5, a6, a7⟩ := hc
  have hsn : sN w = sN v := sN_of h0
  have hnx : ∀ p, nx_ v (sN v) p = nx_ w (sN w) p := fun p => by
    rw [hsn]
    exact nx_eq (fun s hs => by unfold my_; rw [h1 s hs])
  have hpo : ∀ p, po_ v p = po_ w p := fun p => by unfold po_; rw [hsn]
  have hm9 : ∀ s, s < sN w → my_ w s ≤ 9 := fun s hs => (my_nI hw hs).2
  have h4 := hw.2.1
  refine ct_of [some (.ref x), some (.ref t), none, none, none, none] (by decide) rfl rfl ?_
  refine go_iconst (v := nI 0) dX0_findPlans_0 (by decide) ?_
  refine go_istore_n (ls2 := [_, _, _, _, _, _]) dX0_findPlans_1 rfl rfl ?_
  refine go_forI (α := mi_) 4 (fun s _ => [some (.ref x), some (.ref t), some (.int (nI s)), none, none, none]) (fun s m => (ty, m, mr, n)) (fun s m => pfr_ x mi m ∧ ∀ j, j < s → m (x + 43) j = nI 0) 0 mi (by omega) ⟨pfr_.rf, fun j h => absurd h (Nat.not_lt_zero _)⟩ (fun s m _ hs hI ih => ?_) (fun m hI => ?_)
  · refine go_iload_n dX0_findPlans_2 rfl ?_
    refine go_iconst (v := nI 4) dX0_findPlans_3 (by decide) ?_
    refine go_icmp_ge (tgt := 20) dX0_findPlans_4 (by decide) (fun h0_ => absurd h0_ (nI_ge (by omega) (by omega))) (fun _ => ?_)
    refine go_aload_n dX0_findPlans_7 rfl ?_
    refine go_getR fX0_98_0 dX0_findPlans_8 (by assumption) rfl (by assumption) ?_
    refine go_iload_n dX0_findPlans_11 rfl ?_
    refine go_iconst (v := nI 0) dX0_findPlans_12 (by decide) ?_
    refine go_iast dX0_findPlans_13 (by assumption) ⟨rfl, by omega, by decide⟩ ?_
    refine go_iinc (ls2 := [_, _, _, _, _, _]) dX0_findPlans_14 rfl (nI_inc _) rfl rfl ?_
    refine go_goto (tgt := 2) dX0_findPlans_17 (by decide) ?_
    refine ih _ ⟨hI.1.tr pfr_p, fun j hj => ?_⟩
    by_cases h : j = s
    · subst h; exact um_s
    · exact (um_k h).trans (hI.2 j (by omega))
  · refine go_iload_n dX0_findPlans_2 rfl ?_
    refine go_iconst (v := nI 4) dX0_findPlans_3 (by decide) ?_
    refine go_icmp_ge (tgt := 20) dX0_findPlans_4 (by decide) (fun _ => ?_) (fun h0_ => absurd (nI_le (by omega) (by omega)) h0_)
    refine go_aload_n dX0_findPlans_20 rfl ?_
    refine go_iconst (v := nI 0) dX0_findPlans_21 (by decide) ?_
    refine go_putI fX0_196_0 p0_18 rfl rfl rfl dX0_findPlans_22 (by assumption) ?_
    refine go_iconst (v := nI 1) dX0_findPlans_25 (by decide) ?_
    refine go_istore_n (ls2 := [_, _, _, _, _, _]) dX0_findPlans_26 rfl rfl ?_
    refine go_iconst (v := nI 1) dX0_findPlans_27 (by decide) ?_
    refine go_istore_n (ls2 := [_, _, _, _, _, _]) dX0_findPlans_28 rfl rfl ?_
    refine go_loop (α := Nat × pln_ × pF_ × mi_ × Bool × Option Value × Option Value) (fun c => c.1 + (if c.2.2.2.2.1 = true then 1 else 0)) (fun c => [some (.ref x), some (.ref t), some (.int (bo_ c.2.2.1.2.2.2.2.2.2)), some (.int (bo_ c.2.2.2.2.1)), c.2.2.2.2.2.1, c.2.2.2.2.2.2]) (fun c => (ty, c.2.2.2.1, mr, n)) (fun c => pfr_ x mi c.2.2.2.1 ∧ fh_ c.2.2.1 c.2.2.2.1 x ∧ ((c.2.2.2.2.1 = true ∧ pgo_ w c.1 c.2.1 c.2.2.1 = pfin_ w ∧ 10000 ≤ vl_ c.2.1 + c.1 ∧ (∀ s, c.2.1 s ≤ 9) ∧ ph_ c.2.2.2.1 (x + 43) c.2.1) ∨ (c.2.2.2.2.1 = false ∧ c.2.2.1 = pfin_ w ∧ c.2.2.1.2.2.2.2.2.2 = false))) ?_ (10000, (fun _ => 0), (nI 0, nI 0, nI 0, nI 0, nI 0, fun _ => nI 0, true), um_ m x 18 (nI 0), true, none, none) ⟨hI.1.tr (pfr_x (by decide)), ⟨um_s, fun z => Bool.noConfusion z, fun z => absurd rfl z⟩, Or.inl ⟨rfl, rfl, by omega, fun _ => Nat.zero_le _, fun s hs => (um_a (by omega)).trans (hI.2 s hs)⟩⟩
    rintro ⟨f, p, F, m1, mo, o4, o5⟩ ⟨i1, i2, i3⟩ ih
    dsimp only at i1 i2 i3 ⊢
    rcases i3 with ⟨rfl, g1, g2, g3, g4⟩ | ⟨rfl, g1, g2⟩
    · obtain ⟨f2, rfl⟩ : ∃ f2, f = f2 + 1 := by
        have := vl_lt g3
        exact ⟨f - 1, by omega⟩
      have r1 : tr_ ty m1 mr x (x + 15) v := pfr_tr i1 (by omega) (by omega) hr
      have r2 : tr_ ty m1 mr x t w := pfr_tr i1 ht ht2 hrw
      refine go_iload_n dX0_findPlans_29 rfl ?_
      refine go_if_eq (tgt := 101) dX0_findPlans_30 (by decide) (fun h0_ => absurd h0_ ((by decide))) (fun _ => ?_)
      refine go_aload_n dX0_findPlans_33 rfl ?_
      refine go_callV vX0_199_0 (ct_presentOf hc0 r1 hv g4) dX0_findPlans_34 (by assumption) rfl rfl rfl rfl rfl (Nat.le_of_ble_eq_true rfl) (Nat.le_of_ble_eq_true rfl) (Nat.le_of_ble_eq_true rfl) (Nat.le_of_ble_eq_true rfl) (Nat.le_of_ble_eq_true rfl) (kr_i ?_) kt_i
      rw [hpo]
      refine go_istore (ls2 := [_, _, _, _, _, _]) dX0_findPlans_37 rfl rfl ?_
      refine go_aload_n dX0_findPlans_39 rfl ?_
      refine go_aload_n dX0_findPlans_40 rfl ?_
      refine go_iload dX0_findPlans_41 rfl ?_
      refine go_callV vX0_202_0 (ct_worthOfPlan hc0 hts r2 hw g4) dX0_findPlans_43 (by assumption) rfl rfl rfl rfl rfl (Nat.le_of_ble_eq_true rfl) (Nat.le_of_ble_eq_true rfl) (Nat.le_of_ble_eq_true rfl) (Nat.le_of_ble_eq_true rfl) (Nat.le_of_ble_eq_true rfl) (kr_i ?_) kt_i
      refine go_istore (ls2 := [_, _, _, _, _, _]) dX0_findPlans_46 rfl rfl ?_
      refine go_iload_n dX0_findPlans_48 rfl ?_
      have tail : ∀ (F1 : pF_) (m2 : mi_), F1.2.2.2.2.2.2 = false → F1 = ps1_ F (po_ w p) (wp_ w p (po_ w p)) → pfr_ x mi m2 → fh_ F1 m2 x → ph_ m2 (x + 43) p → G_ l D b (yX0_findPlans.cls, yX0_findPlans.name, 6, none, rm_ 3 0 0, []) (qw_ (fun mi2 => fh_ (pfin_ w) mi2 x ∧ (pfin_ w).2.2.2.2.2.2 = false ∧ pfr_ x mi mi2) ty mr n) cX0_findPlans 73 [some (.ref x), some (.ref t), some (.int (bo_ F.2.2.2.2.2.2)), some (.int (bo_ true)), some (.int (po_ w p)), some (.int (wp_ w p (po_ w p)))] [] (ty, m2, mr, n) 0 0 := by
        intro F1 m2 k1 k2 k3 k4 k5
        have s1 : tr_ ty m2 mr x (x + 15) v := pfr_tr k3 (by omega) (by omega) hr
        have s2 : tr_ ty m2 mr x t w := pfr_tr k3 ht ht2 hrw
        refine go_iconst (v := nI 0) dX0_findPlans_73 (by decide) ?_
        refine go_istore_n (ls2 := [_, _, _, _, _, _]) dX0_findPlans_74 rfl rfl ?_
        refine go_aload_n dX0_findPlans_75 rfl ?_
        refine go_aload_n dX0_findPlans_76 rfl ?_
        refine go_iload dX0_findPlans_77 rfl ?_
        refine go_callV vX0_212_0 (ct_doesRest hc0 hts s2 hw k5 g3) dX0_findPlans_79 (by assumption) rfl rfl rfl rfl rfl (Nat.le_of_ble_eq_true rfl) (Nat.le_of_ble_eq_true rfl) (Nat.le_of_ble_eq_true rfl) (Nat.le_of_ble_eq_true rfl) (Nat.le_of_ble_eq_true rfl) (kr_i ?_) kt_i
        have last : ∀ (F2 : pF_) (m3 : mi_), F2.2.2.2.2.2.2 = false → F2 = pst_ w p F → pfr_ x mi m3 → fh_ F2 m3 x → ph_ m3 (x + 43) p → G_ l D b (yX0_findPlans.cls, yX0_findPlans.name, 6, none, rm_ 3 0 0, []) (qw_ (fun mi2 => fh_ (pfin_ w) mi2 x ∧ (pfin_ w).2.2.2.2.2.2 = false ∧ pfr_ x mi mi2) ty mr n) cX0_findPlans 93 [some (.ref x), some (.ref t), some (.int (nI 0)), some (.int (bo_ true)), some (.int (po_ w p)), some (.int (wp_ w p (po_ w p)))] [] (ty, m3, mr, n) 0 0 := by
          intro F2 m3 l1 l2 l3 l4 l5
          have s1 : tr_ ty m3 mr x (x + 15) v := pfr_tr l3 (by omega) (by omega) hr
          refine go_aload_n dX0_findPlans_93 rfl ?_
          refine go_callV vX0_220_0 (ct_nextPlan hc0 s1 hv l5 g3) dX0_findPlans_94 (by assumption) rfl rfl rfl rfl rfl (Nat.le_of_ble_eq_true rfl) (Nat.le_of_ble_eq_true rfl) (Nat.le_of_ble_eq_true rfl) (Nat.le_of_ble_eq_true rfl) (Nat.le_of_ble_eq_true rfl) (kr_p (fun r mi2 hp => ?_)) kt_p
          obtain ⟨c1, c2, c3⟩ := hp
          rw [hnx] at c1 c3
          subst c1
          refine go_istore_n (ls2 := [_, _, _, _, _, _]) dX0_findPlans_97 rfl rfl ?_
          refine go_goto (tgt := 29) dX0_findPlans_98 (by decide) ?_
          have q1 : pfr_ x mi mi2 := l3.tr (fun a j h1 h2 h3 => c2 a j h2)
          have q2 : fh_ F2 mi2 x := ⟨(c2 _ _ (by omega)).trans l4.1, fun z => ⟨(c2 _ _ (by omega)).trans (l4.2.1 z).1, (c2 _ _ (by omega)).trans (l4.2.1 z).2⟩, fun z => ⟨(c2 _ _ (by omega)).trans (l4.2.2 z).1, (c2 _ _ (by omega)).trans (l4.2.2 z).2.1, fun s hs => (c2 _ _ (by omega)).trans ((l4.2.2 z).2.2 s hs)⟩⟩
          cases hx : nx_ w (sN w) p with
          | none =>
            have := ih (f2, p, F2, mi2, false, some (.int (po_ w p)), some (.int (wp_ w p (po_ w p)))) ⟨q1, q2, Or.inr ⟨rfl, ?_, l1⟩⟩ (by show f2 + 0 < f2 + 1 + 1; omega)
            · dsimp only at this
              rw [l1] at this
              exact this
            · rw [← g1]
              unfold pgo_
              rw [hx]
              exact l2
          | some p2 =>
            have := ih (f2, p2, F2, mi2, true, some (.int (po_ w p)), some (.int (wp_ w p (po_ w p)))) ⟨q1, q2, Or.inl ⟨rfl, ?_, ?_, nx_9 hm9 g3 hx, c3 p2 hx⟩⟩ (by show f2 + 1 < f2 + 1 + 1; omega)
            · dsimp only at this
              rw [l1] at this
              exact this
            · rw [← g1, l2]
              conv => rhs; unfold pgo_
              rw [hx]
            · have := nx_vl h4 g3 hx
              dsimp only
              omega
        refine go_if_eq (tgt := 93) dX0_findPlans_82 (by decide) (fun h => ?_) (fun h => ?_)
        · have h2 := bo_0.mp h
          refine last F1 m2 k1 ?_ k3 k4 k5
          unfold pst_
          rw [if_neg (by rw [h2]; decide)]
          exact k2
        · have h2 : dr_ w p (po_ w p) (sN w) = true := by
            cases hd : dr_ w p (po_ w p) (sN w) with
            | true => rfl
            | false => exact absurd (bo_0.mpr hd) h
          refine go_aload_n dX0_findPlans_85 rfl ?_
          refine go_iload dX0_findPlans_86 rfl ?_
          refine go_iload dX0_findPlans_88 rfl ?_
          refine go_callV vX0_216_0 (ct_keepRest hc0 k5 k4) dX0_findPlans_90 (by assumption) rfl rfl rfl rfl rfl (Nat.le_of_ble_eq_true rfl) (Nat.le_of_ble_eq_true rfl) (Nat.le_of_ble_eq_true rfl) (Nat.le_of_ble_eq_true rfl) (Nat.le_of_ble_eq_true rfl) (kr_w (fun mi2 hp => ?_)) kt_w
          refine last (ps2_ F1 p (po_ w p) (wp_ w p (po_ w p))) mi2 (by rw [ps2_fi]; exact k1) ?_ (k3.tr hp.2.1) hp.1 hp.2.2
          unfold pst_
          rw [if_pos h2, k2]
      have set : F.2.2.2.2.2.2 = true ∨ F.2.2.2.1 < wp_ w p (po_ w p) → G_ l D b (yX0_findPlans.cls, yX0_findPlans.name, 6, none, rm_ 3 0 0, []) (qw_ (fun mi2 => fh_ (pfin_ w) mi2 x ∧ (pfin_ w).2.2.2.2.2.2 = false ∧ pfr_ x mi mi2) ty mr n) cX0_findPlans 61 [some (.ref x), some (.ref t), some (.int (bo_ F.2.2.2.2.2.2)), some (.int (bo_ true)), some (.int (po_ w p)), some (.int (wp_ w p (po_ w p)))] [] (ty, m1, mr, n) 0 0 := by
        intro hh
        refine go_aload_n dX0_findPlans_61 rfl ?_
        refine go_iload dX0_findPlans_62 rfl ?_
        refine go_putI fX0_206_0 p0_21 rfl rfl rfl dX0_findPlans_64 (by assumption) ?_
        refine go_aload_n dX0_findPlans_67 rfl ?_
        refine go_iload dX0_findPlans_68 rfl ?_
        refine go_putI fX0_209_0 p0_22 rfl rfl rfl dX0_findPlans_70 (by assumption) ?_
        refine tail (ps1_ F (po_ w p) (wp_ w p (po_ w p))) _ ps1_fi rfl (i1.tr ((pfr_x (by decide)).tr (pfr_x (by decide)))) ?_ (fun s hs => (um_a (by omega)).trans ((um_a (by omega)).trans (g4 s hs)))
        unfold ps1_
        rw [if_pos hh]
        exact ⟨(um_k (by decide)).trans ((um_k (by decide)).trans i2.1), fun _ => ⟨(um_k (by decide)).trans um_s, um_s⟩, fun z => ⟨(um_k (by decide)).trans ((um_k (by decide)).trans (i2.2.2 z).1), (um_k (by decide)).trans ((um_k (by decide)).trans (i2.2.2 z).2.1), fun s hs => (um_a (by omega)).trans ((um_a (by omega)).trans ((i2.2.2 z).2.2 s hs))⟩⟩
      refine go_if_ne (tgt := 61) dX0_findPlans_49 (by decide) (fun h => ?_) (fun h => ?_)
      · refine set (Or.inl ?_)
        cases hd : F.2.2.2.2.2.2 with
        | true => rfl
        | false => exact absurd (bo_0.mpr hd) h
      · have h2 := bo_0.mp h
        refine go_iload dX0_findPlans_52 rfl ?_
        refine go_aload_n dX0_findPlans_54 rfl ?_
        refine go_getI fX0_206_0 dX0_findPlans_55 (by assumption) rfl ?_
        rw [(i2.2.1 h2).1]
        refine go_icmp_le (tgt := 73) dX0_findPlans_58 (by decide) (fun h3 => ?_) (fun h3 => ?_)
        · have h5 : ¬ (F.2.2.2.2.2.2 = true ∨ F.2.2.2.1 < wp_ w p (po_ w p)) := by
            rintro (z | z)
            · rw [h2] at z; cases z
            · exact absurd z (by simpa using h3)
          refine tail (ps1_ F (po_ w p) (wp_ w p (po_ w p))) m1 ps1_fi rfl i1 ?_ g4
          unfold ps1_
          rw [if_neg h5]
          exact ⟨i2.1, fun _ => i2.2.1 h2, i2.2.2⟩
        · exact set (Or.inr (by simpa using h3))
    · refine go_iload_n dX0_findPlans_29 rfl ?_
      refine go_if_eq (tgt := 101) dX0_findPlans_30 (by decide) (fun _ => ?_) (fun h0_ => absurd ((by decide)) h0_)
      refine go_vret rfl dX0_findPlans_101 (Nat.le_of_ble_eq_true rfl) (Nat.le_of_ble_eq_true rfl) ?_
      exact ⟨_, rfl, rfl, g1 ▸ i2, by rw [← g1]; exact g2, i1⟩
end FIND
