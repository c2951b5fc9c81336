/-! THE NEXT PLAN; ALL PLANS -/
set_option maxRecDepth 100000
theorem pd_1 (k : Nat) : nI (k + 1) - nI 1 = nI k := nI_pred k
theorem pd_0 : nI 0 - nI 1 < 0 := by decide
theorem pd_dec (k : Nat) : nI k + Int32.ofInt (-1) = nI k - nI 1 := by
  rw [show Int32.ofInt (-1) = -1 from rfl, show nI 1 = 1 from rfl, Int32.sub_eq_add_neg]
def fh_ (F : pF_) (m : mi_) (x : Nat) : Prop := m x 18 = F.1 ∧ (F.2.2.2.2.2.2 = false → m x 21 = F.2.2.2.1 ∧ m x 22 = F.2.2.2.2.1) ∧ (¬ F.1 = 0 → m x 19 = F.2.1 ∧ m x 20 = F.2.2.1 ∧ ∀ s, s < 4 → m (x + 44) s = F.2.2.2.2.2.1 s)
def pfr_ (x : Nat) (mi mi2 : mi_) : Prop := ∀ a j, ¬ (a = x ∧ 18 ≤ j) → a ≠ x + 43 → a ≠ x + 44 → mi2 a j = mi a j
theorem pfr_.tr {x : Nat} {m1 m2 m3 : mi_} (h1 : pfr_ x m1 m2) (h2 : pfr_ x m2 m3) : pfr_ x m1 m3 := fun a j g1 g2 g3 => (h2 a j g1 g2 g3).trans (h1 a j g1 g2 g3)
theorem pfr_.rf {x : Nat} {m : mi_} : pfr_ x m m := fun _ _ _ _ _ => rfl
theorem pfr_x {x j : Nat} {m : mi_} {z : Int32} (h : 18 ≤ j) : pfr_ x m (um_ m x j z) := by
  intro a j2 h1 h2 h3
  by_cases h4 : a = x
  · subst h4
    exact um_k (by omega)
  · exact um_a h4
theorem pfr_p {x j : Nat} {m : mi_} {z : Int32} : pfr_ x m (um_ m (x + 43) j z) := fun a j2 h1 h2 h3 => um_a h2
theorem pfr_sk {x n : Nat} {mi mi2 : mi_} (h : pfr_ x mi mi2) : sk_ x n mi mi2 := fun a j h1 h2 => h a j (by unfold sc_ at h2; omega) (by unfold sc_ at h2; omega) (by unfold sc_ at h2; omega)
theorem pfr_tr {ty : ty_} {mi mi2 : mi_} {mr : mr_} {x t : Nat} {v : tv_} (h : pfr_ x mi mi2) (ht : x < t) (ht2 : t + 8 ≤ x + 43) (hr : tr_ ty mi mr x t v) : tr_ ty mi2 mr x t v := tr_fr hr (fun _ _ _ h => h) (fun a j h1 _ => h a j (by omega) (by omega) (by omega)) (fun _ _ _ _ => rfl) (by omega)
theorem mx_self (w : Int32) : mx_ w w = w := by unfold mx_; split <;> rfl
section PLANS2
variable {l : Launch} {D : dd_} {b : Nat} {ty : ty_} {mi : mi_} {mr : mr_} {n x t : Nat} {v w : tv_} {p : pln_}
theorem ct_nextPlan (hc : pc_ ty mr x) (hr : tr_ ty mi mr x (x + 15) v) (hv : wf_ v) (hp : ph_ mi (x + 43) p) (hp9 : ∀ s, p s ≤ 9) : CT_ l D b yX0_nextPlan hX0_nextPlan (rm_ 2 0 0) [.ref x] (ty, mi, mr, n) (qp_ (fun r mi2 => r = bo_ (nx_ v (sN v) p).isSome ∧ (∀ a j, a ≠ x + 43 → mi2 a j = mi a j) ∧ ∀ p2, nx_ v (sN v) p = some p2 → ph_ mi2 (x + 43) p2) ty mr n) := by
  obtain ⟨a1, a2, a3, a4, a5, a6, a7⟩ := hc
  have b1 := a7.1
  have b2 := a7.2.1
  have b3 := a7.2.2.2.2.2.2.2.2.1
  have hn : mi (x + 15) 1 = nI (sN v) := hr.2.1.trans hv.1
  have h4 := hv.2.1
  refine ct_of [some (.ref x), none] (by decide) rfl rfl ?_
  refine go_aload_n dX0_nextPlan_0 rfl ?_
  refine go_getR fX0_73_0 dX0_nextPlan_1 (by assumption) rfl (by assumption) ?_
  refine go_getI fX0_177_15 dX0_nextPlan_4 (by assumption) rfl ?_
  rw [hn]
  refine go_iconst (v := nI 1) dX0_nextPlan_7 (by decide) ?_
  refine go_isub dX0_nextPlan_8 ?_
  refine go_istore_n (ls2 := [_, _]) dX0_nextPlan_9 rfl rfl ?_
  refine go_loop (α := Nat × pln_ × mi_) (fun c => c.1) (fun c => [some (.ref x), some (.int (nI c.1 - nI 1))]) (fun c => (ty, c.2.2, mr, n)) (fun c => c.1 ≤ sN v ∧ nx_ v c.1 c.2.1 = nx_ v (sN v) p ∧ ph_ c.2.2 (x + 43) c.2.1 ∧ (∀ s, c.2.1 s ≤ 9) ∧ ∀ a j, a ≠ x + 43 → c.2.2 a j = mi a j) ?_ (sN v, p, mi) ⟨Nat.le_refl _, rfl, hp, hp9, fun _ _ _ => rfl⟩
  rintro ⟨k, p1, m⟩ ⟨i1, i2, i3, i4, i5⟩ ih
  dsimp only at i1 i2 i3 i4 i5
  cases k with
  | zero =>
    refine go_iload_n dX0_nextPlan_10 rfl ?_
    refine go_if_lt (tgt := 60) dX0_nextPlan_11 (by decide) (fun _ => ?_) (fun h0_ => absurd (pd_0) h0_)
    refine go_iconst (v := nI 0) dX0_nextPlan_60 (by decide) ?_
    refine go_zret rfl rfl dX0_nextPlan_61 (Nat.le_of_ble_eq_true rfl) (Nat.le_of_ble_eq_true rfl) ?_
    refine ⟨_, _, rfl, rfl, ?_, i5, ?_⟩
    · rw [← i2]; rfl
    · intro p2 h
      rw [← i2] at h
      cases h
  | succ k =>
    have hk : k < sN v := by omega
    obtain ⟨g, g1, g2⟩ := hr.2.2.2.2.2.2.1 k hk
    have g3 := g2.1
    have gm := my_nI hv hk
    have gp := i4 k
    have gx : m g 1 = nI (my_ v k) := by
      rw [i5 g 1 (by have := g2.2.2.2.2.2.2.2; omega), g2.2.2.1]
      exact gm.1
    have hs : ∀ z : Nat, ph_ (um_ m (x + 43) k (nI z)) (x + 43) (pu_ p1 k z) := by
      intro z s h
      unfold pu_
      by_cases h2 : s = k
      · subst h2
        rw [um_s, if_pos rfl]
      · rw [um_k h2, if_neg h2]
        exact i3 s h
    dsimp only
    rw [pd_1]
    refine go_iload_n dX0_nextPlan_10 rfl ?_
    refine go_if_lt (tgt := 60) dX0_nextPlan_11 (by decide) (fun h0_ => absurd h0_ (nI_pos (by omega))) (fun _ => ?_)
    refine go_aload_n dX0_nextPlan_14 rfl ?_
    refine go_getR fX0_98_0 dX0_nextPlan_15 (by assumption) rfl (by assumption) ?_
    refine go_iload_n dX0_nextPlan_18 rfl ?_
    refine go_dup2 dX0_nextPlan_19 rfl rfl ?_
    refine go_iald dX0_nextPlan_20 (by assumption) ⟨rfl, by omega, by decide⟩ ?_
    rw [i3 k (by omega)]
    refine go_iconst (v := nI 1) dX0_nextPlan_21 (by decide) ?_
    refine go_iadd dX0_nextPlan_22 ?_
    rw [nI_add]
    refine go_iast dX0_nextPlan_23 (by assumption) ⟨rfl, by omega, by decide⟩ ?_
    refine go_aload_n dX0_nextPlan_24 rfl ?_
    refine go_getR fX0_98_0 dX0_nextPlan_25 (by assumption) rfl (by assumption) ?_
    refine go_iload_n dX0_nextPlan_28 rfl ?_
    refine go_iald dX0_nextPlan_29 (by assumption) ⟨rfl, by omega, by decide⟩ ?_
    rw [um_s]
    refine go_aload_n dX0_nextPlan_30 rfl ?_
    refine go_getR fX0_73_0 dX0_nextPlan_31 (by assumption) rfl (by assumption) ?_
    refine go_getR fX0_180_15 dX0_nextPlan_34 (by assumption) rfl (by assumption) ?_
    refine go_iload_n dX0_nextPlan_37 rfl ?_
    refine go_aald dX0_nextPlan_38 (by assumption) ⟨rfl, by omega, by decide⟩ (by assumption) ?_
    refine go_getI fX0_184_25 dX0_nextPlan_39 (by assumption) rfl ?_
    rw [um_a (by have := g2.2.2.2.2.2.2.2; omega), gx]
    refine go_icmp_gt (tgt := 47) dX0_nextPlan_42 (by decide) (fun h => ?_) (fun h => ?_)
    · have h2 : ¬ p1 k < my_ v k := by
        have := (nI_ltI (by omega) (by omega)).mp h
        omega
      have e : um_ (um_ m (x + 43) k (nI (p1 k + 1))) (x + 43) k (nI 0) = um_ m (x + 43) k (nI 0) := by
        funext a j
        unfold um_
        split <;> rfl
      refine go_aload_n dX0_nextPlan_47 rfl ?_
      refine go_getR fX0_98_0 dX0_nextPlan_48 (by assumption) rfl (by assumption) ?_
      refine go_iload_n dX0_nextPlan_51 rfl ?_
      refine go_iconst (v := nI 0) dX0_nextPlan_52 (by decide) ?_
      refine go_iast dX0_nextPlan_53 (by assumption) ⟨rfl, by omega, by decide⟩ ?_
      rw [e]
      refine go_iinc (ls2 := [_, _]) dX0_nextPlan_54 rfl (pd_dec _) rfl rfl ?_
      refine go_goto (tgt := 10) dX0_nextPlan_57 (by decide) ?_
      refine ih (k, pu_ p1 k 0, um_ m (x + 43) k (nI 0)) ⟨by omega, ?_, hs 0, fun s => ?_, fun a j h3 => ?_⟩ (Nat.lt_succ_self _)
      · rw [← i2]
        show _ = (if p1 k < my_ v k then some (pu_ p1 k (p1 k + 1)) else nx_ v k (pu_ p1 k 0))
        rw [if_neg h2]
      · show pu_ p1 k 0 s ≤ 9
        have := i4 s
        unfold pu_
        split <;> omega
      · exact (um_a h3).trans (i5 a j h3)
    · have h2 : p1 k < my_ v k := by
        have : ¬ my_ v k < p1 k + 1 := fun z => h (nI_lt z (by omega))
        omega
      have i6 : some (pu_ p1 k (p1 k + 1)) = nx_ v (sN v) p := by
        rw [← i2]
        show _ = (if p1 k < my_ v k then some (pu_ p1 k (p1 k + 1)) else nx_ v k (pu_ p1 k 0))
        rw [if_pos h2]
      refine go_iconst (v := nI 1) dX0_nextPlan_45 (by decide) ?_
      refine go_zret rfl rfl dX0_nextPlan_46 (Nat.le_of_ble_eq_true rfl) (Nat.le_of_ble_eq_true rfl) ?_
      refine ⟨_, _, rfl, rfl, ?_, fun a j h3 => (um_a h3).trans (i5 a j h3), fun p2 h3 => ?_⟩
      · rw [← i6]; rfl
      · rw [← i6] at h3
        cases h3
        exact hs (p1 k + 1)
theorem ct_keepRest {F : pF_} {q z : Int32} (hc : pc_ ty mr x) (hp : ph_ mi (x + 43) p) (hF : fh_ F mi x) : CT_ l D b yX0_keepRest hX0_keepRest (rm_ 2 0 0) [.ref x, .int q, .int z] (ty, mi, mr, n) (qw_ (fun mi2 => fh_ (ps2_ F p q z) mi2 x ∧ pfr_ x mi mi2 ∧ ph_ mi2 (x + 43) p) ty mr n) := by
  obtain ⟨a1, a2, a3, a4, a5, a6, a7⟩ := hc
  obtain ⟨f1, f2, f3⟩ := hF
  refine ct_of [some (.ref x), some (.int q), some (.int z)] (by decide) rfl rfl ?_
  refine go_aload_n dX0_keepRest_0 rfl ?_
  refine go_getI fX0_196_0 dX0_keepRest_1 (by assumption) rfl ?_
  rw [f1]
  refine go_if_ne (tgt := 31) dX0_keepRest_4 (by decide) (fun h => ?_) (fun h => ?_)
  · refine go_aload_n dX0_keepRest_31 rfl ?_
    refine go_dup dX0_keepRest_32 rfl ?_
    refine go_getI fX0_196_0 dX0_keepRest_33 (by assumption) rfl ?_
    rw [f1]
    refine go_iconst (v := nI 1) dX0_keepRest_36 (by decide) ?_
    refine go_iadd dX0_keepRest_37 ?_
    refine go_putI fX0_196_0 p0_18 rfl rfl rfl dX0_keepRest_38 (by assumption) ?_
    refine go_aload_n dX0_keepRest_41 rfl ?_
    refine go_aload_n dX0_keepRest_42 rfl ?_
    refine go_getI fX0_227_0 dX0_keepRest_43 (by assumption) rfl ?_
    rw [um_k (by decide), (f3 h).2.1]
    refine go_iload_n dX0_keepRest_46 rfl ?_
    refine go_callS sX0_159 (ct_max) dX0_keepRest_47 rfl rfl rfl (Nat.le_of_ble_eq_true rfl) (Nat.le_of_ble_eq_true rfl) (Nat.le_of_ble_eq_true rfl) (Nat.le_of_ble_eq_true rfl) (Nat.le_of_ble_eq_true rfl) (kr_i ?_) kt_i
    refine go_putI fX0_227_0 p0_20 rfl rfl rfl dX0_keepRest_50 (by assumption) ?_
    refine go_vret rfl dX0_keepRest_53 (Nat.le_of_ble_eq_true rfl) (Nat.le_of_ble_eq_true rfl) ?_
    refine ⟨_, rfl, rfl, ?_, (pfr_x (by decide)).tr (pfr_x (by decide)), fun s hs => ?_⟩
    · unfold ps2_
      rw [if_neg h]
      exact ⟨(um_k (by decide)).trans um_s, fun z => ⟨(um_k (by decide)).trans ((um_k (by decide)).trans (f2 z).1), (um_k (by decide)).trans ((um_k (by decide)).trans (f2 z).2)⟩, fun z => ⟨(um_k (by decide)).trans ((um_k (by decide)).trans (f3 h).1), um_s, fun s hs => (um_a (by omega)).trans ((um_a (by omega)).trans ((f3 h).2.2 s hs))⟩⟩
    · exact (um_a (by omega)).trans ((um_a (by omega)).trans (hp s hs))
  · refine go_aload_n dX0_keepRest_7 rfl ?_
    refine go_iload_n dX0_keepRest_8 rfl ?_
    refine go_putI fX0_224_0 p0_19 rfl rfl rfl dX0_keepRest_9 (by assumption) ?_
    refine go_aload_n dX0_keepRest_12 rfl ?_
    refine go_iload_n dX0_keepRest_13 rfl ?_
    refine go_putI fX0_227_0 p0_20 rfl rfl rfl dX0_keepRest_14 (by assumption) ?_
    refine go_aload_n dX0_keepRest_17 rfl ?_
    refine go_getR fX0_98_0 dX0_keepRest_18 (by assumption) rfl (by assumption) ?_
    refine go_iconst (v := nI 0) dX0_keepRest_21 (by decide) ?_
    refine go_aload_n dX0_keepRest_22 rfl ?_
    refine go_getR fX0_101_0 dX0_keepRest_23 (by assumption) rfl (by assumption) ?_
    refine go_iconst (v := nI 0) dX0_keepRest_26 (by decide) ?_
    refine go_iconst (v := nI 4) dX0_keepRest_27 (by decide) ?_
    refine go_copyI q969 (by assumption) (by assumption) (by decide) rfl rfl rfl (Nat.le_of_ble_eq_true rfl) (Nat.le_of_ble_eq_true rfl) (Nat.le_of_ble_eq_true rfl) dX0_keepRest_28 ?_
    generalize hm1 : cp_ (um_ (um_ mi x 19 q) x 20 z) (x + 43) (x + 44) = m1
    have e1 : ∀ a j, a ≠ x + 44 → m1 a j = um_ (um_ mi x 19 q) x 20 z a j := fun a j h => by rw [← hm1, cp_a h]
    have e2 : ∀ j, m1 (x + 44) j = mi (x + 43) j := fun j => by rw [← hm1, cp_d, um_a (by omega), um_a (by omega)]
    have e3 : m1 x 18 = F.1 := by rw [e1 _ _ (by omega), um_k (by decide), um_k (by decide)]; exact f1
    have e4 : m1 x 20 = z := by rw [e1 _ _ (by omega), um_s]
    have e5 : m1 x 19 = q := by rw [e1 _ _ (by omega), um_k (by decide), um_s]
    have e6 : ∀ j, j ≠ 19 → j ≠ 20 → m1 x j = mi x j := fun j h1 h2 => by rw [e1 _ _ (by omega), um_k h2, um_k h1]
    have e7 : pfr_ x mi m1 := fun a j h1 h2 h3 => by
      rw [e1 a j h3]
      exact (pfr_x (x := x) (j := 19) (z := q) (m := mi) (by decide)).tr (pfr_x (by decide)) a j h1 h2 h3
    have e8 : ph_ m1 (x + 43) p := fun s hs => by
      rw [e1 _ _ (by omega), um_a (by omega), um_a (by omega)]
      exact hp s hs
    clear hm1
    refine go_aload_n dX0_keepRest_31 rfl ?_
    refine go_dup dX0_keepRest_32 rfl ?_
    refine go_getI fX0_196_0 dX0_keepRest_33 (by assumption) rfl ?_
    rw [e3]
    refine go_iconst (v := nI 1) dX0_keepRest_36 (by decide) ?_
    refine go_iadd dX0_keepRest_37 ?_
    refine go_putI fX0_196_0 p0_18 rfl rfl rfl dX0_keepRest_38 (by assumption) ?_
    refine go_aload_n dX0_keepRest_41 rfl ?_
    refine go_aload_n dX0_keepRest_42 rfl ?_
    refine go_getI fX0_227_0 dX0_keepRest_43 (by assumption) rfl ?_
    rw [um_k (by decide), e4]
    refine go_iload_n dX0_keepRest_46 rfl ?_
    refine go_callS sX0_159 (ct_max) dX0_keepRest_47 rfl rfl rfl (Nat.le_of_ble_eq_true rfl) (Nat.le_of_ble_eq_true rfl) (Nat.le_of_ble_eq_true rfl) (Nat.le_of_ble_eq_true rfl) (Nat.le_of_ble_eq_true rfl) (kr_i ?_) kt_i
    rw [mx_self]
    refine go_putI fX0_227_0 p0_20 rfl rfl rfl dX0_keepRest_50 (by assumption) ?_
    refine go_vret rfl dX0_keepRest_53 (Nat.le_of_ble_eq_true rfl) (Nat.le_of_ble_eq_true rfl) ?_
    refine ⟨_, rfl, rfl, ?_, e7.tr ((pfr_x (by decide)).tr (pfr_x (by decide))), fun s hs => ?_⟩
    · unfold ps2_
      rw [if_pos h]
      exact ⟨(um_k (by decide)).trans um_s, fun z => ⟨(um_k (by decide)).trans ((um_k (by decide)).trans ((e6 _ (by decide) (by decide)).trans (f2 z).1)), (um_k (by decide)).trans ((um_k (by decide)).trans ((e6 _ (by decide) (by decide)).trans (f2 z).2))⟩, fun z => ⟨(um_k (by decide)).trans ((um_k (by decide)).trans e5), um_s, fun s hs => (um_a (by omega)).trans ((um_a (by omega)).trans ((e2 s).trans (hp s hs)))⟩⟩
    · exact (um_a (by omega)).trans ((um_a (by omega)).trans (e8 s hs))
end PLANS2
