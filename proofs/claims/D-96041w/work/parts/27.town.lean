/-! A WEEK GOES BY; WORTH; A TOWN COPIED; A TOWN MADE -/
def fs_ (mi : mi_) (v : tv_) (t r : Nat) : mi_ := fun a j => if a = t + 7 ∧ j < r then fo_ v (rk_ v j) (rs_ v j) else mi a j
def rt_ (mi : mi_) (v : tv_) (t r : Nat) : mi_ := fun a j => if a = t + 4 ∧ j < r then mi (t + 4) j + (if ro_ v j = decide (pr_ v ≤ v 2) then nI 1 else nI 0) else mi a j
theorem fs_step {mi : mi_} {v : tv_} {t r : Nat} : um_ (fs_ mi v t r) (t + 7) r (fo_ v (rk_ v r) (rs_ v r)) = fs_ mi v t (r + 1) := by
  funext a j
  by_cases h : a = t + 7 ∧ j = r
  · obtain ⟨rfl, rfl⟩ := h
    rw [um_s]
    unfold fs_
    rw [if_pos ⟨rfl, by omega⟩]
  · unfold um_ fs_
    rw [if_neg h]
    by_cases h2 : a = t + 7 ∧ j < r
    · rw [if_pos h2, if_pos ⟨h2.1, by omega⟩]
    · rw [if_neg h2, if_neg (by omega)]
theorem rt_step {mi : mi_} {v : tv_} {t r : Nat} : um_ (rt_ mi v t r) (t + 4) r (mi (t + 4) r + (if ro_ v r = decide (pr_ v ≤ v 2) then nI 1 else nI 0)) = rt_ mi v t (r + 1) := by
  funext a j
  by_cases h : a = t + 4 ∧ j = r
  · obtain ⟨rfl, rfl⟩ := h
    rw [um_s]
    unfold rt_
    rw [if_pos (show t + 4 = t + 4 ∧ j < j + 1 from ⟨rfl, by omega⟩)]
  · unfold um_ rt_
    rw [if_neg h]
    by_cases h2 : a = t + 4 ∧ j < r
    · rw [if_pos h2, if_pos (show a = t + 4 ∧ j < r + 1 from ⟨h2.1, by omega⟩)]
    · rw [if_neg h2, if_neg (by omega)]
theorem tr_ri {ty : ty_} {mi : mi_} {mr : mr_} {x t : Nat} {v : tv_} (h : tr_ ty mi mr x t v) (hv : wf_ v) (hx : t + 8 ≤ x + 62) : tr_ ty (rt_ mi v t (rN v)) mr x t (ri_ v) := by
  obtain ⟨b1, b2, b3, b4, b5, b6, bS, bR, bM⟩ := h
  have hs4 := hv.2.1
  have hr6 := hv.2.2.2.1
  have e : ∀ a j, a ≠ t + 4 → rt_ mi v t (rN v) a j = mi a j := by
    intro a j h
    unfold rt_
    rw [if_neg (by omega)]
  have ev : ∀ j, (j < 40 ∨ 58 ≤ j ∨ ¬ (j - 40) % 3 = 2) → ri_ v j = v j := fun j h => ri_ne h hr6
  have es : sN (ri_ v) = sN v := sN_of (ev 0 (by decide))
  have er : rN (ri_ v) = rN v := rN_of (ev 1 (by decide))
  refine ⟨by rw [e _ _ (by omega), ev _ (by decide)]; exact b1, by rw [e _ _ (by omega), ev _ (by decide)]; exact b2, by rw [e _ _ (by omega), ev _ (by decide)]; exact b3, by rw [e _ _ (by omega), ev _ (by decide)]; exact b4, by rw [e _ _ (by omega), ev _ (by decide)]; exact b5, by rw [e _ _ (by omega), ev _ (by decide)]; exact b6, ?_, ?_, ?_⟩
  · rw [es]
    intro s hs
    obtain ⟨q, q1, c1, c2, c3, c4, c5, c6, c7, c8⟩ := bS s hs
    have eq : ∀ j, rt_ mi v t (rN v) q j = mi q j := fun j => e q j (by omega)
    have ek : kd_ (ri_ v) s = kd_ v s := by unfold kd_; rw [ev _ (by omega)]
    exact ⟨q, q1, c1, by rw [ek]; exact c2, by rw [eq, ev _ (by omega)]; exact c3, by rw [eq, ev _ (by omega)]; exact c4, by rw [eq, ev _ (by omega)]; exact c5, by rw [eq, ev _ (by omega)]; exact c6, by rw [eq, ev _ (by omega)]; exact c7, c8⟩
  · rw [er]
    intro r hr
    obtain ⟨c1, c2, c3⟩ := bR r hr
    have ek : rk_ (ri_ v) r = rk_ v r := by unfold rk_; rw [ev _ (by omega)]
    refine ⟨by rw [ek]; exact c1, by rw [e _ _ (by omega), ev _ (by omega)]; exact c2, ?_⟩
    rw [ri_at hr]
    unfold rt_
    rw [if_pos ⟨rfl, hr⟩, c3]
  · intro k hk
    rw [e _ _ (by omega), ev _ (by omega)]
    exact bM k hk
theorem tr_3 {ty : ty_} {mi : mi_} {mr : mr_} {x t : Nat} {v w : tv_} {z : Int32} (h : tr_ ty mi mr x t v) (hx : t + 8 ≤ x + 62) (h3 : w 3 = z) (hw : ∀ j, j ≠ 3 → w j = v j) : tr_ ty (um_ mi t 9 z) mr x t w := by
  obtain ⟨b1, b2, b3, b4, b5, b6, bS, bR, bM⟩ := h
  have es : sN w = sN v := sN_of (hw 0 (by decide))
  have er : rN w = rN v := rN_of (hw 1 (by decide))
  refine ⟨by rw [um_k (by decide), hw _ (by decide)]; exact b1, by rw [um_k (by decide), hw _ (by decide)]; exact b2, by rw [um_k (by decide), hw _ (by decide)]; exact b3, by rw [um_k (by decide), hw _ (by decide)]; exact b4, by rw [um_s, h3], by rw [um_k (by decide), hw _ (by decide)]; exact b6, ?_, ?_, ?_⟩
  · rw [es]
    intro s hs
    obtain ⟨q, q1, c1, c2, c3, c4, c5, c6, c7, c8⟩ := bS s hs
    have eq : ∀ j, um_ mi t 9 z q j = mi q j := fun j => um_a (by omega)
    have ek : kd_ w s = kd_ v s := by unfold kd_; rw [hw _ (by omega)]
    exact ⟨q, q1, c1, by rw [ek]; exact c2, by rw [eq, hw _ (by omega)]; exact c3, by rw [eq, hw _ (by omega)]; exact c4, by rw [eq, hw _ (by omega)]; exact c5, by rw [eq, hw _ (by omega)]; exact c6, by rw [eq, hw _ (by omega)]; exact c7, c8⟩
  · rw [er]
    intro r hr
    obtain ⟨c1, c2, c3⟩ := bR r hr
    have ek : rk_ w r = rk_ v r := by unfold rk_; rw [hw _ (by omega)]
    exact ⟨by rw [ek]; exact c1, by rw [um_a (by omega), hw _ (by omega)]; exact c2, by rw [um_a (by omega), hw _ (by omega)]; exact c3⟩
  · intro k hk
    rw [um_a (by omega), hw _ (by omega)]
    exact bM k hk
/-- what arrays of sorts and rules may hold -/
def ar_ (ty : ty_) (mr : mr_) (t : Nat) : Prop := (∀ i, i < 5 → ∀ y, mr (t + 1) i = some y → ty y = some (.inl 25)) ∧ (∀ i, i < 6 → ∀ y, mr (t + 2) i = some y → ∃ k, k < 6 ∧ ty y = some (.inl (2 + k)))
theorem el_s {ty : ty_} {y : Nat} (h : ty y = some (.inl 25)) : el_ ty "GoodHalfEmpty$Sort" y := ⟨25, _, h, rfl, Or.inl rfl⟩
theorem el_r {ty : ty_} {y k : Nat} (hk : k < 6) (h : ty y = some (.inl (2 + k))) : el_ ty "GoodHalfEmpty$Rule" y := by
  match k, hk, h with
  | 0, _, h => exact ⟨_, _, h, rfl, Or.inr (nw_in q1473 rfl)⟩
  | 1, _, h => exact ⟨_, _, h, rfl, Or.inr (nw_in q1474 rfl)⟩
  | 2, _, h => exact ⟨_, _, h, rfl, Or.inr (nw_in q1475 rfl)⟩
  | 3, _, h => exact ⟨_, _, h, rfl, Or.inr (nw_in q1476 rfl)⟩
  | 4, _, h => exact ⟨_, _, h, rfl, Or.inr (nw_in q1477 rfl)⟩
  | 5, _, h => exact ⟨_, _, h, rfl, Or.inr (nw_in q1478 rfl)⟩
  | k + 6, h, _ => exact absurd h (by omega)
/-- a town's picture rests on its own cells, and on the sorts' -/
theorem tr_fr {ty ty2 : ty_} {mi mi2 : mi_} {mr mr2 : mr_} {x t : Nat} {v : tv_} (h : tr_ ty mi mr x t v) (hT : ∀ a, x + 62 ≤ a → ∀ k, ty a = some k → ty2 a = some k) (hm : ∀ a j, (t ≤ a ∧ a < t + 8) ∨ x + 62 ≤ a → ty a ≠ none ∨ a < x + 62 → mi2 a j = mi a j) (hr : ∀ a j, (t ≤ a ∧ a < t + 8) ∨ x + 62 ≤ a → ty a ≠ none ∨ a < x + 62 → mr2 a j = mr a j) (hx : t + 8 ≤ x + 62) : tr_ ty2 mi2 mr2 x t v := by
  obtain ⟨b1, b2, b3, b4, b5, b6, bS, bR, bM⟩ := h
  have e : ∀ j, mi2 t j = mi t j := fun j => hm t j (Or.inl ⟨by omega, by omega⟩) (Or.inr (by omega))
  refine ⟨by rw [e]; exact b1, by rw [e]; exact b2, by rw [e]; exact b3, by rw [e]; exact b4, by rw [e]; exact b5, by rw [e]; exact b6, ?_, ?_, ?_⟩
  · intro s hs
    obtain ⟨q, q1, c1, c2, c3, c4, c5, c6, c7, c8⟩ := bS s hs
    have eq : ∀ j, mi2 q j = mi q j := fun j => hm q j (Or.inr c8) (Or.inl (by rw [c1]; exact fun z => by cases z))
    exact ⟨q, by rw [hr _ _ (Or.inl ⟨by omega, by omega⟩) (Or.inr (by omega))]; exact q1, hT q c8 _ c1, by rw [hr _ _ (Or.inr c8) (Or.inl (by rw [c1]; exact fun z => by cases z))]; exact c2, by rw [eq]; exact c3, by rw [eq]; exact c4, by rw [eq]; exact c5, by rw [eq]; exact c6, by rw [eq]; exact c7, c8⟩
  · intro r hr1
    obtain ⟨c1, c2, c3⟩ := bR r hr1
    exact ⟨by rw [hr _ _ (Or.inl ⟨by omega, by omega⟩) (Or.inr (by omega))]; exact c1, by rw [hm _ _ (Or.inl ⟨by omega, by omega⟩) (Or.inr (by omega))]; exact c2, by rw [hm _ _ (Or.inl ⟨by omega, by omega⟩) (Or.inr (by omega))]; exact c3⟩
  · intro k hk
    rw [hm _ _ (Or.inl ⟨by omega, by omega⟩) (Or.inr (by omega))]
    exact bM k hk
def fr2_ (mr mr2 : mr_) (t : Nat) : Prop := ∀ a j, a ≠ t + 1 → a ≠ t + 2 → mr2 a j = mr a j
section TOWN2
variable {l : Launch} {D : dd_} {b : Nat} {ty : ty_} {mi : mi_} {mr : mr_} {n x t q o : Nat} {v : tv_} {s : Nat}
theorem ct_week (hk : ks_ ty x) (hs : ts_ ty mr t) (hr : tr_ ty mi mr x t v) (hv : wf_ v) (hx : t + 8 ≤ x + 62) : CT_ l D b yX15_week hX15_week (rm_ 7 0 0) [.ref t] (ty, mi, mr, n) (qp_ (fun r mi2 => r = pr_ v ∧ tr_ ty mi2 mr x t (wk_ v) ∧ fm_ mi mi2 t (t + 8) ∧ ∀ s, s < sN v → mi2 (t + 6) s = bo_ (gf_ v s)) ty mr n) := by
  have hs0 := hs
  obtain ⟨a1, a2, a3, a4, a5, a6, a7, a8, a9, a10, a11, a12, a13, a14, a15⟩ := hs
  have tr1 : ∀ r, tr_ ty (fs_ mi v t r) mr x t v := fun r => tr_of hr hx (fun j h => by unfold fs_; rw [if_neg (by omega)]) (fun a j h1 h2 h3 => by unfold fs_; rw [if_neg (by omega)])
  have hn1 : ∀ r, fs_ mi v t r t 3 = nI (rN v) := fun r => (tr1 r).2.2.1.trans hv.2.2.1
  have hn6 := hv.2.2.2.1
  refine ct_of [some (.ref t), none, none] (by decide) rfl rfl ?_
  refine go_iconst (v := nI 0) dX15_week_0 (by decide) ?_
  refine go_istore_n (ls2 := [_, _, _]) dX15_week_1 rfl rfl ?_
  have e0 : mi = fs_ mi v t 0 := by
    funext a j
    unfold fs_
    rw [if_neg (by omega)]
  refine go_mi e0 ?_
  refine go_for (rN v) (fun r => [some (.ref t), some (.int (nI r)), none]) (fun r => (ty, fs_ mi v t r, mr, n)) 0 (by omega) (fun r _ hr1 ih => ?_) ?_
  · refine go_iload_n dX15_week_2 rfl ?_
    refine go_aload_n dX15_week_3 rfl ?_
    refine go_getI fX15_47_15 dX15_week_4 (by assumption) rfl ?_
    refine go_icmp_ge (tgt := 27) dX15_week_7 (by decide) (fun h => ?_) (fun h => ?_)
    · rw [hn1] at h
      exact absurd h (nI_ge (by omega) (by omega))
    · refine go_aload_n dX15_week_10 rfl ?_
      refine go_getR fX15_41_15 dX15_week_11 (by assumption) rfl (by assumption) ?_
      refine go_iload_n dX15_week_14 rfl ?_
      refine go_aload_n dX15_week_15 rfl ?_
      refine go_iload_n dX15_week_16 rfl ?_
      refine go_callV vX15_99_15 (ct_foretold hk hs0 (tr1 r) hv hr1) dX15_week_17 (by assumption) rfl rfl rfl rfl rfl (Nat.le_of_ble_eq_true rfl) (Nat.le_of_ble_eq_true rfl) (Nat.le_of_ble_eq_true rfl) (Nat.le_of_ble_eq_true rfl) (Nat.le_of_ble_eq_true rfl) (kr_i ?_) kt_i
      refine go_iast dX15_week_20 (by assumption) ⟨rfl, by omega, by decide⟩ ?_
      refine go_iinc (ls2 := [_, _, _]) dX15_week_21 rfl (nI_inc _) rfl rfl ?_
      refine go_goto (tgt := 2) dX15_week_24 (by decide) ?_
      rw [fs_step]
      exact ih
  · refine go_iload_n dX15_week_2 rfl ?_
    refine go_aload_n dX15_week_3 rfl ?_
    refine go_getI fX15_47_15 dX15_week_4 (by assumption) rfl ?_
    refine go_icmp_ge (tgt := 27) dX15_week_7 (by decide) (fun h => ?_) (fun h => ?_)
    · refine go_aload_n dX15_week_27 rfl ?_
      refine go_callV vX15_102_15 (ct_askAll hk hs0 (tr1 (rN v)) hv hx) dX15_week_28 (by assumption) rfl rfl rfl rfl rfl (Nat.le_of_ble_eq_true rfl) (Nat.le_of_ble_eq_true rfl) (Nat.le_of_ble_eq_true rfl) (Nat.le_of_ble_eq_true rfl) (Nat.le_of_ble_eq_true rfl) (kr_i ?_) kt_i
      have m1t : ∀ a j, a ≠ t → a ≠ t + 6 → aa_ (fs_ mi v t (rN v)) v t a j = fs_ mi v t (rN v) a j := by
        intro a j h1 h2
        unfold aa_
        rw [if_neg (by omega), if_neg (by omega)]
      have m1g : ∀ s, s < sN v → aa_ (fs_ mi v t (rN v)) v t (t + 6) s = bo_ (gf_ v s) := by
        intro s h1
        unfold aa_
        rw [if_neg (by omega), if_pos ⟨rfl, h1⟩]
      have m17 : ∀ j, j < rN v → aa_ (fs_ mi v t (rN v)) v t (t + 7) j = fo_ v (rk_ v j) (rs_ v j) := by
        intro j h1
        rw [m1t _ _ (by omega) (by omega)]
        unfold fs_
        rw [if_pos ⟨rfl, h1⟩]
      have tr2 : tr_ ty (aa_ (fs_ mi v t (rN v)) v t) mr x t v := tr_of (tr1 (rN v)) hx (fun j h => by unfold aa_; rw [if_neg (by omega), if_neg (by omega)]) (fun a j h1 h2 _ => m1t a j h1 h2)
      have m1f : fm_ mi (aa_ (fs_ mi v t (rN v)) v t) t (t + 8) := by
        intro a j h1
        rw [m1t _ _ (by omega) (by omega)]
        unfold fs_
        rw [if_neg (by omega)]
      generalize aa_ (fs_ mi v t (rN v)) v t = m1 at m1t m1g m17 tr2 m1f ⊢
      refine go_istore_n (ls2 := [_, _, _]) dX15_week_31 rfl rfl ?_
      refine go_iconst (v := nI 0) dX15_week_32 (by decide) ?_
      refine go_istore_n (ls2 := [_, _, _]) dX15_week_33 rfl rfl ?_
      have e1 : m1 = rt_ m1 v t 0 := by
        funext a j
        unfold rt_
        rw [if_neg (by omega)]
      refine go_mi e1 ?_
      have r3 : ∀ r a j, a ≠ t + 4 → rt_ m1 v t r a j = m1 a j := by
        intro r a j h
        unfold rt_
        rw [if_neg (by omega)]
      have hn2 : ∀ r, rt_ m1 v t r t 3 = nI (rN v) := fun r => by rw [r3 _ _ _ (by omega)]; exact tr2.2.2.1.trans hv.2.2.1
      have hc2 : ∀ r, rt_ m1 v t r t 0 = v 2 := fun r => by rw [r3 _ _ _ (by omega)]; exact tr2.1
      refine go_for (rN v) (fun r => [some (.ref t), some (.int (pr_ v)), some (.int (nI r))]) (fun r => (ty, rt_ m1 v t r, mr, n)) 0 (by omega) (fun r _ hr1 ih => ?_) ?_
      · refine go_iload_n dX15_week_34 rfl ?_
        refine go_aload_n dX15_week_35 rfl ?_
        refine go_getI fX15_47_15 dX15_week_36 (by assumption) rfl ?_
        refine go_icmp_ge (tgt := 96) dX15_week_39 (by decide) (fun h => ?_) (fun h => ?_)
        · rw [hn2] at h
          exact absurd h (nI_ge (by omega) (by omega))
        · refine go_aload_n dX15_week_42 rfl ?_
          refine go_getR fX15_31_15 dX15_week_43 (by assumption) rfl (by assumption) ?_
          refine go_iload_n dX15_week_46 rfl ?_
          refine go_dup2 dX15_week_47 rfl rfl ?_
          refine go_iald dX15_week_48 (by assumption) ⟨rfl, by omega, by decide⟩ ?_
          refine go_aload_n dX15_week_49 rfl ?_
          refine go_getR fX15_41_15 dX15_week_50 (by assumption) rfl (by assumption) ?_
          refine go_iload_n dX15_week_53 rfl ?_
          refine go_iald dX15_week_54 (by assumption) ⟨rfl, by omega, by decide⟩ ?_
          refine go_aload_n dX15_week_55 rfl ?_
          refine go_getI fX15_9_15 dX15_week_56 (by assumption) rfl ?_
          rw [hc2]
          refine go_ticmp_gt (m := nI 0) (n := nI 1) (t1 := 66) (t2 := 67) dX15_week_59 (by decide) dX15_week_62 (by decide) dX15_week_63 (by decide) dX15_week_66 (by decide) rfl ?_
          rw [bo_le]
          refine go_iload_n dX15_week_67 rfl ?_
          refine go_aload_n dX15_week_68 rfl ?_
          refine go_getI fX15_9_15 dX15_week_69 (by assumption) rfl ?_
          rw [hc2]
          refine go_ticmp_gt (m := nI 0) (n := nI 1) (t1 := 79) (t2 := 80) dX15_week_72 (by decide) dX15_week_75 (by decide) dX15_week_76 (by decide) dX15_week_79 (by decide) rfl ?_
          rw [bo_le]
          have f7 : rt_ m1 v t r (t + 7) r = fo_ v (rk_ v r) (rs_ v r) := by rw [r3 _ _ _ (by omega)]; exact m17 r hr1
          rw [f7]
          refine go_ticmp_ne (m := nI 0) (n := nI 1) (t1 := 87) (t2 := 88) dX15_week_80 (by decide) dX15_week_83 (by decide) dX15_week_84 (by decide) dX15_week_87 (by decide) rfl ?_
          have e2 : (if ¬ bo_ (decide (fo_ v (rk_ v r) (rs_ v r) ≤ v 2)) = bo_ (decide (pr_ v ≤ v 2)) then nI 0 else nI 1) = (if ro_ v r = decide (pr_ v ≤ v 2) then nI 1 else nI 0) := by
            show (if ¬ bo_ (ro_ v r) = bo_ (decide (pr_ v ≤ v 2)) then nI 0 else nI 1) = _
            cases ro_ v r <;> cases decide (pr_ v ≤ v 2) <;> decide
          rw [e2]
          have e3 : rt_ m1 v t r (t + 4) r = m1 (t + 4) r := by
            unfold rt_
            rw [if_neg (by omega)]
          rw [e3]
          refine go_iadd dX15_week_88 ?_
          refine go_iast dX15_week_89 (by assumption) ⟨rfl, by omega, by decide⟩ ?_
          refine go_iinc (ls2 := [_, _, _]) dX15_week_90 rfl (nI_inc _) rfl rfl ?_
          refine go_goto (tgt := 34) dX15_week_93 (by decide) ?_
          rw [rt_step]
          exact ih
      · refine go_iload_n dX15_week_34 rfl ?_
        refine go_aload_n dX15_week_35 rfl ?_
        refine go_getI fX15_47_15 dX15_week_36 (by assumption) rfl ?_
        refine go_icmp_ge (tgt := 96) dX15_week_39 (by decide) (fun h => ?_) (fun h => ?_)
        · refine go_aload_n dX15_week_96 rfl ?_
          refine go_iload_n dX15_week_97 rfl ?_
          refine go_callV vX15_106_15 (ct_remember hs0 (tr_ri tr2 hv hx) (ri_wf hv) hx) dX15_week_98 (by assumption) rfl rfl rfl rfl rfl (Nat.le_of_ble_eq_true rfl) (Nat.le_of_ble_eq_true rfl) (Nat.le_of_ble_eq_true rfl) (Nat.le_of_ble_eq_true rfl) (Nat.le_of_ble_eq_true rfl) (kr_w (fun mi2 hp => ?_)) kt_w
          obtain ⟨p1, p2, p3⟩ := hp
          refine go_aload_n dX15_week_101 rfl ?_
          refine go_dup dX15_week_102 rfl ?_
          refine go_getI fX15_53_15 dX15_week_103 (by assumption) rfl ?_
          refine go_iconst (v := nI 1) dX15_week_106 (by decide) ?_
          refine go_iadd dX15_week_107 ?_
          have e4 : mi2 t 9 = v 3 := p1.2.2.2.2.1.trans (by rw [re_ne (by decide) (by decide), ri_ne (by decide) hn6])
          rw [e4]
          refine go_putI fX15_53_15 p15_9 rfl rfl rfl dX15_week_108 (by assumption) ?_
          refine go_iload_n dX15_week_111 rfl ?_
          refine go_iret rfl dX15_week_112 (Nat.le_of_ble_eq_true rfl) (Nat.le_of_ble_eq_true rfl) ?_
          refine ⟨_, _, rfl, rfl, rfl, tr_3 p1 hx ?_ ?_, ?_, ?_⟩
          · unfold wk_
            rw [if_pos rfl]
          · intro j hj
            unfold wk_
            rw [if_neg hj]
          · intro a j h1
            rw [um_a (by omega), p2 a j h1, r3 _ _ _ (by omega)]
            exact m1f a j h1
          · intro s h1
            rw [um_a (by omega), p3, r3 _ _ _ (by omega)]
            exact m1g s h1
        · rw [hn2] at h
          exact absurd (nI_le (by omega) (by omega)) h
    · rw [hn1] at h
      exact absurd (nI_le (by omega) (by omega)) h
theorem ct_wog {p : Int32} (hs : ts_ ty mr t) (hr : tr_ ty mi mr x t v) (hq : sq_ ty mi mr x q v s) : CT_ l D b yX15_worthOfGoing hX15_worthOfGoing (rm_ 0 0 0) [.ref t, .ref q, .int p] (ty, mi, mr, n) (qi_ (wg_ v s p) (ty, mi, mr, n)) := by
  obtain ⟨b1, b2, b3, b4, b5, b6, bS, bR, bM⟩ := hr
  obtain ⟨c1, c2, c3, c4, c5, c6, c7, c8⟩ := hq
  have a1 := hs.1
  refine ct_of [some (.ref t), some (.ref q), some (.int p)] (by decide) rfl rfl ?_
  refine go_iload_n dX15_worthOfGoing_0 rfl ?_
  refine go_aload_n dX15_worthOfGoing_1 rfl ?_
  refine go_getI fX15_9_15 dX15_worthOfGoing_2 (by assumption) rfl ?_
  rw [b1]
  refine go_icmp_gt (tgt := 15) dX15_worthOfGoing_5 (by decide) (fun h => ?_) (fun h => ?_)
  · refine go_aload_n dX15_worthOfGoing_15 rfl ?_
    refine go_getI fX15_113_25 dX15_worthOfGoing_16 (by assumption) rfl ?_
    refine go_aload_n dX15_worthOfGoing_19 rfl ?_
    refine go_getI fX15_56_15 dX15_worthOfGoing_20 (by assumption) rfl ?_
    refine go_isub dX15_worthOfGoing_23 ?_
    refine go_iret rfl dX15_worthOfGoing_24 (Nat.le_of_ble_eq_true rfl) (Nat.le_of_ble_eq_true rfl) ?_
    refine ⟨?_, rfl⟩
    unfold wg_
    rw [if_neg (by simpa using h), c6, b6]
  · refine go_aload_n dX15_worthOfGoing_8 rfl ?_
    refine go_getI fX15_110_25 dX15_worthOfGoing_9 (by assumption) rfl ?_
    refine go_goto (tgt := 19) dX15_worthOfGoing_12 (by decide) ?_
    refine go_aload_n dX15_worthOfGoing_19 rfl ?_
    refine go_getI fX15_56_15 dX15_worthOfGoing_20 (by assumption) rfl ?_
    refine go_isub dX15_worthOfGoing_23 ?_
    refine go_iret rfl dX15_worthOfGoing_24 (Nat.le_of_ble_eq_true rfl) (Nat.le_of_ble_eq_true rfl) ?_
    refine ⟨?_, rfl⟩
    unfold wg_
    rw [if_pos (by simpa using h), c5, b6]
theorem ct_worth {p : Int32} (hs : ts_ ty mr t) (hr : tr_ ty mi mr x t v) (hv : wf_ v) (hsn : s < sN v) {w : tv_} (hg : mi (t + 6) s = bo_ (gf_ w s)) (hw : ∀ j, j ≠ 3 → j ≠ 4 → j < 40 → w j = v j) (hw0 : w 5 = v 5) : CT_ l D b yX15_worth hX15_worth (rm_ 1 0 0) [.ref t, .int (nI s), .int p] (ty, mi, mr, n) (qi_ (wo_ w s p) (ty, mi, mr, n)) := by
  have hs0 := hs
  have hr0 := hr
  have hn4 := hv.2.1
  obtain ⟨a1, a2, a3, a4, a5, a6, a7, a8, a9, a10, a11, a12, a13, a14, a15⟩ := hs
  obtain ⟨b1, b2, b3, b4, b5, b6, bS, bR, bM⟩ := hr
  obtain ⟨q, q1, hq⟩ := bS s hsn
  have hq0 := hq
  obtain ⟨c1, c2, c3, c4, c5, c6, c7, c8⟩ := hq
  refine ct_of [some (.ref t), some (.int (nI s)), some (.int p)] (by decide) rfl rfl ?_
  refine go_aload_n dX15_worth_0 rfl ?_
  refine go_getR fX15_37_15 dX15_worth_1 (by assumption) rfl (by assumption) ?_
  refine go_iload_n dX15_worth_4 rfl ?_
  refine go_zald dX15_worth_5 (by assumption) ⟨rfl, by omega, by decide⟩ ?_
  rw [hg]
  refine go_if_eq (tgt := 23) dX15_worth_6 (by decide) (fun h => ?_) (fun h => ?_)
  · have hf := bo_0.mp h
    refine go_aload_n dX15_worth_23 rfl ?_
    refine go_getR fX15_17_15 dX15_worth_24 (by assumption) rfl (by assumption) ?_
    refine go_iload_n dX15_worth_27 rfl ?_
    refine go_aald dX15_worth_28 (by assumption) ⟨rfl, by omega, by decide⟩ (by assumption) ?_
    refine go_getI fX15_120_25 dX15_worth_29 (by assumption) rfl ?_
    refine go_iret rfl dX15_worth_32 (Nat.le_of_ble_eq_true rfl) (Nat.le_of_ble_eq_true rfl) ?_
    refine ⟨?_, rfl⟩
    unfold wo_
    rw [if_neg (by rw [hf]; decide), hw _ (by omega) (by omega) (by omega), c7]
  · have hf : gf_ w s = true := by
      cases hg : gf_ w s with
      | true => rfl
      | false => exact absurd (bo_0.mpr hg) h
    refine go_aload_n dX15_worth_9 rfl ?_
    refine go_aload_n dX15_worth_10 rfl ?_
    refine go_getR fX15_17_15 dX15_worth_11 (by assumption) rfl (by assumption) ?_
    refine go_iload_n dX15_worth_14 rfl ?_
    refine go_aald dX15_worth_15 (by assumption) ⟨rfl, by omega, by decide⟩ (by assumption) ?_
    refine go_iload_n dX15_worth_16 rfl ?_
    refine go_callV vX15_116_15 (ct_wog hs0 hr0 hq0) dX15_worth_17 (by assumption) rfl rfl rfl rfl rfl (Nat.le_of_ble_eq_true rfl) (Nat.le_of_ble_eq_true rfl) (Nat.le_of_ble_eq_true rfl) (Nat.le_of_ble_eq_true rfl) (Nat.le_of_ble_eq_true rfl) (kr_i ?_) kt_i
    refine go_goto (tgt := 32) dX15_worth_20 (by decide) ?_
    refine go_iret rfl dX15_worth_32 (Nat.le_of_ble_eq_true rfl) (Nat.le_of_ble_eq_true rfl) ?_
    refine ⟨?_, rfl⟩
    unfold wo_ wg_
    rw [if_pos hf, hw _ (by omega) (by omega) (by omega), hw _ (by omega) (by omega) (by omega), hw _ (by omega) (by omega) (by omega), hw0]
theorem ct_set (hst : ts_ ty mr t) (hso : ts_ ty mr o) (hr : tr_ ty mi mr x o v) (hv : wf_ v) (hx : t + 8 ≤ x + 62) (hox : o + 8 ≤ x + 62) (hd : t + 8 ≤ o ∨ o + 8 ≤ t) (har : ar_ ty mr o) : CT_ l D b yX15_set hX15_set (rm_ 1 0 0) [.ref t, .ref o] (ty, mi, mr, n) (qw2_ (fun mi2 mr2 => tr_ ty mi2 mr2 x t v ∧ fm_ mi mi2 t (t + 8) ∧ fr2_ mr mr2 t ∧ ar_ ty mr2 t) ty n) := by
  obtain ⟨a1, a2, a3, a4, a5, a6, a7, a8, a9, a10, a11, a12, a13, a14, a15⟩ := hst
  obtain ⟨o1, o2, o3, o4, o5, o6, o7, o8, o9, o10, o11, o12, o13, o14, o15⟩ := hso
  obtain ⟨b1, b2, b3, b4, b5, b6, bS, bR, bM⟩ := hr
  refine ct_of [some (.ref t), some (.ref o)] (by decide) rfl rfl ?_
  refine go_aload_n dX15_set_0 rfl ?_
  refine go_aload_n dX15_set_1 rfl ?_
  refine go_getI fX15_9_15 dX15_set_2 (by assumption) rfl ?_
  rw [b1]
  refine go_putI fX15_9_15 p15_0 rfl rfl rfl dX15_set_5 (by assumption) ?_
  refine go_aload_n dX15_set_8 rfl ?_
  refine go_aload_n dX15_set_9 rfl ?_
  refine go_getI fX15_44_15 dX15_set_10 (by assumption) rfl ?_
  rw [um_a (show o ≠ t by omega), b2]
  refine go_putI fX15_44_15 p15_1 rfl rfl rfl dX15_set_13 (by assumption) ?_
  refine go_aload_n dX15_set_16 rfl ?_
  refine go_aload_n dX15_set_17 rfl ?_
  refine go_getI fX15_47_15 dX15_set_18 (by assumption) rfl ?_
  rw [um_a (show o ≠ t by omega), um_a (show o ≠ t by omega), b3]
  refine go_putI fX15_47_15 p15_3 rfl rfl rfl dX15_set_21 (by assumption) ?_
  refine go_aload_n dX15_set_24 rfl ?_
  refine go_aload_n dX15_set_25 rfl ?_
  refine go_getI fX15_50_15 dX15_set_26 (by assumption) rfl ?_
  rw [um_a (show o ≠ t by omega), um_a (show o ≠ t by omega), um_a (show o ≠ t by omega), b4]
  refine go_putI fX15_50_15 p15_7 rfl rfl rfl dX15_set_29 (by assumption) ?_
  refine go_aload_n dX15_set_32 rfl ?_
  refine go_aload_n dX15_set_33 rfl ?_
  refine go_getI fX15_53_15 dX15_set_34 (by assumption) rfl ?_
  rw [um_a (show o ≠ t by omega), um_a (show o ≠ t by omega), um_a (show o ≠ t by omega), um_a (show o ≠ t by omega), b5]
  refine go_putI fX15_53_15 p15_9 rfl rfl rfl dX15_set_37 (by assumption) ?_
  refine go_aload_n dX15_set_40 rfl ?_
  refine go_aload_n dX15_set_41 rfl ?_
  refine go_getI fX15_56_15 dX15_set_42 (by assumption) rfl ?_
  rw [um_a (show o ≠ t by omega), um_a (show o ≠ t by omega), um_a (show o ≠ t by omega), um_a (show o ≠ t by omega), um_a (show o ≠ t by omega), b6]
  refine go_putI fX15_56_15 p15_10 rfl rfl rfl dX15_set_45 (by assumption) ?_
  generalize hm1 : um_ (um_ (um_ (um_ (um_ (um_ mi t 0 (v 2)) t 1 (v 0)) t 3 (v 1)) t 7 (v 4)) t 9 (v 3)) t 10 (v 5) = m1
  have m1a : ∀ a j, a ≠ t → m1 a j = mi a j := by
    intro a j h
    rw [← hm1, um_a h, um_a h, um_a h, um_a h, um_a h, um_a h]
  have m10 : m1 t 0 = v 2 ∧ m1 t 1 = v 0 ∧ m1 t 3 = v 1 ∧ m1 t 7 = v 4 ∧ m1 t 9 = v 3 ∧ m1 t 10 = v 5 := by
    rw [← hm1]
    refine ⟨?_, ?_, ?_, ?_, ?_, ?_⟩ <;> simp [um_]
  clear hm1
  refine go_aload_n dX15_set_48 rfl ?_
  refine go_getR fX15_17_15 dX15_set_49 (by assumption) rfl (by assumption) ?_
  refine go_iconst (v := nI 0) dX15_set_52 (by decide) ?_
  refine go_aload_n dX15_set_53 rfl ?_
  refine go_getR fX15_17_15 dX15_set_54 (by assumption) rfl (by assumption) ?_
  refine go_iconst (v := nI 0) dX15_set_57 (by decide) ?_
  refine go_aload_n dX15_set_58 rfl ?_
  refine go_getR fX15_17_15 dX15_set_59 (by assumption) rfl (by assumption) ?_
  refine go_alen (v := nI _) dX15_set_62 (by assumption) rfl ?_
  refine go_copyR q652 (by assumption) (by assumption) (fun i hi y hy => el_s (har.1 i hi y hy)) (by decide) rfl rfl rfl (Nat.le_of_ble_eq_true rfl) (Nat.le_of_ble_eq_true rfl) (Nat.le_of_ble_eq_true rfl) dX15_set_63 ?_
  have n2 : ∀ a j, a ≠ t + 1 → cp_ mr (o + 1) (t + 1) a j = mr a j := fun a j h => cp_a h
  have n3 : cp_ mr (o + 1) (t + 1) o 4 = some (o + 2) := by rw [n2 _ _ (by omega)]; exact o3
  have n4 : cp_ mr (o + 1) (t + 1) t 4 = some (t + 2) := by rw [n2 _ _ (by omega)]; exact a3
  refine go_aload_n dX15_set_66 rfl ?_
  refine go_getR fX15_23_15 dX15_set_67 (by assumption) rfl (by assumption) ?_
  refine go_iconst (v := nI 0) dX15_set_70 (by decide) ?_
  refine go_aload_n dX15_set_71 rfl ?_
  refine go_getR fX15_23_15 dX15_set_72 (by assumption) rfl (by assumption) ?_
  refine go_iconst (v := nI 0) dX15_set_75 (by decide) ?_
  refine go_bipush (v := nI 6) dX15_set_76 (by decide) ?_
  refine go_copyR q652 (by assumption) (by assumption) (fun i hi y hy => by rw [n2 _ _ (by omega)] at hy; obtain ⟨k, h1, h2⟩ := har.2 i hi y hy; exact el_r h1 h2) (by decide) rfl rfl rfl (Nat.le_of_ble_eq_true rfl) (Nat.le_of_ble_eq_true rfl) (Nat.le_of_ble_eq_true rfl) dX15_set_78 ?_
  generalize hmr : cp_ (cp_ mr (o + 1) (t + 1)) (o + 2) (t + 2) = mr2
  have f2 : fr2_ mr mr2 t := by
    intro a j h1 h2
    rw [← hmr, cp_a h2, cp_a h1]
  have g1 : ∀ j, mr2 (t + 1) j = mr (o + 1) j := by
    intro j
    rw [← hmr, cp_a (by omega), cp_d]
  have g2 : ∀ j, mr2 (t + 2) j = mr (o + 2) j := by
    intro j
    rw [← hmr, cp_d, cp_a (by omega)]
  clear hmr
  have n5 : mr2 o 5 = some (o + 3) := by rw [f2 _ _ (by omega) (by omega)]; exact o4
  have n6 : mr2 t 5 = some (t + 3) := by rw [f2 _ _ (by omega) (by omega)]; exact a4
  have n7 : mr2 o 6 = some (o + 4) := by rw [f2 _ _ (by omega) (by omega)]; exact o5
  have n8 : mr2 t 6 = some (t + 4) := by rw [f2 _ _ (by omega) (by omega)]; exact a5
  have n9 : mr2 o 8 = some (o + 5) := by rw [f2 _ _ (by omega) (by omega)]; exact o6
  have n10 : mr2 t 8 = some (t + 5) := by rw [f2 _ _ (by omega) (by omega)]; exact a6
  refine go_aload_n dX15_set_81 rfl ?_
  refine go_getR fX15_27_15 dX15_set_82 (by assumption) rfl (by assumption) ?_
  refine go_iconst (v := nI 0) dX15_set_85 (by decide) ?_
  refine go_aload_n dX15_set_86 rfl ?_
  refine go_getR fX15_27_15 dX15_set_87 (by assumption) rfl (by assumption) ?_
  refine go_iconst (v := nI 0) dX15_set_90 (by decide) ?_
  refine go_bipush (v := nI 6) dX15_set_91 (by decide) ?_
  refine go_copyI q652 (by assumption) (by assumption) (by decide) rfl rfl rfl (Nat.le_of_ble_eq_true rfl) (Nat.le_of_ble_eq_true rfl) (Nat.le_of_ble_eq_true rfl) dX15_set_93 ?_
  refine go_aload_n dX15_set_96 rfl ?_
  refine go_getR fX15_31_15 dX15_set_97 (by assumption) rfl (by assumption) ?_
  refine go_iconst (v := nI 0) dX15_set_100 (by decide) ?_
  refine go_aload_n dX15_set_101 rfl ?_
  refine go_getR fX15_31_15 dX15_set_102 (by assumption) rfl (by assumption) ?_
  refine go_iconst (v := nI 0) dX15_set_105 (by decide) ?_
  refine go_bipush (v := nI 6) dX15_set_106 (by decide) ?_
  refine go_copyI q652 (by assumption) (by assumption) (by decide) rfl rfl rfl (Nat.le_of_ble_eq_true rfl) (Nat.le_of_ble_eq_true rfl) (Nat.le_of_ble_eq_true rfl) dX15_set_108 ?_
  refine go_aload_n dX15_set_111 rfl ?_
  refine go_getR fX15_34_15 dX15_set_112 (by assumption) rfl (by assumption) ?_
  refine go_iconst (v := nI 0) dX15_set_115 (by decide) ?_
  refine go_aload_n dX15_set_116 rfl ?_
  refine go_getR fX15_34_15 dX15_set_117 (by assumption) rfl (by assumption) ?_
  refine go_iconst (v := nI 0) dX15_set_120 (by decide) ?_
  refine go_bipush (v := nI 8) dX15_set_121 (by decide) ?_
  refine go_copyI q652 (by assumption) (by assumption) (by decide) rfl rfl rfl (Nat.le_of_ble_eq_true rfl) (Nat.le_of_ble_eq_true rfl) (Nat.le_of_ble_eq_true rfl) dX15_set_123 ?_
  refine go_vret rfl dX15_set_126 (Nat.le_of_ble_eq_true rfl) (Nat.le_of_ble_eq_true rfl) ?_
  generalize hm2 : cp_ (cp_ (cp_ m1 (o + 3) (t + 3)) (o + 4) (t + 4)) (o + 5) (t + 5) = m2
  have k3 : ∀ j, m2 (t + 3) j = mi (o + 3) j := by
    intro j
    rw [← hm2, cp_a (by omega), cp_a (by omega), cp_d, m1a _ _ (by omega)]
  have k4 : ∀ j, m2 (t + 4) j = mi (o + 4) j := by
    intro j
    rw [← hm2, cp_a (by omega), cp_d, cp_a (by omega), m1a _ _ (by omega)]
  have k5 : ∀ j, m2 (t + 5) j = mi (o + 5) j := by
    intro j
    rw [← hm2, cp_d, cp_a (by omega), cp_a (by omega), m1a _ _ (by omega)]
  have kt : ∀ j, m2 t j = m1 t j := by
    intro j
    rw [← hm2, cp_a (by omega), cp_a (by omega), cp_a (by omega)]
  have ka : ∀ a j, a ≠ t → a ≠ t + 3 → a ≠ t + 4 → a ≠ t + 5 → m2 a j = mi a j := by
    intro a j h1 h2 h3 h4
    rw [← hm2, cp_a h4, cp_a h3, cp_a h2, m1a _ _ h1]
  clear hm2
  refine ⟨m2, mr2, rfl, rfl, ⟨by rw [kt]; exact m10.1, by rw [kt]; exact m10.2.1, by rw [kt]; exact m10.2.2.1, by rw [kt]; exact m10.2.2.2.1, by rw [kt]; exact m10.2.2.2.2.1, by rw [kt]; exact m10.2.2.2.2.2, ?_, ?_, ?_⟩, ?_, f2, ?_, ?_⟩
  · intro s hs
    obtain ⟨q, q1, c1, c2, c3, c4, c5, c6, c7, c8⟩ := bS s hs
    have eq : ∀ j, m2 q j = mi q j := fun j => ka q j (by omega) (by omega) (by omega) (by omega)
    exact ⟨q, by rw [g1]; exact q1, c1, by rw [f2 _ _ (by omega) (by omega)]; exact c2, by rw [eq]; exact c3, by rw [eq]; exact c4, by rw [eq]; exact c5, by rw [eq]; exact c6, by rw [eq]; exact c7, c8⟩
  · intro r hr
    obtain ⟨c1, c2, c3⟩ := bR r hr
    exact ⟨by rw [g2]; exact c1, by rw [k3]; exact c2, by rw [k4]; exact c3⟩
  · intro k hk
    rw [k5]
    exact bM k hk
  · intro a j h
    exact ka a j (by omega) (by omega) (by omega) (by omega)
  · intro i hi y hy
    rw [g1] at hy
    exact har.1 i hi y hy
  · intro i hi y hy
    rw [g2] at hy
    exact har.2 i hi y hy
end TOWN2
