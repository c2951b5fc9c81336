/-! WHAT IS TOLD COMES INTO THE TOWN -/
set_option maxRecDepth 100000
def cs1_ (v : tv_) (f : Nat → Nat) : tv_ := fun j => if j = 0 then nI (sN v + 1) else if 10 + 6 * sN v ≤ j ∧ j < 10 + 6 * sN v + 6 then nI (f (j - (10 + 6 * sN v))) else v j
def cr1_ (v : tv_) (f : Nat → Nat) : tv_ := fun j => if j = 1 then nI (rN v + 1) else if j = 40 + 3 * rN v then nI (f 0) else if j = 40 + 3 * rN v + 1 then nI (f 1) else if j = 40 + 3 * rN v + 2 then nI 0 else v j
def oks_ (f : Nat → Nat) (sn rn : Nat) : Bool := decide (1 ≤ f 0) && (!(decide (f 1 = 2) || decide (f 1 = 3)) || decide (f 2 < rn)) && decide (sn < 4)
def okr_ (f : Nat → Nat) (rn : Nat) : Bool := decide (1 ≤ f 1) && decide (f 1 ≤ 6) && decide (rn < 6)
def okt_ (t : tk_) (sn rn : Nat) : Bool := if t.1 = 1 then oks_ t.2 sn rn else if t.1 = 2 then okr_ t.2 rn else decide (t.2 0 ≤ 60)
def com_ (t : tk_) (v : tv_) : tv_ := if t.1 = 0 then tu_ v 2 (nI (t.2 0)) else if t.1 = 1 then cs1_ v t.2 else if t.1 = 2 then cr1_ v t.2 else re_ v (nI (t.2 0))
section CS1
variable {v : tv_} {f : Nat → Nat}
theorem cs1_0 : cs1_ v f 0 = nI (sN v + 1) := if_pos rfl
theorem cs1_a {k : Nat} (h : k < 6) : cs1_ v f (10 + 6 * sN v + k) = nI (f k) := by
  unfold cs1_
  rw [if_neg (by omega), if_pos (by omega), Nat.add_sub_cancel_left]
theorem cs1_ne {j : Nat} (h0 : j ≠ 0) (h : j < 10 + 6 * sN v ∨ 10 + 6 * sN v + 6 ≤ j) : cs1_ v f j = v j := by unfold cs1_; rw [if_neg h0, if_neg (by omega)]
theorem cs1_sN (h : sN v ≤ 4) : sN (cs1_ v f) = sN v + 1 := by
  show (cs1_ v f 0).toNatClampNeg = _
  rw [cs1_0, nI_cl (by omega)]
theorem cs1_wf (hv : wf_ v) (hok : oks_ f (sN v) (rN v) = true) (h0 : f 0 ≤ 9) (h1 : f 1 < 6) (h2 : f 2 ≤ 9) : wf_ (cs1_ v f) := by
  unfold oks_ at hok
  rw [Bool.and_eq_true, Bool.and_eq_true, decide_eq_true_eq, decide_eq_true_eq] at hok
  obtain ⟨⟨k1, k2⟩, k3⟩ := hok
  obtain ⟨a1, a2, a3, a4, a5, a6, a7, a8, a9, a10⟩ := hv
  have es : sN (cs1_ v f) = sN v + 1 := cs1_sN a2
  have er : rN (cs1_ v f) = rN v := rN_of (cs1_ne (by decide) (by omega))
  have ew : wN (cs1_ v f) = wN v := wN_of (cs1_ne (by decide) (by omega))
  refine ⟨by rw [es, cs1_0], by rw [es]; omega, by rw [er, cs1_ne (by decide) (by omega)]; exact a3, by rw [er]; exact a4, by rw [ew, cs1_ne (by decide) (by omega)]; exact a5, by rw [ew]; exact a6, by rw [cs1_ne (by decide) (by omega)]; exact a7, ?_, ?_, ?_⟩
  · rw [es]
    intro s hs
    by_cases h3 : s = sN v
    · subst h3
      have ek : kd_ (cs1_ v f) (sN v) = f 1 := by unfold kd_; rw [cs1_a (by omega), nI_cl (by omega)]
      have ef : fg_ (cs1_ v f) (sN v) = f 2 := by unfold fg_; rw [cs1_a (by omega), nI_cl (by omega)]
      refine ⟨⟨f 0, by omega, by omega, cs1_a (k := 0) (by omega)⟩, by rw [ek]; exact cs1_a (by omega), by rw [ek]; omega, by rw [ef]; exact cs1_a (by omega), by rw [ef]; omega, ?_⟩
      rw [ek, ef, er]
      intro hk
      have : (!(decide (f 1 = 2) || decide (f 1 = 3))) = false := by
        rcases hk with z | z <;> rw [z] <;> rfl
      rw [this, Bool.false_or, decide_eq_true_eq] at k2
      exact k2
    · exact so_ok_of (Nat.le_of_eq er.symm) (fun j g1 g2 => cs1_ne (by omega) (by omega)) (a8 s (by omega))
  · rw [er]
    exact fun r hr => ru_ok_of (cs1_ne (by omega) (by omega)) (cs1_ne (by omega) (by omega)) (a9 r hr)
  · rw [ew]
    intro k hk
    rw [cs1_ne (by omega) (by omega)]
    exact a10 k hk
theorem cr1_1 : cr1_ v f 1 = nI (rN v + 1) := if_pos rfl
theorem cr1_a0 : cr1_ v f (40 + 3 * rN v) = nI (f 0) := by unfold cr1_; rw [if_neg (by omega), if_pos rfl]
theorem cr1_a1 : cr1_ v f (40 + 3 * rN v + 1) = nI (f 1) := by unfold cr1_; rw [if_neg (by omega), if_neg (by omega), if_pos rfl]
theorem cr1_a2 : cr1_ v f (40 + 3 * rN v + 2) = nI 0 := by unfold cr1_; rw [if_neg (by omega), if_neg (by omega), if_neg (by omega), if_pos rfl]
theorem cr1_ne {j : Nat} (h0 : j ≠ 1) (h : j < 40 + 3 * rN v ∨ 40 + 3 * rN v + 3 ≤ j) : cr1_ v f j = v j := by unfold cr1_; rw [if_neg h0, if_neg (by omega), if_neg (by omega), if_neg (by omega)]
theorem cr1_rN (h : rN v ≤ 6) : rN (cr1_ v f) = rN v + 1 := by
  show (cr1_ v f 1).toNatClampNeg = _
  rw [cr1_1, nI_cl (by omega)]
theorem cr1_wf (hv : wf_ v) (hok : okr_ f (rN v) = true) (h0 : f 0 < 6) : wf_ (cr1_ v f) := by
  unfold okr_ at hok
  rw [Bool.and_eq_true, Bool.and_eq_true, decide_eq_true_eq, decide_eq_true_eq, decide_eq_true_eq] at hok
  obtain ⟨⟨k1, k2⟩, k3⟩ := hok
  obtain ⟨a1, a2, a3, a4, a5, a6, a7, a8, a9, a10⟩ := hv
  have es : sN (cr1_ v f) = sN v := sN_of (cr1_ne (by decide) (by omega))
  have er : rN (cr1_ v f) = rN v + 1 := cr1_rN a4
  have ew : wN (cr1_ v f) = wN v := wN_of (cr1_ne (by decide) (by omega))
  refine ⟨by rw [es, cr1_ne (by decide) (by omega)]; exact a1, by rw [es]; exact a2, by rw [er, cr1_1], by rw [er]; omega, by rw [ew, cr1_ne (by decide) (by omega)]; exact a5, by rw [ew]; exact a6, by rw [cr1_ne (by decide) (by omega)]; exact a7, ?_, ?_, ?_⟩
  · rw [es]
    exact fun s hs => so_ok_of (by rw [er]; omega) (fun j g1 g2 => cr1_ne (by omega) (by omega)) (a8 s hs)
  · rw [er]
    intro r hr
    by_cases h3 : r = rN v
    · subst h3
      have ek : rk_ (cr1_ v f) (rN v) = f 0 := by unfold rk_; rw [cr1_a0, nI_cl (by omega)]
      have ef : rs_ (cr1_ v f) (rN v) = f 1 := by unfold rs_; rw [cr1_a1, nI_cl (by omega)]
      exact ⟨by rw [ek]; exact cr1_a0, by rw [ek]; exact h0, by rw [ef]; exact cr1_a1, by rw [ef]; exact k1, by rw [ef]; exact k2⟩
    · exact ru_ok_of (cr1_ne (by omega) (by omega)) (cr1_ne (by omega) (by omega)) (a9 r (by omega))
  · rw [ew]
    intro k hk
    rw [cr1_ne (by omega) (by omega)]
    exact a10 k hk
end CS1
theorem com_wf {ty : ty_} {mi : mi_} {mr : mr_} {x q s : Nat} {t : tk_} {v : tv_} (ht : told_ ty mi mr x q s t) (hv : wf_ v) (hok : okt_ t (sN v) (rN v) = true) : wf_ (com_ t v) := by
  obtain ⟨-, ht⟩ := ht
  unfold okt_ at hok
  unfold com_
  rcases ht with ⟨h1, h2, h3, h4⟩ | ⟨h1, h2, h3, h4⟩ | ⟨h1, h2, g, h3, h4⟩ | ⟨h1, h2, h3, h4, h5, h6⟩
  · rw [h1, if_neg (by decide), if_neg (by decide), decide_eq_true_eq] at hok
    rw [h1, if_pos rfl]
    exact wf_up hv (tu_n (by decide)) (tu_n (by decide)) (tu_n (by decide)) ⟨_, hok, tu_s⟩ (fun j h => tu_n (by omega))
  · rw [h1, if_neg (by decide), if_neg (by decide), decide_eq_true_eq] at hok
    rw [h1, if_neg (by decide), if_neg (by decide), if_neg (by decide)]
    exact re_wf hv (by omega) rfl
  · rw [h1, if_pos rfl] at hok
    rw [h1, if_neg (by decide), if_pos rfl]
    exact cs1_wf hv hok h4.2.2.2.2.2.2.2.2.2.1 h4.2.2.1 h4.2.2.2.2.2.2.2.2.2.2
  · rw [h1, if_neg (by decide), if_pos rfl] at hok
    rw [h1, if_neg (by decide), if_neg (by decide), if_pos rfl]
    exact cr1_wf hv hok h4
def cm_ (ty : ty_) (mi : mi_) (mr : mr_) (x : Nat) (t : tk_) (v : tv_) : Int32 → mi_ → mr_ → Prop := fun r mi2 mr2 => r = bo_ (okt_ t (sN v) (rN v)) ∧ fm_ mi mi2 (x + 23) (x + 31) ∧ fr2_ mr mr2 (x + 23) ∧ (okt_ t (sN v) (rN v) = true → md_ ty mi2 mr2 x (com_ t v))
section COMES
variable {l : Launch} {D : dd_} {b : Nat} {ty : ty_} {mi : mi_} {mr : mr_} {n x q s : Nat} {t : tk_} {v : tv_}
theorem ct_become22 (hT : ty q = some (.inl 22)) (ht : ty (x + 23) = some (.inl 15)) : CT_ l D b yX22_become hX22_become (rm_ 2 0 0) [.ref q, .ref (x + 23)] (ty, mi, mr, n) (qv_ (ty, um_ mi (x + 23) 0 (mi q 1), mr, n)) := by
  refine ct_of [some (.ref q), some (.ref (x + 23))] (by decide) rfl rfl ?_
  refine go_aload_n dX22_become_0 rfl ?_
  refine go_aload_n dX22_become_1 rfl ?_
  refine go_getI fX22_9_22 dX22_become_2 (by assumption) rfl ?_
  refine go_putI fX22_15_15 p15_0 rfl rfl rfl dX22_become_5 (by assumption) ?_
  refine go_vret rfl dX22_become_8 (Nat.le_of_ble_eq_true rfl) (Nat.le_of_ble_eq_true rfl) ?_
  exact ⟨rfl, rfl⟩
theorem ct_become23 (hT : ty q = some (.inl 23)) (hm : md_ ty mi mr x v) (hv : wf_ v) : CT_ l D b yX23_become hX23_become (rm_ 2 0 0) [.ref q, .ref (x + 23)] (ty, mi, mr, n) (qw_ (fun mi2 => tr_ ty mi2 mr x (x + 23) (re_ v (mi q 1)) ∧ fm_ mi mi2 (x + 23) (x + 31) ∧ ∀ j, mi2 (x + 23 + 6) j = mi (x + 23 + 6) j) ty mr n) := by
  have ht := hm.2.1.1
  refine ct_of [some (.ref q), some (.ref (x + 23))] (by decide) rfl rfl ?_
  refine go_aload_n dX23_become_0 rfl ?_
  refine go_aload_n dX23_become_1 rfl ?_
  refine go_getI fX23_7_23 dX23_become_2 (by assumption) rfl ?_
  refine go_callV vX23_13_15 (ct_remember hm.2.1 hm.1 hv (by omega)) dX23_become_5 (by assumption) rfl rfl rfl rfl rfl (Nat.le_of_ble_eq_true rfl) (Nat.le_of_ble_eq_true rfl) (Nat.le_of_ble_eq_true rfl) (Nat.le_of_ble_eq_true rfl) (Nat.le_of_ble_eq_true rfl) (kr_w (fun mi2 hp => ?_)) kt_w
  refine go_vret rfl dX23_become_8 (Nat.le_of_ble_eq_true rfl) (Nat.le_of_ble_eq_true rfl) ?_
  exact ⟨_, rfl, rfl, hp⟩
theorem bo_60 {d : Nat} (h : d ≤ 99) : (if nI 60 < nI d then nI 0 else nI 1) = bo_ (decide (d ≤ 60)) := by
  rw [bo_le]
  congr 1
  exact decide_eq_decide.mpr (nI_leI (by omega) (by omega))
theorem ct_comes22 (ht : told_ ty mi mr x q s t) (h0 : t.1 = 0) (hm : md_ ty mi mr x v) (hv : wf_ v) : CT_ l D b yX22_comes hX22_comes (rm_ 3 0 0) [.ref q, .ref (x + 23)] (ty, mi, mr, n) (qk_ (cm_ ty mi mr x t v) ty n) := by
  have a2 := hm.2.1.1
  obtain ⟨-, ⟨-, h2, h3, h4⟩ | ⟨h1, -⟩ | ⟨h1, -⟩ | ⟨h1, -⟩⟩ := ht
  · have ek : okt_ t (sN v) (rN v) = decide (t.2 0 ≤ 60) := by unfold okt_; rw [h0, if_neg (by decide), if_neg (by decide)]
    refine ct_of [some (.ref q), some (.ref (x + 23)), none] (by decide) rfl rfl ?_
    refine go_aload_n dX22_comes_0 rfl ?_
    refine go_getI fX22_9_22 dX22_comes_1 (by assumption) rfl ?_
    rw [h3]
    refine go_bipush (v := nI 60) dX22_comes_4 (by decide) ?_
    refine go_ticmp_gt (m := nI 0) (n := nI 1) (t1 := 13) (t2 := 14) dX22_comes_6 (by decide) dX22_comes_9 (by decide) dX22_comes_10 (by decide) dX22_comes_13 (by decide) rfl ?_
    rw [bo_60 h4, ← ek]
    refine go_istore_n (ls2 := [_, _, _]) dX22_comes_14 rfl rfl ?_
    refine go_iload_n dX22_comes_15 rfl ?_
    refine go_if_eq (tgt := 24) dX22_comes_16 (by decide) (fun h => ?_) (fun h => ?_)
    · have h5 := bo_0.mp h
      refine go_iload_n dX22_comes_24 rfl ?_
      refine go_zret rfl (bo_nw _) dX22_comes_25 (Nat.le_of_ble_eq_true rfl) (Nat.le_of_ble_eq_true rfl) ?_
      exact ⟨_, _, _, rfl, rfl, rfl, fun _ _ _ => rfl, fun _ _ _ _ => rfl, fun z => by rw [h5] at z; cases z⟩
    · refine go_aload_n dX22_comes_19 rfl ?_
      refine go_aload_n dX22_comes_20 rfl ?_
      refine go_callV vX22_20_22 (ct_become22 h2 a2) dX22_comes_21 (by assumption) rfl rfl rfl rfl rfl (Nat.le_of_ble_eq_true rfl) (Nat.le_of_ble_eq_true rfl) (Nat.le_of_ble_eq_true rfl) (Nat.le_of_ble_eq_true rfl) (Nat.le_of_ble_eq_true rfl) (kr_v ?_) kt_v
      refine go_iload_n dX22_comes_24 rfl ?_
      refine go_zret rfl (bo_nw _) dX22_comes_25 (Nat.le_of_ble_eq_true rfl) (Nat.le_of_ble_eq_true rfl) ?_
      refine ⟨_, _, _, rfl, rfl, rfl, fun a j h1 => um_a (by omega), fun _ _ _ _ => rfl, fun z => ⟨?_, hm.2⟩⟩
      unfold com_
      rw [if_pos h0, h3]
      have e1 : ∀ a j, a ≠ x + 23 → um_ mi (x + 23) 0 (nI (t.2 0)) a j = mi a j := fun a j h => um_a h
      have e2 : ∀ j, j ≠ 0 → um_ mi (x + 23) 0 (nI (t.2 0)) (x + 23) j = mi (x + 23) j := fun j h => um_k h
      exact tr_t hm.1 (by omega) e1 (tu_n (by decide)) (tu_n (by decide)) (fun j h => tu_n (by omega)) (um_s.trans tu_s.symm) ((e2 _ (by decide)).trans (hm.1.2.1.trans (tu_n (by decide)).symm)) ((e2 _ (by decide)).trans (hm.1.2.2.1.trans (tu_n (by decide)).symm)) ((e2 _ (by decide)).trans (hm.1.2.2.2.1.trans (tu_n (by decide)).symm)) ((e2 _ (by decide)).trans (hm.1.2.2.2.2.1.trans (tu_n (by decide)).symm)) ((e2 _ (by decide)).trans (hm.1.2.2.2.2.2.1.trans (tu_n (by decide)).symm))
  · omega
  · omega
  · omega
theorem ct_comes23 (ht : told_ ty mi mr x q s t) (h0 : t.1 = 3) (hm : md_ ty mi mr x v) (hv : wf_ v) : CT_ l D b yX22_comes hX22_comes (rm_ 3 0 0) [.ref q, .ref (x + 23)] (ty, mi, mr, n) (qk_ (cm_ ty mi mr x t v) ty n) := by
  have a2 := hm.2.1.1
  obtain ⟨-, ⟨h1, -⟩ | ⟨-, h2, h3, h4⟩ | ⟨h1, -⟩ | ⟨h1, -⟩⟩ := ht
  · omega
  · have ek : okt_ t (sN v) (rN v) = decide (t.2 0 ≤ 60) := by unfold okt_; rw [h0, if_neg (by decide), if_neg (by decide)]
    refine ct_of [some (.ref q), some (.ref (x + 23)), none] (by decide) rfl rfl ?_
    refine go_aload_n dX22_comes_0 rfl ?_
    refine go_getI fX22_9_23 dX22_comes_1 (by assumption) rfl ?_
    rw [h3]
    refine go_bipush (v := nI 60) dX22_comes_4 (by decide) ?_
    refine go_ticmp_gt (m := nI 0) (n := nI 1) (t1 := 13) (t2 := 14) dX22_comes_6 (by decide) dX22_comes_9 (by decide) dX22_comes_10 (by decide) dX22_comes_13 (by decide) rfl ?_
    rw [bo_60 h4, ← ek]
    refine go_istore_n (ls2 := [_, _, _]) dX22_comes_14 rfl rfl ?_
    refine go_iload_n dX22_comes_15 rfl ?_
    refine go_if_eq (tgt := 24) dX22_comes_16 (by decide) (fun h => ?_) (fun h => ?_)
    · have h5 := bo_0.mp h
      refine go_iload_n dX22_comes_24 rfl ?_
      refine go_zret rfl (bo_nw _) dX22_comes_25 (Nat.le_of_ble_eq_true rfl) (Nat.le_of_ble_eq_true rfl) ?_
      exact ⟨_, _, _, rfl, rfl, rfl, fun _ _ _ => rfl, fun _ _ _ _ => rfl, fun z => by rw [h5] at z; cases z⟩
    · refine go_aload_n dX22_comes_19 rfl ?_
      refine go_aload_n dX22_comes_20 rfl ?_
      refine go_callU uX22_20_23 (ct_become23 h2 hm hv) dX22_comes_21 (by assumption) rfl rfl rfl rfl rfl (Nat.le_of_ble_eq_true rfl) (Nat.le_of_ble_eq_true rfl) (Nat.le_of_ble_eq_true rfl) (Nat.le_of_ble_eq_true rfl) (Nat.le_of_ble_eq_true rfl) (kr_w (fun mi2 hp => ?_)) kt_w
      refine go_iload_n dX22_comes_24 rfl ?_
      refine go_zret rfl (bo_nw _) dX22_comes_25 (Nat.le_of_ble_eq_true rfl) (Nat.le_of_ble_eq_true rfl) ?_
      refine ⟨_, _, _, rfl, rfl, rfl, hp.2.1, fun _ _ _ _ => rfl, fun z => ⟨?_, hm.2⟩⟩
      unfold com_
      rw [h0, if_neg (by decide), if_neg (by decide), if_neg (by decide), ← h3]
      exact hp.1
  · omega
  · omega
theorem go_hasRule {k : Nat} {Q : Outcome → so_ → Prop} {ls : List (Option Value)} (hks : ks_ ty x) (hk : k < 6) (K : G_ l D b (RX24, "comes", 3, some .boolean, rm_ 3 0 0, []) Q cX24_comes 20 ls [.int (bo_ (decide (k = 2) || decide (k = 3)))] (ty, mi, mr, n) 0 0) : G_ l D b (RX24, "comes", 3, some .boolean, rm_ 3 0 0, []) Q cX24_comes 17 ls [.ref (x + 9 + k)] (ty, mi, mr, n) 0 0 := by
  have hT := (hks k hk).2
  match k, hk, hT, K with
  | 0, _, hT, K =>
    refine go_callV vX24_25_9 (ct_hasRule0) dX24_comes_17 (by assumption) rfl rfl rfl rfl rfl (Nat.le_of_ble_eq_true rfl) (Nat.le_of_ble_eq_true rfl) (Nat.le_of_ble_eq_true rfl) (Nat.le_of_ble_eq_true rfl) (Nat.le_of_ble_eq_true rfl) (kr_i ?_) kt_i
    exact K
  | 1, _, hT, K =>
    refine go_callV vX24_25_10 (ct_hasRule0) dX24_comes_17 (by assumption) rfl rfl rfl rfl rfl (Nat.le_of_ble_eq_true rfl) (Nat.le_of_ble_eq_true rfl) (Nat.le_of_ble_eq_true rfl) (Nat.le_of_ble_eq_true rfl) (Nat.le_of_ble_eq_true rfl) (kr_i ?_) kt_i
    exact K
  | 2, _, hT, K =>
    refine go_callU uX24_25_11 (ct_hasRule2) dX24_comes_17 (by assumption) rfl rfl rfl rfl rfl (Nat.le_of_ble_eq_true rfl) (Nat.le_of_ble_eq_true rfl) (Nat.le_of_ble_eq_true rfl) (Nat.le_of_ble_eq_true rfl) (Nat.le_of_ble_eq_true rfl) (kr_i ?_) kt_i
    exact K
  | 3, _, hT, K =>
    refine go_callU uX24_25_12 (ct_hasRule2) dX24_comes_17 (by assumption) rfl rfl rfl rfl rfl (Nat.le_of_ble_eq_true rfl) (Nat.le_of_ble_eq_true rfl) (Nat.le_of_ble_eq_true rfl) (Nat.le_of_ble_eq_true rfl) (Nat.le_of_ble_eq_true rfl) (kr_i ?_) kt_i
    exact K
  | 4, _, hT, K =>
    refine go_callV vX24_25_13 (ct_hasRule0) dX24_comes_17 (by assumption) rfl rfl rfl rfl rfl (Nat.le_of_ble_eq_true rfl) (Nat.le_of_ble_eq_true rfl) (Nat.le_of_ble_eq_true rfl) (Nat.le_of_ble_eq_true rfl) (Nat.le_of_ble_eq_true rfl) (kr_i ?_) kt_i
    exact K
  | 5, _, hT, K =>
    refine go_callV vX24_25_14 (ct_hasRule0) dX24_comes_17 (by assumption) rfl rfl rfl rfl rfl (Nat.le_of_ble_eq_true rfl) (Nat.le_of_ble_eq_true rfl) (Nat.le_of_ble_eq_true rfl) (Nat.le_of_ble_eq_true rfl) (Nat.le_of_ble_eq_true rfl) (kr_i ?_) kt_i
    exact K
  | k + 6, h, _, _ => exact absurd h (by omega)
theorem ct_comes24 (ht : told_ ty mi mr x q s t) (h0 : t.1 = 1) (hm : md_ ty mi mr x v) (hv : wf_ v) : CT_ l D b yX24_comes hX24_comes (rm_ 3 0 0) [.ref q, .ref (x + 23)] (ty, mi, mr, n) (qk_ (cm_ ty mi mr x t v) ty n) := by
  have hm0 := hm
  obtain ⟨m1, m2, m3, m4⟩ := hm
  obtain ⟨a1, a2, a3, a4, a5, a6, a7, a8, a9, a10, a11, a12, a13, a14, a15⟩ := m2
  have hs4 := hv.2.1
  have hr6 := hv.2.2.2.1
  have n1 : mi (x + 23) 1 = nI (sN v) := m1.2.1.trans hv.1
  have n3 : mi (x + 23) 3 = nI (rN v) := m1.2.2.1.trans hv.2.2.1
  obtain ⟨-, ⟨h1, -⟩ | ⟨h1, -⟩ | ⟨-, h2, g, h3, h4⟩ | ⟨h1, -⟩⟩ := ht
  · omega
  · omega
  · have h40 := h4
    obtain ⟨g1, g2, g3, g4, g5, g6, g7, g8, g9, g10, g11⟩ := h4
    have ek : okt_ t (sN v) (rN v) = oks_ t.2 (sN v) (rN v) := by unfold okt_; rw [if_pos h0]
    refine ct_of [some (.ref q), some (.ref (x + 23)), none] (by decide) rfl rfl ?_
    have no : oks_ t.2 (sN v) (rN v) = false → ∀ o2, G_ l D b (RX24, "comes", 3, some .boolean, rm_ 3 0 0, []) (qk_ (cm_ ty mi mr x t v) ty n) cX24_comes 55 [some (.ref q), some (.ref (x + 23)), o2] [] (ty, mi, mr, n) 0 0 := by
      intro hz o2
      refine go_iconst (v := nI 0) dX24_comes_55 (by decide) ?_
      refine go_zret rfl rfl dX24_comes_56 (Nat.le_of_ble_eq_true rfl) (Nat.le_of_ble_eq_true rfl) ?_
      exact ⟨_, _, _, rfl, rfl, by rw [ek, hz]; rfl, fun _ _ _ => rfl, fun _ _ _ _ => rfl, fun z => by rw [ek, hz] at z; cases z⟩
    have no2 : oks_ t.2 (sN v) (rN v) = false → G_ l D b (RX24, "comes", 3, some .boolean, rm_ 3 0 0, []) (qk_ (cm_ ty mi mr x t v) ty n) cX24_comes 41 [some (.ref q), some (.ref (x + 23)), none] [] (ty, mi, mr, n) 0 0 := by
      intro hz
      refine go_iconst (v := nI 0) dX24_comes_41 (by decide) ?_
      refine go_istore_n (ls2 := [_, _, _]) dX24_comes_42 rfl rfl ?_
      refine go_iload_n dX24_comes_43 rfl ?_
      refine go_if_eq (tgt := 55) dX24_comes_44 (by decide) (fun _ => ?_) (fun h0_ => absurd (rfl) h0_)
      exact no hz _
    have yes : (1 ≤ t.2 0) → (!(decide (t.2 1 = 2) || decide (t.2 1 = 3)) || decide (t.2 2 < rN v)) = true → G_ l D b (RX24, "comes", 3, some .boolean, rm_ 3 0 0, []) (qk_ (cm_ ty mi mr x t v) ty n) cX24_comes 37 [some (.ref q), some (.ref (x + 23)), none] [] (ty, mi, mr, n) 0 0 := by
      intro z1 z2
      refine go_iconst (v := nI 1) dX24_comes_37 (by decide) ?_
      refine go_goto (tgt := 42) dX24_comes_38 (by decide) ?_
      refine go_istore_n (ls2 := [_, _, _]) dX24_comes_42 rfl rfl ?_
      refine go_iload_n dX24_comes_43 rfl ?_
      refine go_if_eq (tgt := 55) dX24_comes_44 (by decide) (fun h0_ => absurd h0_ ((by decide))) (fun _ => ?_)
      refine go_aload_n dX24_comes_47 rfl ?_
      refine go_getI fX24_39_15 dX24_comes_48 (by assumption) rfl ?_
      rw [n1]
      refine go_iconst (v := nI 4) dX24_comes_51 (by decide) ?_
      refine go_icmp_ne (tgt := 57) dX24_comes_52 (by decide) (fun h5 => ?_) (fun h5 => ?_)
      · have h6 : sN v < 4 := by
          have : sN v ≠ 4 := fun z => h5 (by rw [z])
          omega
        have h7 : oks_ t.2 (sN v) (rN v) = true := by
          unfold oks_
          rw [z2, decide_eq_true z1, decide_eq_true h6]
          rfl
        refine go_aload_n dX24_comes_57 rfl ?_
        refine go_getR fX24_42_15 dX24_comes_58 (by assumption) rfl (by assumption) ?_
        refine go_aload_n dX24_comes_61 rfl ?_
        refine go_getI fX24_39_15 dX24_comes_62 (by assumption) rfl ?_
        rw [n1]
        refine go_aload_n dX24_comes_65 rfl ?_
        refine go_getR fX24_9_24 dX24_comes_66 (by assumption) rfl (by assumption) ?_
        refine go_aast dX24_comes_69 a9 ⟨rfl, by omega, by decide⟩ g1 rfl (Or.inl rfl) ?_
        refine go_aload_n dX24_comes_70 rfl ?_
        refine go_dup dX24_comes_71 rfl ?_
        refine go_getI fX24_39_15 dX24_comes_72 (by assumption) rfl ?_
        rw [n1]
        refine go_iconst (v := nI 1) dX24_comes_75 (by decide) ?_
        refine go_iadd dX24_comes_76 ?_
        rw [nI_add]
        refine go_putI fX24_39_15 p15_1 rfl rfl rfl dX24_comes_77 (by assumption) ?_
        refine go_iconst (v := nI 1) dX24_comes_80 (by decide) ?_
        refine go_zret rfl rfl dX24_comes_81 (Nat.le_of_ble_eq_true rfl) (Nat.le_of_ble_eq_true rfl) ?_
        refine ⟨_, _, _, rfl, rfl, by rw [ek, h7]; rfl, fun a j h => um_a (by omega), fun a j h8 h9 => ur_a h8, fun _ => ?_⟩
        have d1 : ∀ a j, ¬ (a = x + 23 ∧ j = 1) → um_ mi (x + 23) 1 (nI (sN v + 1)) a j = mi a j := fun a j h => if_neg h
        have d2 : ∀ a j, ¬ (a = x + 24 ∧ j = sN v) → ur_ mr (x + 24) (sN v) (some g) a j = mr a j := fun a j h => if_neg h
        have d3 : ur_ mr (x + 24) (sN v) (some g) (x + 24) (sN v) = some g := ur_s
        unfold com_
        rw [h0, if_neg (by decide), if_pos rfl]
        refine ⟨?_, ?_, m3, ?_, ?_⟩
        · obtain ⟨t1, t2, t3, t4, t5, t6, tS, tR, tM⟩ := m1
          refine ⟨by rw [d1 _ _ (by omega), cs1_ne (by decide) (by omega)]; exact t1, by rw [um_s, cs1_0], by rw [d1 _ _ (by omega), cs1_ne (by decide) (by omega)]; exact t3, by rw [d1 _ _ (by omega), cs1_ne (by decide) (by omega)]; exact t4, by rw [d1 _ _ (by omega), cs1_ne (by decide) (by omega)]; exact t5, by rw [d1 _ _ (by omega), cs1_ne (by decide) (by omega)]; exact t6, ?_, ?_, ?_⟩
          · rw [cs1_sN hs4]
            intro k hk
            by_cases h8 : k = sN v
            · subst h8
              have e9 : kd_ (cs1_ v t.2) (sN v) = t.2 1 := by unfold kd_; rw [cs1_a (by omega), nI_cl (by omega)]
              have eg : ∀ j, um_ mi (x + 23) 1 (nI (sN v + 1)) g j = mi g j := fun j => d1 g j (by omega)
              exact ⟨g, d3, g1, by rw [d2 _ _ (by omega), e9]; exact g2, (eg 1).trans (g4.trans (cs1_a (k := 0) (by omega)).symm), by rw [eg, cs1_a (by omega)]; exact g5, by rw [eg, cs1_a (by omega)]; exact g6, by rw [eg, cs1_a (by omega)]; exact g7, by rw [eg, cs1_a (by omega)]; exact g8, g9⟩
            · obtain ⟨q2, q1, y1, y2, y3, y4, y5, y6, y7, y8⟩ := tS k (by omega)
              have eq : ∀ j, um_ mi (x + 23) 1 (nI (sN v + 1)) q2 j = mi q2 j := fun j => d1 q2 j (by omega)
              have e9 : kd_ (cs1_ v t.2) k = kd_ v k := by unfold kd_; rw [cs1_ne (by omega) (by omega)]
              exact ⟨q2, by rw [d2 _ _ (by omega)]; exact q1, y1, by rw [d2 _ _ (by omega), e9]; exact y2, by rw [eq, cs1_ne (by omega) (by omega)]; exact y3, by rw [eq, cs1_ne (by omega) (by omega)]; exact y4, by rw [eq, cs1_ne (by omega) (by omega)]; exact y5, by rw [eq, cs1_ne (by omega) (by omega)]; exact y6, by rw [eq, cs1_ne (by omega) (by omega)]; exact y7, y8⟩
          · rw [rN_of (cs1_ne (by decide) (by omega))]
            intro r hr
            obtain ⟨y1, y2, y3⟩ := tR r hr
            have e9 : rk_ (cs1_ v t.2) r = rk_ v r := by unfold rk_; rw [cs1_ne (by omega) (by omega)]
            exact ⟨by rw [d2 _ _ (by omega), e9]; exact y1, by rw [d1 _ _ (by omega), cs1_ne (by omega) (by omega)]; exact y2, by rw [d1 _ _ (by omega), cs1_ne (by omega) (by omega)]; exact y3⟩
          · intro j hj
            rw [d1 _ _ (by omega), cs1_ne (by omega) (by omega)]
            exact tM j hj
        · exact hm0.2.1.up (fun _ _ _ => rfl) (fun j => d2 _ j (by omega))
        · intro i hi y hy
          by_cases h8 : i = sN v
          · subst h8
            rw [show x + 23 + 1 = x + 24 from rfl, d3] at hy
            cases hy
            exact g1
          · rw [d2 _ _ (by omega)] at hy
            exact m4.1 i hi y hy
        · intro i hi y hy
          rw [d2 _ _ (by omega)] at hy
          exact m4.2 i hi y hy
      · have h6 : sN v = 4 := (nI_eq (by omega) (by omega)).mp h5
        refine no ?_ _
        unfold oks_
        rw [decide_eq_false (by omega : ¬ sN v < 4)]
        simp
    refine go_aload_n dX24_comes_0 rfl ?_
    refine go_getR fX24_9_24 dX24_comes_1 (by assumption) rfl (by assumption) ?_
    refine go_getI fX24_15_25 dX24_comes_4 (by assumption) rfl ?_
    rw [g4]
    refine go_if_le (tgt := 41) dX24_comes_7 (by decide) (fun h5 => ?_) (fun h5 => ?_)
    · refine no2 ?_
      have : ¬ 1 ≤ t.2 0 := fun z => absurd h5 (nI_nle (by omega) (by omega))
      unfold oks_
      rw [decide_eq_false this]
      rfl
    · have z1 : 1 ≤ t.2 0 := by
        have : ¬ t.2 0 = 0 := fun z => h5 (by rw [z]; decide)
        omega
      refine go_aload_n dX24_comes_10 rfl ?_
      refine go_getR fX24_9_24 dX24_comes_11 (by assumption) rfl (by assumption) ?_
      refine go_getR fX24_21_25 dX24_comes_14 (by assumption) rfl (by assumption) ?_
      refine go_hasRule m3 g3 ?_
      refine go_if_eq (tgt := 37) dX24_comes_20 (by decide) (fun h6 => ?_) (fun h6 => ?_)
      · have h7 := bo_0.mp h6
        exact yes z1 (by rw [h7]; rfl)
      · have h7 : (decide (t.2 1 = 2) || decide (t.2 1 = 3)) = true := by
          cases hq : (decide (t.2 1 = 2) || decide (t.2 1 = 3)) with
          | true => rfl
          | false => exact absurd (bo_0.mpr hq) h6
        refine go_aload_n dX24_comes_23 rfl ?_
        refine go_getR fX24_9_24 dX24_comes_24 (by assumption) rfl (by assumption) ?_
        refine go_getI fX24_31_25 dX24_comes_27 (by assumption) rfl ?_
        rw [g5]
        refine go_aload_n dX24_comes_30 rfl ?_
        refine go_getI fX24_34_15 dX24_comes_31 (by assumption) rfl ?_
        rw [n3]
        refine go_icmp_ge (tgt := 41) dX24_comes_34 (by decide) (fun h8 => ?_) (fun h8 => ?_)
        · refine no2 ?_
          have := (nI_leI (by omega) (by omega)).mp h8
          unfold oks_
          rw [h7, decide_eq_false (by omega : ¬ t.2 2 < rN v)]
          simp
        · refine yes z1 ?_
          have : t.2 2 < rN v := by
            by_cases h9 : t.2 2 < rN v
            · exact h9
            · exact absurd (nI_le (by omega) (by omega)) h8
          rw [decide_eq_true this]
          simp
  · omega
theorem ct_comes26 (ht : told_ ty mi mr x q s t) (h0 : t.1 = 2) (hm : md_ ty mi mr x v) (hv : wf_ v) : CT_ l D b yX26_comes hX26_comes (rm_ 3 0 0) [.ref q, .ref (x + 23)] (ty, mi, mr, n) (qk_ (cm_ ty mi mr x t v) ty n) := by
  have hm0 := hm
  obtain ⟨m1, m2, m3, m4⟩ := hm
  obtain ⟨a1, a2, a3, a4, a5, a6, a7, a8, a9, a10, a11, a12, a13, a14, a15⟩ := m2
  have hs4 := hv.2.1
  have hr6 := hv.2.2.2.1
  have n3 : mi (x + 23) 3 = nI (rN v) := m1.2.2.1.trans hv.2.2.1
  obtain ⟨-, ⟨h1, -⟩ | ⟨h1, -⟩ | ⟨h1, -⟩ | ⟨-, h2, h3, h4, h5, h6⟩⟩ := ht
  · omega
  · omega
  · omega
  · have ek : okt_ t (sN v) (rN v) = okr_ t.2 (rN v) := by unfold okt_; rw [h0, if_neg (by decide), if_pos rfl]
    have g1 := (m3 _ h4).1
    refine ct_of [some (.ref q), some (.ref (x + 23))] (by decide) rfl rfl ?_
    have no : okr_ t.2 (rN v) = false → G_ l D b (RX26, "comes", 2, some .boolean, rm_ 3 0 0, []) (qk_ (cm_ ty mi mr x t v) ty n) cX26_comes 24 [some (.ref q), some (.ref (x + 23))] [] (ty, mi, mr, n) 0 0 := by
      intro hz
      refine go_iconst (v := nI 0) dX26_comes_24 (by decide) ?_
      refine go_zret rfl rfl dX26_comes_25 (Nat.le_of_ble_eq_true rfl) (Nat.le_of_ble_eq_true rfl) ?_
      exact ⟨_, _, _, rfl, rfl, by rw [ek, hz]; rfl, fun _ _ _ => rfl, fun _ _ _ _ => rfl, fun z => by rw [ek, hz] at z; cases z⟩
    refine go_aload_n dX26_comes_0 rfl ?_
    refine go_getI fX26_15_26 dX26_comes_1 (by assumption) rfl ?_
    rw [h5]
    refine go_i2l dX26_comes_4 ?_
    refine go_lconst (v := (nI 1).toInt64) dX26_comes_5 (by decide) ?_
    refine go_ldc2 q679 dX26_comes_6 ?_
    refine go_topl (show (6 : Int64) = (nI 6).toInt64 by decide) ?_
    refine go_callS sX26_21 (ct_in (d := 0)) dX26_comes_9 rfl rfl rfl (Nat.le_of_ble_eq_true rfl) (Nat.le_of_ble_eq_true rfl) (Nat.le_of_ble_eq_true rfl) (Nat.le_of_ble_eq_true rfl) (Nat.le_of_ble_eq_true rfl) (kr_i ?_) kt_i
    refine go_if_eq (tgt := 24) dX26_comes_12 (by decide) (fun h7 => ?_) (fun h7 => ?_)
    · have h8 := bo_0.mp h7
      refine no ?_
      unfold in_ at h8
      unfold okr_
      rw [show decide (1 ≤ t.2 1) = decide (nI 1 ≤ nI (t.2 1)) from decide_eq_decide.mpr (nI_leI (by omega) (by omega)).symm, show decide (t.2 1 ≤ 6) = decide (nI (t.2 1) ≤ nI 6) from decide_eq_decide.mpr (nI_leI (by omega) (by omega)).symm, h8]
      rfl
    · have h8 : in_ (nI (t.2 1)) (nI 1) (nI 6) = true := by
        cases hq : in_ (nI (t.2 1)) (nI 1) (nI 6) with
        | true => rfl
        | false => exact absurd (bo_0.mpr hq) h7
      unfold in_ at h8
      have h9 : okr_ t.2 (rN v) = decide (rN v < 6) := by
        unfold okr_
        rw [show decide (1 ≤ t.2 1) = decide (nI 1 ≤ nI (t.2 1)) from decide_eq_decide.mpr (nI_leI (by omega) (by omega)).symm, show decide (t.2 1 ≤ 6) = decide (nI (t.2 1) ≤ nI 6) from decide_eq_decide.mpr (nI_leI (by omega) (by omega)).symm, h8]
        rfl
      refine go_aload_n dX26_comes_15 rfl ?_
      refine go_getI fX26_25_15 dX26_comes_16 (by assumption) rfl ?_
      rw [n3]
      refine go_bipush (v := nI 6) dX26_comes_19 (by decide) ?_
      refine go_icmp_ne (tgt := 26) dX26_comes_21 (by decide) (fun hb => ?_) (fun hb => ?_)
      · have h10 : rN v < 6 := by
          have : rN v ≠ 6 := fun z => hb (by rw [z])
          omega
        have h11 : okr_ t.2 (rN v) = true := by rw [h9, decide_eq_true h10]
        refine go_aload_n dX26_comes_26 rfl ?_
        refine go_getR fX26_30_15 dX26_comes_27 (by assumption) rfl (by assumption) ?_
        refine go_aload_n dX26_comes_30 rfl ?_
        refine go_getI fX26_25_15 dX26_comes_31 (by assumption) rfl ?_
        rw [n3]
        refine go_aload_n dX26_comes_34 rfl ?_
        refine go_getR fX26_9_26 dX26_comes_35 (by assumption) rfl (by assumption) ?_
        refine go_aast (cv := 2 + t.2 0) dX26_comes_38 a10 ⟨rfl, by omega, by decide⟩ g1 (qv := (CL_[2 + t.2 0]?).getD (RX2, TX0, 0)) ?_ ?_ ?_
        · generalize t.2 0 = k at h4
          match k, h4 with
          | 0, _ => rfl
          | 1, _ => rfl
          | 2, _ => rfl
          | 3, _ => rfl
          | 4, _ => rfl
          | 5, _ => rfl
          | k + 6, h => exact absurd h (by omega)
        · obtain ⟨cv, qv, e1, e2, e3⟩ := el_r h4 g1
          rw [g1] at e1
          cases e1
          rw [e2]
          exact e3
        have d2 : ∀ a j, ¬ (a = x + 23 + 2 ∧ j = rN v) → ur_ mr (x + 23 + 2) (rN v) (some (x + 2 + t.2 0)) a j = mr a j := fun a j h => if_neg h
        have d3 : ur_ mr (x + 23 + 2) (rN v) (some (x + 2 + t.2 0)) (x + 23 + 2) (rN v) = some (x + 2 + t.2 0) := ur_s
        have d7 : ∀ a j, a ≠ x + 23 + 2 → ur_ mr (x + 23 + 2) (rN v) (some (x + 2 + t.2 0)) a j = mr a j := fun a j h => ur_a h
        generalize ur_ mr (x + 23 + 2) (rN v) (some (x + 2 + t.2 0)) = mrC at d2 d3 d7 ⊢
        have w4 : mrC (x + 23) 5 = some (x + 23 + 3) := (d7 _ _ (by omega)).trans a4
        have w5 : mrC (x + 23) 6 = some (x + 23 + 4) := (d7 _ _ (by omega)).trans a5
        refine go_aload_n dX26_comes_39 rfl ?_
        refine go_getR fX26_33_15 dX26_comes_40 (by assumption) rfl (by assumption) ?_
        refine go_aload_n dX26_comes_43 rfl ?_
        refine go_getI fX26_25_15 dX26_comes_44 (by assumption) rfl ?_
        rw [n3]
        refine go_aload_n dX26_comes_47 rfl ?_
        refine go_getI fX26_15_26 dX26_comes_48 (by assumption) rfl ?_
        rw [h5]
        refine go_iast dX26_comes_51 (by assumption) ⟨rfl, by omega, by decide⟩ ?_
        refine go_aload_n dX26_comes_52 rfl ?_
        refine go_getR fX26_37_15 dX26_comes_53 (by assumption) rfl (by assumption) ?_
        refine go_aload_n dX26_comes_56 rfl ?_
        refine go_getI fX26_25_15 dX26_comes_57 (by assumption) rfl ?_
        rw [um_a (by omega), n3]
        refine go_iconst (v := nI 0) dX26_comes_60 (by decide) ?_
        refine go_iast dX26_comes_61 (by assumption) ⟨rfl, by omega, by decide⟩ ?_
        refine go_aload_n dX26_comes_62 rfl ?_
        refine go_dup dX26_comes_63 rfl ?_
        refine go_getI fX26_25_15 dX26_comes_64 (by assumption) rfl ?_
        rw [um_a (by omega), um_a (by omega), n3]
        refine go_iconst (v := nI 1) dX26_comes_67 (by decide) ?_
        refine go_iadd dX26_comes_68 ?_
        rw [nI_add]
        refine go_putI fX26_25_15 p15_3 rfl rfl rfl dX26_comes_69 (by assumption) ?_
        refine go_iconst (v := nI 1) dX26_comes_72 (by decide) ?_
        refine go_zret rfl rfl dX26_comes_73 (Nat.le_of_ble_eq_true rfl) (Nat.le_of_ble_eq_true rfl) ?_
        generalize hmm : um_ (um_ (um_ mi (x + 23 + 3) (rN v) (nI (t.2 1))) (x + 23 + 4) (rN v) (nI 0)) (x + 23) 3 (nI (rN v + 1)) = mC
        have d1 : ∀ a j, ¬ (a = x + 23 ∧ j = 3) → ¬ (a = x + 23 + 3 ∧ j = rN v) → ¬ (a = x + 23 + 4 ∧ j = rN v) → mC a j = mi a j := fun a j z1 z2 z3 => by
          rw [← hmm]
          exact (if_neg z1).trans ((if_neg z3).trans (if_neg z2))
        have d4 : mC (x + 23) 3 = nI (rN v + 1) := by rw [← hmm]; exact um_s
        have d5 : mC (x + 23 + 3) (rN v) = nI (t.2 1) := by rw [← hmm, um_a (by omega), um_a (by omega), um_s]
        have d6 : mC (x + 23 + 4) (rN v) = nI 0 := by rw [← hmm, um_a (by omega), um_s]
        clear hmm
        refine ⟨_, _, _, rfl, rfl, by rw [ek, h11]; rfl, fun a j h => d1 a j (by omega) (by omega) (by omega), fun a j h8 h9 => d7 a j h9, fun _ => ?_⟩
        unfold com_
        rw [h0, if_neg (by decide), if_neg (by decide), if_pos rfl]
        refine ⟨?_, ?_, m3, ?_, ?_⟩
        · obtain ⟨t1, t2, t3, t4, t5, t6, tS, tR, tM⟩ := m1
          refine ⟨by rw [d1 _ _ (by omega) (by omega) (by omega), cr1_ne (by decide) (by omega)]; exact t1, by rw [d1 _ _ (by omega) (by omega) (by omega), cr1_ne (by decide) (by omega)]; exact t2, by rw [d4, cr1_1], by rw [d1 _ _ (by omega) (by omega) (by omega), cr1_ne (by decide) (by omega)]; exact t4, by rw [d1 _ _ (by omega) (by omega) (by omega), cr1_ne (by decide) (by omega)]; exact t5, by rw [d1 _ _ (by omega) (by omega) (by omega), cr1_ne (by decide) (by omega)]; exact t6, ?_, ?_, ?_⟩
          · rw [sN_of (cr1_ne (by decide) (by omega))]
            intro k hk
            obtain ⟨q2, q1, y1, y2, y3, y4, y5, y6, y7, y8⟩ := tS k hk
            have eq : ∀ j, mC q2 j = mi q2 j := fun j => d1 q2 j (by omega) (by omega) (by omega)
            have e9 : kd_ (cr1_ v t.2) k = kd_ v k := by unfold kd_; rw [cr1_ne (by omega) (by omega)]
            exact ⟨q2, by rw [d2 _ _ (by omega)]; exact q1, y1, by rw [d2 _ _ (by omega), e9]; exact y2, by rw [eq, cr1_ne (by omega) (by omega)]; exact y3, by rw [eq, cr1_ne (by omega) (by omega)]; exact y4, by rw [eq, cr1_ne (by omega) (by omega)]; exact y5, by rw [eq, cr1_ne (by omega) (by omega)]; exact y6, by rw [eq, cr1_ne (by omega) (by omega)]; exact y7, y8⟩
          · rw [cr1_rN hr6]
            intro r hr
            by_cases h8 : r = rN v
            · subst h8
              have e9 : rk_ (cr1_ v t.2) (rN v) = t.2 0 := by unfold rk_; rw [cr1_a0, nI_cl (by omega)]
              exact ⟨by rw [e9]; exact d3, by rw [d5, cr1_a1], by rw [d6, cr1_a2]⟩
            · obtain ⟨y1, y2, y3⟩ := tR r (by omega)
              have e9 : rk_ (cr1_ v t.2) r = rk_ v r := by unfold rk_; rw [cr1_ne (by omega) (by omega)]
              exact ⟨by rw [d2 _ _ (by omega), e9]; exact y1, by rw [d1 _ _ (by omega) (by omega) (by omega), cr1_ne (by omega) (by omega)]; exact y2, by rw [d1 _ _ (by omega) (by omega) (by omega), cr1_ne (by omega) (by omega)]; exact y3⟩
          · intro j hj
            rw [d1 _ _ (by omega) (by omega) (by omega), cr1_ne (by omega) (by omega)]
            exact tM j hj
        · exact hm0.2.1.up (fun _ _ _ => rfl) (fun j => d2 _ j (by omega))
        · intro i hi y hy
          rw [d2 _ _ (by omega)] at hy
          exact m4.1 i hi y hy
        · intro i hi y hy
          by_cases h8 : i = rN v
          · subst h8
            rw [d3] at hy
            cases hy
            exact ⟨_, h4, g1⟩
          · rw [d2 _ _ (by omega)] at hy
            exact m4.2 i hi y hy
      · have h10 : rN v = 6 := (nI_eq (by omega) (by omega)).mp hb
        refine no ?_
        rw [h9, decide_eq_false (by omega)]
end COMES
