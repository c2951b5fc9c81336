/-! WHO GOES; A WEEK -/
theorem sa_0 (x : Int32) : x + nI 0 = x := by rw [nI_0]; exact Int32.add_zero x
def gx_ (v : tv_) (s : Nat) (w : Int32) : Bool := if kd_ v s = 5 then decide (w + v (10 + 6 * s) ≤ v 2) else gk_ v s
def as0_ (mi : mi_) (v : tv_) (t s : Nat) : mi_ := fun a j => if a = t ∧ j = 11 then p1_ v s else if a = t + 6 ∧ j < s ∧ kd_ v j ≠ 5 then bo_ (gk_ v j) else mi a j
def as1_ (mi : mi_) (v : tv_) (t s : Nat) : mi_ := fun a j => if a = t ∧ j = 11 then p2_ v s else if a = t + 6 ∧ j < s ∧ kd_ v j = 5 then bo_ (decide (p2_ v j + v (10 + 6 * j) ≤ v 2)) else mi a j
def aa_ (mi : mi_) (v : tv_) (t : Nat) : mi_ := fun a j => if a = t ∧ j = 11 then pr_ v else if a = t + 6 ∧ j < sN v then bo_ (gf_ v j) else mi a j
theorem as0_t {mi : mi_} {v : tv_} {t s j : Nat} (h : j ≠ 11) : as0_ mi v t s t j = mi t j := by
  unfold as0_
  rw [if_neg (by omega), if_neg (by omega)]
theorem as0_a {mi : mi_} {v : tv_} {t s a j : Nat} (h : a ≠ t) (h2 : a ≠ t + 6) : as0_ mi v t s a j = mi a j := by
  unfold as0_
  rw [if_neg (by omega), if_neg (by omega)]
theorem as1_t {mi : mi_} {v : tv_} {t s j : Nat} (h : j ≠ 11) : as1_ mi v t s t j = mi t j := by
  unfold as1_
  rw [if_neg (by omega), if_neg (by omega)]
theorem as1_a {mi : mi_} {v : tv_} {t s a j : Nat} (h : a ≠ t) (h2 : a ≠ t + 6) : as1_ mi v t s a j = mi a j := by
  unfold as1_
  rw [if_neg (by omega), if_neg (by omega)]
theorem as0_11 {mi : mi_} {v : tv_} {t s : Nat} : as0_ mi v t s t 11 = p1_ v s := by
  unfold as0_
  rw [if_pos ⟨rfl, rfl⟩]
theorem as1_11 {mi : mi_} {v : tv_} {t s : Nat} : as1_ mi v t s t 11 = p2_ v s := by
  unfold as1_
  rw [if_pos ⟨rfl, rfl⟩]
theorem gk_5 {v : tv_} {s : Nat} (h : kd_ v s = 5) : gk_ v s = false := by unfold gk_; rw [h]; rfl
theorem as0_skip {mi : mi_} {v : tv_} {t s : Nat} (h : kd_ v s = 5) : as0_ mi v t s = as0_ mi v t (s + 1) := by
  funext a j
  unfold as0_
  have e : p1_ v (s + 1) = p1_ v s := by
    show p1_ v s + (if gk_ v s = true then v (10 + 6 * s) else nI 0) = p1_ v s
    rw [gk_5 h, if_neg (by decide), sa_0]
  rw [e]
  by_cases h1 : a = t ∧ j = 11
  · rw [if_pos h1, if_pos h1]
  · rw [if_neg h1, if_neg h1]
    by_cases h2 : a = t + 6 ∧ j < s ∧ kd_ v j ≠ 5
    · rw [if_pos h2, if_pos ⟨h2.1, by omega, h2.2.2⟩]
    · rw [if_neg h2, if_neg]
      rintro ⟨g1, g2, g3⟩
      by_cases hj : j = s
      · subst hj; exact g3 h
      · exact h2 ⟨g1, by omega, g3⟩
theorem as1_skip {mi : mi_} {v : tv_} {t s : Nat} (h : kd_ v s ≠ 5) : as1_ mi v t s = as1_ mi v t (s + 1) := by
  funext a j
  unfold as1_
  have e : p2_ v (s + 1) = p2_ v s := by
    show (if kd_ v s = 5 then _ else p2_ v s) = p2_ v s
    rw [if_neg h]
  rw [e]
  by_cases h1 : a = t ∧ j = 11
  · rw [if_pos h1, if_pos h1]
  · rw [if_neg h1, if_neg h1]
    by_cases h2 : a = t + 6 ∧ j < s ∧ kd_ v j = 5
    · rw [if_pos h2, if_pos ⟨h2.1, by omega, h2.2.2⟩]
    · rw [if_neg h2, if_neg]
      rintro ⟨g1, g2, g3⟩
      by_cases hj : j = s
      · subst hj; exact h g3
      · exact h2 ⟨g1, by omega, g3⟩
theorem as0_step {mi : mi_} {v : tv_} {t s : Nat} (h : kd_ v s ≠ 5) : um_ (um_ (as0_ mi v t s) (t + 6) s (bo_ (gk_ v s))) t 11 (p1_ v s + (if gk_ v s = true then v (10 + 6 * s) else nI 0)) = as0_ mi v t (s + 1) := by
  funext a j
  by_cases h1 : a = t ∧ j = 11
  · obtain ⟨rfl, rfl⟩ := h1
    rw [um_s, as0_11]
    rfl
  · by_cases h2 : a = t + 6 ∧ j = s
    · obtain ⟨rfl, rfl⟩ := h2
      rw [um_a (by omega), um_s]
      unfold as0_
      rw [if_neg (by omega), if_pos ⟨rfl, by omega, h⟩]
    · unfold um_ as0_
      rw [if_neg h1, if_neg h2, if_neg h1, if_neg h1]
      by_cases h3 : a = t + 6 ∧ j < s ∧ kd_ v j ≠ 5
      · rw [if_pos h3, if_pos ⟨h3.1, by omega, h3.2.2⟩]
      · rw [if_neg h3, if_neg]
        rintro ⟨g1, g2, g3⟩
        exact h3 ⟨g1, by omega, g3⟩
theorem as1_step {mi : mi_} {v : tv_} {t s : Nat} (h : kd_ v s = 5) : um_ (um_ (as1_ mi v t s) (t + 6) s (bo_ (decide (p2_ v s + v (10 + 6 * s) ≤ v 2)))) t 11 (p2_ v s + (if p2_ v s + v (10 + 6 * s) ≤ v 2 then v (10 + 6 * s) else nI 0)) = as1_ mi v t (s + 1) := by
  funext a j
  by_cases h1 : a = t ∧ j = 11
  · obtain ⟨rfl, rfl⟩ := h1
    rw [um_s, as1_11]
    show _ = if kd_ v s = 5 then _ else _
    rw [if_pos h]
  · by_cases h2 : a = t + 6 ∧ j = s
    · obtain ⟨rfl, rfl⟩ := h2
      rw [um_a (by omega), um_s]
      unfold as1_
      rw [if_neg (by omega), if_pos ⟨rfl, by omega, h⟩]
    · unfold um_ as1_
      rw [if_neg h1, if_neg h2, if_neg h1, if_neg h1]
      by_cases h3 : a = t + 6 ∧ j < s ∧ kd_ v j = 5
      · rw [if_pos h3, if_pos ⟨h3.1, by omega, h3.2.2⟩]
      · rw [if_neg h3, if_neg]
        rintro ⟨g1, g2, g3⟩
        exact h3 ⟨g1, by omega, g3⟩
theorem as_all {mi : mi_} {v : tv_} {t : Nat} : as1_ (as0_ mi v t (sN v)) v t (sN v) = aa_ mi v t := by
  funext a j
  unfold as1_ aa_
  by_cases h1 : a = t ∧ j = 11
  · rw [if_pos h1, if_pos h1]; rfl
  · rw [if_neg h1, if_neg h1]
    by_cases h2 : a = t + 6 ∧ j < sN v
    · rw [if_pos h2]
      unfold gf_
      by_cases h3 : kd_ v j = 5
      · rw [if_pos ⟨h2.1, h2.2, h3⟩, if_pos h3]
      · rw [if_neg (fun z => h3 z.2.2), if_neg h3]
        unfold as0_
        rw [if_neg h1, if_pos ⟨h2.1, h2.2, h3⟩]
    · rw [if_neg h2, if_neg (fun z => h2 ⟨z.1, z.2.1⟩)]
      unfold as0_
      rw [if_neg h1, if_neg (fun z => h2 ⟨z.1, z.2.1⟩)]
section ASK
variable {l : Launch} {D : dd_} {b : Nat} {ty : ty_} {mi : mi_} {mr : mr_} {n x t q : Nat} {v : tv_} {s : Nat}
theorem go_isLast {nm : String} {Q : Outcome → so_ → Prop} {ls : List (Option Value)} {k : Nat} (h6 : k < 6) (hT : ty (x + 9 + k) = some (.inl (9 + k))) (K : G_ l D b (RX15, nm, 3, none, rm_ 5 0 0, []) Q cX15_ask 22 ls [.int (bo_ (decide (k = 5)))] (ty, mi, mr, n) 0 0) : G_ l D b (RX15, nm, 3, none, rm_ 5 0 0, []) Q cX15_ask 19 ls [.ref (x + 9 + k)] (ty, mi, mr, n) 0 0 := by
  match k, h6, hT, K with
  | 0, _, hT, K =>
    refine go_callV vX15_82_9 (ct_isLast0) dX15_ask_19 (by assumption) rfl rfl rfl rfl rfl (Nat.le_of_ble_eq_true rfl) (Nat.le_of_ble_eq_true rfl) (Nat.le_of_ble_eq_true rfl) (Nat.le_of_ble_eq_true rfl) (Nat.le_of_ble_eq_true rfl) (kr_i ?_) kt_i
    exact K
  | 1, _, hT, K =>
    refine go_callV vX15_82_10 (ct_isLast0) dX15_ask_19 (by assumption) rfl rfl rfl rfl rfl (Nat.le_of_ble_eq_true rfl) (Nat.le_of_ble_eq_true rfl) (Nat.le_of_ble_eq_true rfl) (Nat.le_of_ble_eq_true rfl) (Nat.le_of_ble_eq_true rfl) (kr_i ?_) kt_i
    exact K
  | 2, _, hT, K =>
    refine go_callV vX15_82_11 (ct_isLast0) dX15_ask_19 (by assumption) rfl rfl rfl rfl rfl (Nat.le_of_ble_eq_true rfl) (Nat.le_of_ble_eq_true rfl) (Nat.le_of_ble_eq_true rfl) (Nat.le_of_ble_eq_true rfl) (Nat.le_of_ble_eq_true rfl) (kr_i ?_) kt_i
    exact K
  | 3, _, hT, K =>
    refine go_callV vX15_82_12 (ct_isLast0) dX15_ask_19 (by assumption) rfl rfl rfl rfl rfl (Nat.le_of_ble_eq_true rfl) (Nat.le_of_ble_eq_true rfl) (Nat.le_of_ble_eq_true rfl) (Nat.le_of_ble_eq_true rfl) (Nat.le_of_ble_eq_true rfl) (kr_i ?_) kt_i
    exact K
  | 4, _, hT, K =>
    refine go_callV vX15_82_13 (ct_isLast0) dX15_ask_19 (by assumption) rfl rfl rfl rfl rfl (Nat.le_of_ble_eq_true rfl) (Nat.le_of_ble_eq_true rfl) (Nat.le_of_ble_eq_true rfl) (Nat.le_of_ble_eq_true rfl) (Nat.le_of_ble_eq_true rfl) (kr_i ?_) kt_i
    exact K
  | 5, _, hT, K =>
    refine go_callU uX15_82_14 (ct_isLast5) dX15_ask_19 (by assumption) rfl rfl rfl rfl rfl (Nat.le_of_ble_eq_true rfl) (Nat.le_of_ble_eq_true rfl) (Nat.le_of_ble_eq_true rfl) (Nat.le_of_ble_eq_true rfl) (Nat.le_of_ble_eq_true rfl) (kr_i ?_) kt_i
    exact K
  | k + 6, h, _, _ => exact absurd h (by omega)
theorem go_goes {nm : String} {Q : Outcome → so_ → Prop} {ls : List (Option Value)} {y0 : Int32} {y1 : Nat} (hk : ks_ ty x) (hs : ts_ ty mr t) (hr : tr_ ty mi mr x t v) (hv : wf_ v) (hsn : s < sN v) (hq : sq_ ty mi mr x q v s) (K : G_ l D b (RX15, nm, 3, none, rm_ 5 0 0, []) Q cX15_ask 50 ls [.int (bo_ (gx_ v s (mi t 11))), .int y0, .ref y1] (ty, mi, mr, n) 0 0) : G_ l D b (RX15, nm, 3, none, rm_ 5 0 0, []) Q cX15_ask 47 ls [.ref q, .ref t, .ref (x + 9 + kd_ v s), .int y0, .ref y1] (ty, mi, mr, n) 0 0 := by
  have h6 := (hv.2.2.2.2.2.2.2.1 s hsn).2.2.1
  have hT := (hk _ h6).2
  have eg : ∀ k, kd_ v s = k → gx_ v s (mi t 11) = (if k = 5 then decide (mi t 11 + v (10 + 6 * s) ≤ v 2) else match k with | 0 => true | 2 => ro_ v (fg_ v s) | 3 => ro_ v (hat_ v (fg_ v s)) | 4 => decide (v 3 - v 3 / (nI (fg_ v s) + nI 1) * (nI (fg_ v s) + nI 1) = nI 0) | _ => false) := by
    intro k h
    unfold gx_ gk_
    rw [h]
    rfl
  rw [eg _ rfl] at K
  generalize hkk : kd_ v s = k at h6 hT K ⊢
  match k, h6, hT, K, hkk with
  | 0, _, hT, K, _ =>
    refine go_callU uX15_88_9 (ct_goes0) dX15_ask_47 (by assumption) rfl rfl rfl rfl rfl (Nat.le_of_ble_eq_true rfl) (Nat.le_of_ble_eq_true rfl) (Nat.le_of_ble_eq_true rfl) (Nat.le_of_ble_eq_true rfl) (Nat.le_of_ble_eq_true rfl) (kr_i ?_) kt_i
    exact K
  | 1, _, hT, K, _ =>
    refine go_callU uX15_88_10 (ct_goes1) dX15_ask_47 (by assumption) rfl rfl rfl rfl rfl (Nat.le_of_ble_eq_true rfl) (Nat.le_of_ble_eq_true rfl) (Nat.le_of_ble_eq_true rfl) (Nat.le_of_ble_eq_true rfl) (Nat.le_of_ble_eq_true rfl) (kr_i ?_) kt_i
    exact K
  | 2, _, hT, K, hkk =>
    refine go_callU uX15_88_11 (ct_goes2 hT hk hs hr hv hsn hq hkk) dX15_ask_47 (by assumption) rfl rfl rfl rfl rfl (Nat.le_of_ble_eq_true rfl) (Nat.le_of_ble_eq_true rfl) (Nat.le_of_ble_eq_true rfl) (Nat.le_of_ble_eq_true rfl) (Nat.le_of_ble_eq_true rfl) (kr_i ?_) kt_i
    exact K
  | 3, _, hT, K, hkk =>
    refine go_callU uX15_88_12 (ct_goes3 hT hk hs hr hv hsn hq hkk) dX15_ask_47 (by assumption) rfl rfl rfl rfl rfl (Nat.le_of_ble_eq_true rfl) (Nat.le_of_ble_eq_true rfl) (Nat.le_of_ble_eq_true rfl) (Nat.le_of_ble_eq_true rfl) (Nat.le_of_ble_eq_true rfl) (kr_i ?_) kt_i
    exact K
  | 4, _, hT, K, _ =>
    refine go_callU uX15_88_13 (ct_goes4 hs hr hv hsn hq) dX15_ask_47 (by assumption) rfl rfl rfl rfl rfl (Nat.le_of_ble_eq_true rfl) (Nat.le_of_ble_eq_true rfl) (Nat.le_of_ble_eq_true rfl) (Nat.le_of_ble_eq_true rfl) (Nat.le_of_ble_eq_true rfl) (kr_i ?_) kt_i
    exact K
  | 5, _, hT, K, _ =>
    refine go_callU uX15_88_14 (ct_goes5 hs hr hq) dX15_ask_47 (by assumption) rfl rfl rfl rfl rfl (Nat.le_of_ble_eq_true rfl) (Nat.le_of_ble_eq_true rfl) (Nat.le_of_ble_eq_true rfl) (Nat.le_of_ble_eq_true rfl) (Nat.le_of_ble_eq_true rfl) (kr_i ?_) kt_i
    exact K
  | k + 6, h, _, _, _ => exact absurd h (by omega)
theorem ct_ask0 (hk : ks_ ty x) (hs : ts_ ty mr t) (hr : tr_ ty mi mr x t v) (hv : wf_ v) (hx : t + 8 ≤ x + 62) (h11 : mi t 11 = nI 0) : CT_ l D b yX15_ask hX15_ask (rm_ 5 0 0) [.ref t, .int (nI 0)] (ty, mi, mr, n) (qv_ (ty, as0_ mi v t (sN v), mr, n)) := by
  have hs0 := hs
  obtain ⟨a1, a2, a3, a4, a5, a6, a7, a8, a9, a10, a11, a12, a13, a14, a15⟩ := hs
  have trs : ∀ s, tr_ ty (as0_ mi v t s) mr x t v := fun s => tr_of hr hx (fun j h => as0_t h) (fun a j h1 h2 _ => as0_a h1 h2)
  have hn : ∀ s, as0_ mi v t s t 1 = nI (sN v) := fun s => (trs s).2.1.trans hv.1
  have hn4 := hv.2.1
  refine ct_of [some (.ref t), some (.int (nI 0)), none] (by decide) rfl rfl ?_
  refine go_iconst (v := nI 0) dX15_ask_0 (by decide) ?_
  refine go_istore_n (ls2 := [_, _, _]) dX15_ask_1 rfl rfl ?_
  have e0 : mi = as0_ mi v t 0 := by
    funext a j
    unfold as0_
    by_cases h1 : a = t ∧ j = 11
    · rw [if_pos h1, h1.1, h1.2, h11]; rfl
    · rw [if_neg h1, if_neg (by omega)]
  refine go_mi e0 ?_
  refine go_for (sN v) (fun s => [some (.ref t), some (.int (nI 0)), some (.int (nI s))]) (fun s => (ty, as0_ mi v t s, mr, n)) 0 (by omega) (fun s _ hs1 ih => ?_) ?_
  · obtain ⟨q, hq, hsq⟩ := (trs s).2.2.2.2.2.2.1 s hs1
    have hsq0 := hsq
    obtain ⟨c1, c2, c3, c4, c5, c6, c7, c8⟩ := hsq
    have h6 := (hv.2.2.2.2.2.2.2.1 s hs1).2.2.1
    refine go_iload_n dX15_ask_2 rfl ?_
    refine go_aload_n dX15_ask_3 rfl ?_
    refine go_getI fX15_44_15 dX15_ask_4 (by assumption) rfl ?_
    refine go_icmp_ge (tgt := 88) dX15_ask_7 (by decide) (fun h => ?_) (fun h => ?_)
    · rw [hn] at h
      exact absurd h (nI_ge (by omega) (by omega))
    · refine go_aload_n dX15_ask_10 rfl ?_
      refine go_getR fX15_17_15 dX15_ask_11 (by assumption) rfl (by assumption) ?_
      refine go_iload_n dX15_ask_14 rfl ?_
      refine go_aald dX15_ask_15 (by assumption) ⟨rfl, by omega, by decide⟩ (by assumption) ?_
      refine go_getR fX15_78_25 dX15_ask_16 (by assumption) rfl (by assumption) ?_
      refine go_isLast h6 (hk _ h6).2 ?_
      refine go_iload_n dX15_ask_22 rfl ?_
      refine go_icmp_ne (tgt := 82) dX15_ask_23 (by decide) (fun h2 => ?_) (fun h2 => ?_)
      · have h5 : kd_ v s = 5 := by
          by_cases z : kd_ v s = 5
          · exact z
          · exact absurd (by rw [decide_eq_false z]; rfl) h2
        refine go_iinc (ls2 := [_, _, _]) dX15_ask_82 rfl (nI_inc _) rfl rfl ?_
        refine go_goto (tgt := 2) dX15_ask_85 (by decide) ?_
        rw [as0_skip h5]
        exact ih
      · have h5 : kd_ v s ≠ 5 := by
          intro z
          rw [decide_eq_true z] at h2
          exact absurd h2 (by decide)
        refine go_aload_n dX15_ask_26 rfl ?_
        refine go_getR fX15_37_15 dX15_ask_27 (by assumption) rfl (by assumption) ?_
        refine go_iload_n dX15_ask_30 rfl ?_
        refine go_aload_n dX15_ask_31 rfl ?_
        refine go_getR fX15_17_15 dX15_ask_32 (by assumption) rfl (by assumption) ?_
        refine go_iload_n dX15_ask_35 rfl ?_
        refine go_aald dX15_ask_36 (by assumption) ⟨rfl, by omega, by decide⟩ (by assumption) ?_
        refine go_getR fX15_78_25 dX15_ask_37 (by assumption) rfl (by assumption) ?_
        refine go_aload_n dX15_ask_40 rfl ?_
        refine go_aload_n dX15_ask_41 rfl ?_
        refine go_getR fX15_17_15 dX15_ask_42 (by assumption) rfl (by assumption) ?_
        refine go_iload_n dX15_ask_45 rfl ?_
        refine go_aald dX15_ask_46 (by assumption) ⟨rfl, by omega, by decide⟩ (by assumption) ?_
        refine go_goes hk hs0 (trs s) hv hs1 hsq0 ?_
        have eg : gx_ v s (as0_ mi v t s t 11) = gk_ v s := by unfold gx_; rw [if_neg h5]
        rw [eg]
        refine go_zast dX15_ask_50 (by assumption) ⟨rfl, by omega, by decide⟩ ?_
        rw [bo_nar]
        refine go_aload_n dX15_ask_51 rfl ?_
        refine go_dup dX15_ask_52 rfl ?_
        refine go_getI fX15_92_15 dX15_ask_53 (by assumption) rfl ?_
        have r1 : um_ (as0_ mi v t s) (t + 6) s (bo_ (gk_ v s)) t 11 = p1_ v s := by rw [um_a (by omega), as0_11]
        rw [r1]
        refine go_aload_n dX15_ask_56 rfl ?_
        refine go_getR fX15_37_15 dX15_ask_57 (by assumption) rfl (by assumption) ?_
        refine go_iload_n dX15_ask_60 rfl ?_
        refine go_zald dX15_ask_61 (by assumption) ⟨rfl, by omega, by decide⟩ ?_
        rw [um_s]
        have st := as0_step (mi := mi) (t := t) h5
        refine go_if_eq (tgt := 77) dX15_ask_62 (by decide) (fun h3 => ?_) (fun h3 => ?_)
        · have hf := bo_0.mp h3
          rw [if_neg (by rw [hf]; decide)] at st
          refine go_iconst (v := nI 0) dX15_ask_77 (by decide) ?_
          refine go_iadd dX15_ask_78 ?_
          refine go_putI fX15_92_15 p15_11 rfl rfl rfl dX15_ask_79 (by assumption) ?_
          refine go_iinc (ls2 := [_, _, _]) dX15_ask_82 rfl (nI_inc _) rfl rfl ?_
          refine go_goto (tgt := 2) dX15_ask_85 (by decide) ?_
          rw [st]
          exact ih
        · have hf : gk_ v s = true := by
            cases hg : gk_ v s with
            | true => rfl
            | false => exact absurd (bo_0.mpr hg) h3
          rw [if_pos hf] at st
          refine go_aload_n dX15_ask_65 rfl ?_
          refine go_getR fX15_17_15 dX15_ask_66 (by assumption) rfl (by assumption) ?_
          refine go_iload_n dX15_ask_69 rfl ?_
          refine go_aald dX15_ask_70 (by assumption) ⟨rfl, by omega, by decide⟩ (by assumption) ?_
          refine go_getI fX15_65_25 dX15_ask_71 (by assumption) rfl ?_
          have r3 : um_ (as0_ mi v t s) (t + 6) s (bo_ (gk_ v s)) q 1 = v (10 + 6 * s) := by rw [um_a (by omega)]; exact c3
          rw [r3]
          refine go_goto (tgt := 78) dX15_ask_74 (by decide) ?_
          refine go_iadd dX15_ask_78 ?_
          refine go_putI fX15_92_15 p15_11 rfl rfl rfl dX15_ask_79 (by assumption) ?_
          refine go_iinc (ls2 := [_, _, _]) dX15_ask_82 rfl (nI_inc _) rfl rfl ?_
          refine go_goto (tgt := 2) dX15_ask_85 (by decide) ?_
          rw [st]
          exact ih
  · refine go_iload_n dX15_ask_2 rfl ?_
    refine go_aload_n dX15_ask_3 rfl ?_
    refine go_getI fX15_44_15 dX15_ask_4 (by assumption) rfl ?_
    refine go_icmp_ge (tgt := 88) dX15_ask_7 (by decide) (fun h => ?_) (fun h => ?_)
    · refine go_vret rfl dX15_ask_88 (Nat.le_of_ble_eq_true rfl) (Nat.le_of_ble_eq_true rfl) ?_
      exact ⟨rfl, rfl⟩
    · rw [hn] at h
      exact absurd (nI_le (by omega) (by omega)) h
theorem ct_ask1 (hk : ks_ ty x) (hs : ts_ ty mr t) (hr : tr_ ty mi mr x t v) (hv : wf_ v) (hx : t + 8 ≤ x + 62) (h11 : mi t 11 = p1_ v (sN v)) : CT_ l D b yX15_ask hX15_ask (rm_ 5 0 0) [.ref t, .int (nI 1)] (ty, mi, mr, n) (qv_ (ty, as1_ mi v t (sN v), mr, n)) := by
  have hs0 := hs
  obtain ⟨a1, a2, a3, a4, a5, a6, a7, a8, a9, a10, a11, a12, a13, a14, a15⟩ := hs
  have trs : ∀ s, tr_ ty (as1_ mi v t s) mr x t v := fun s => tr_of hr hx (fun j h => as1_t h) (fun a j h1 h2 _ => as1_a h1 h2)
  have hn : ∀ s, as1_ mi v t s t 1 = nI (sN v) := fun s => (trs s).2.1.trans hv.1
  have hn4 := hv.2.1
  refine ct_of [some (.ref t), some (.int (nI 1)), none] (by decide) rfl rfl ?_
  refine go_iconst (v := nI 0) dX15_ask_0 (by decide) ?_
  refine go_istore_n (ls2 := [_, _, _]) dX15_ask_1 rfl rfl ?_
  have e0 : mi = as1_ mi v t 0 := by
    funext a j
    unfold as1_
    by_cases h1 : a = t ∧ j = 11
    · rw [if_pos h1, h1.1, h1.2, h11]; rfl
    · rw [if_neg h1, if_neg (by omega)]
  refine go_mi e0 ?_
  refine go_for (sN v) (fun s => [some (.ref t), some (.int (nI 1)), some (.int (nI s))]) (fun s => (ty, as1_ mi v t s, mr, n)) 0 (by omega) (fun s _ hs1 ih => ?_) ?_
  · obtain ⟨q, hq, hsq⟩ := (trs s).2.2.2.2.2.2.1 s hs1
    have hsq0 := hsq
    obtain ⟨c1, c2, c3, c4, c5, c6, c7, c8⟩ := hsq
    have h6 := (hv.2.2.2.2.2.2.2.1 s hs1).2.2.1
    refine go_iload_n dX15_ask_2 rfl ?_
    refine go_aload_n dX15_ask_3 rfl ?_
    refine go_getI fX15_44_15 dX15_ask_4 (by assumption) rfl ?_
    refine go_icmp_ge (tgt := 88) dX15_ask_7 (by decide) (fun h => ?_) (fun h => ?_)
    · rw [hn] at h
      exact absurd h (nI_ge (by omega) (by omega))
    · refine go_aload_n dX15_ask_10 rfl ?_
      refine go_getR fX15_17_15 dX15_ask_11 (by assumption) rfl (by assumption) ?_
      refine go_iload_n dX15_ask_14 rfl ?_
      refine go_aald dX15_ask_15 (by assumption) ⟨rfl, by omega, by decide⟩ (by assumption) ?_
      refine go_getR fX15_78_25 dX15_ask_16 (by assumption) rfl (by assumption) ?_
      refine go_isLast h6 (hk _ h6).2 ?_
      refine go_iload_n dX15_ask_22 rfl ?_
      refine go_icmp_ne (tgt := 82) dX15_ask_23 (by decide) (fun h2 => ?_) (fun h2 => ?_)
      · have h5 : kd_ v s ≠ 5 := by
          intro z
          exact absurd (by rw [decide_eq_true z]; rfl) h2
        refine go_iinc (ls2 := [_, _, _]) dX15_ask_82 rfl (nI_inc _) rfl rfl ?_
        refine go_goto (tgt := 2) dX15_ask_85 (by decide) ?_
        rw [as1_skip h5]
        exact ih
      · have h5 : kd_ v s = 5 := by
          by_cases z : kd_ v s = 5
          · exact z
          · rw [decide_eq_false z] at h2
            exact absurd h2 (by decide)
        refine go_aload_n dX15_ask_26 rfl ?_
        refine go_getR fX15_37_15 dX15_ask_27 (by assumption) rfl (by assumption) ?_
        refine go_iload_n dX15_ask_30 rfl ?_
        refine go_aload_n dX15_ask_31 rfl ?_
        refine go_getR fX15_17_15 dX15_ask_32 (by assumption) rfl (by assumption) ?_
        refine go_iload_n dX15_ask_35 rfl ?_
        refine go_aald dX15_ask_36 (by assumption) ⟨rfl, by omega, by decide⟩ (by assumption) ?_
        refine go_getR fX15_78_25 dX15_ask_37 (by assumption) rfl (by assumption) ?_
        refine go_aload_n dX15_ask_40 rfl ?_
        refine go_aload_n dX15_ask_41 rfl ?_
        refine go_getR fX15_17_15 dX15_ask_42 (by assumption) rfl (by assumption) ?_
        refine go_iload_n dX15_ask_45 rfl ?_
        refine go_aald dX15_ask_46 (by assumption) ⟨rfl, by omega, by decide⟩ (by assumption) ?_
        refine go_goes hk hs0 (trs s) hv hs1 hsq0 ?_
        have eg : gx_ v s (as1_ mi v t s t 11) = decide (p2_ v s + v (10 + 6 * s) ≤ v 2) := by unfold gx_; rw [if_pos h5, as1_11]
        rw [eg]
        refine go_zast dX15_ask_50 (by assumption) ⟨rfl, by omega, by decide⟩ ?_
        rw [bo_nar]
        refine go_aload_n dX15_ask_51 rfl ?_
        refine go_dup dX15_ask_52 rfl ?_
        refine go_getI fX15_92_15 dX15_ask_53 (by assumption) rfl ?_
        have r1 : um_ (as1_ mi v t s) (t + 6) s (bo_ (decide (p2_ v s + v (10 + 6 * s) ≤ v 2))) t 11 = p2_ v s := by rw [um_a (by omega), as1_11]
        rw [r1]
        refine go_aload_n dX15_ask_56 rfl ?_
        refine go_getR fX15_37_15 dX15_ask_57 (by assumption) rfl (by assumption) ?_
        refine go_iload_n dX15_ask_60 rfl ?_
        refine go_zald dX15_ask_61 (by assumption) ⟨rfl, by omega, by decide⟩ ?_
        rw [um_s]
        have st := as1_step (mi := mi) (t := t) h5
        refine go_if_eq (tgt := 77) dX15_ask_62 (by decide) (fun h3 => ?_) (fun h3 => ?_)
        · have hf := bo_0.mp h3
          rw [if_neg (of_decide_eq_false hf)] at st
          refine go_iconst (v := nI 0) dX15_ask_77 (by decide) ?_
          refine go_iadd dX15_ask_78 ?_
          refine go_putI fX15_92_15 p15_11 rfl rfl rfl dX15_ask_79 (by assumption) ?_
          refine go_iinc (ls2 := [_, _, _]) dX15_ask_82 rfl (nI_inc _) rfl rfl ?_
          refine go_goto (tgt := 2) dX15_ask_85 (by decide) ?_
          rw [st]
          exact ih
        · have hf : decide (p2_ v s + v (10 + 6 * s) ≤ v 2) = true := by
            cases hg : decide (p2_ v s + v (10 + 6 * s) ≤ v 2) with
            | true => rfl
            | false => exact absurd (bo_0.mpr hg) h3
          rw [if_pos (of_decide_eq_true hf)] at st
          refine go_aload_n dX15_ask_65 rfl ?_
          refine go_getR fX15_17_15 dX15_ask_66 (by assumption) rfl (by assumption) ?_
          refine go_iload_n dX15_ask_69 rfl ?_
          refine go_aald dX15_ask_70 (by assumption) ⟨rfl, by omega, by decide⟩ (by assumption) ?_
          refine go_getI fX15_65_25 dX15_ask_71 (by assumption) rfl ?_
          have r3 : um_ (as1_ mi v t s) (t + 6) s (bo_ (decide (p2_ v s + v (10 + 6 * s) ≤ v 2))) q 1 = v (10 + 6 * s) := by rw [um_a (by omega)]; exact c3
          rw [r3]
          refine go_goto (tgt := 78) dX15_ask_74 (by decide) ?_
          refine go_iadd dX15_ask_78 ?_
          refine go_putI fX15_92_15 p15_11 rfl rfl rfl dX15_ask_79 (by assumption) ?_
          refine go_iinc (ls2 := [_, _, _]) dX15_ask_82 rfl (nI_inc _) rfl rfl ?_
          refine go_goto (tgt := 2) dX15_ask_85 (by decide) ?_
          rw [st]
          exact ih
  · refine go_iload_n dX15_ask_2 rfl ?_
    refine go_aload_n dX15_ask_3 rfl ?_
    refine go_getI fX15_44_15 dX15_ask_4 (by assumption) rfl ?_
    refine go_icmp_ge (tgt := 88) dX15_ask_7 (by decide) (fun h => ?_) (fun h => ?_)
    · refine go_vret rfl dX15_ask_88 (Nat.le_of_ble_eq_true rfl) (Nat.le_of_ble_eq_true rfl) ?_
      exact ⟨rfl, rfl⟩
    · rw [hn] at h
      exact absurd (nI_le (by omega) (by omega)) h
theorem ct_askAll (hk : ks_ ty x) (hs : ts_ ty mr t) (hr : tr_ ty mi mr x t v) (hv : wf_ v) (hx : t + 8 ≤ x + 62) : CT_ l D b yX15_askAll hX15_askAll (rm_ 6 0 0) [.ref t] (ty, mi, mr, n) (qi_ (pr_ v) (ty, aa_ mi v t, mr, n)) := by
  have a1 := hs.1
  have hr1 : tr_ ty (um_ mi t 11 (nI 0)) mr x t v := tr_of hr hx (fun j h => um_k h) (fun a j h1 _ _ => um_a h1)
  have hr2 : tr_ ty (as0_ (um_ mi t 11 (nI 0)) v t (sN v)) mr x t v := tr_of hr1 hx (fun j h => as0_t h) (fun a j h1 h2 _ => as0_a h1 h2)
  refine ct_of [some (.ref t)] (by decide) rfl rfl ?_
  refine go_aload_n dX15_askAll_0 rfl ?_
  refine go_iconst (v := nI 0) dX15_askAll_1 (by decide) ?_
  refine go_putI fX15_92_15 p15_11 rfl rfl rfl dX15_askAll_2 (by assumption) ?_
  refine go_aload_n dX15_askAll_5 rfl ?_
  refine go_iconst (v := nI 0) dX15_askAll_6 (by decide) ?_
  refine go_callV vX15_95_15 (ct_ask0 hk hs hr1 hv hx um_s) dX15_askAll_7 (by assumption) rfl rfl rfl rfl rfl (Nat.le_of_ble_eq_true rfl) (Nat.le_of_ble_eq_true rfl) (Nat.le_of_ble_eq_true rfl) (Nat.le_of_ble_eq_true rfl) (Nat.le_of_ble_eq_true rfl) (kr_v ?_) kt_v
  refine go_aload_n dX15_askAll_10 rfl ?_
  refine go_iconst (v := nI 1) dX15_askAll_11 (by decide) ?_
  refine go_callV vX15_95_15 (ct_ask1 hk hs hr2 hv hx as0_11) dX15_askAll_12 (by assumption) rfl rfl rfl rfl rfl (Nat.le_of_ble_eq_true rfl) (Nat.le_of_ble_eq_true rfl) (Nat.le_of_ble_eq_true rfl) (Nat.le_of_ble_eq_true rfl) (Nat.le_of_ble_eq_true rfl) (kr_v ?_) kt_v
  rw [as_all]
  have e : aa_ (um_ mi t 11 (nI 0)) v t = aa_ mi v t := by
    funext a j
    unfold aa_
    by_cases h1 : a = t ∧ j = 11
    · rw [if_pos h1, if_pos h1]
    · rw [if_neg h1, if_neg h1]
      unfold um_
      rw [if_neg h1]
  rw [e]
  refine go_aload_n dX15_askAll_15 rfl ?_
  refine go_getI fX15_92_15 dX15_askAll_16 (by assumption) rfl ?_
  have e2 : aa_ mi v t t 11 = pr_ v := by
    unfold aa_
    rw [if_pos ⟨rfl, rfl⟩]
  rw [e2]
  refine go_iret rfl dX15_askAll_19 (Nat.le_of_ble_eq_true rfl) (Nat.le_of_ble_eq_true rfl) ?_
  exact ⟨rfl, rfl⟩
end ASK
