/-! GOERS, and a week remembered -/
def bo_ (p : Bool) : Int32 := if p = true then nI 1 else nI 0
theorem bo_nar (p : Bool) : vp_nar .boolean (bo_ p) = bo_ p := by cases p <;> decide
theorem bo_nw (p : Bool) : narrow .boolean (.int (bo_ p)) = .int (bo_ p) := by cases p <;> rfl
theorem bo_le {x y : Int32} : (if y < x then nI 0 else nI 1) = bo_ (decide (x ≤ y)) := by
  unfold bo_
  by_cases h : y < x
  · rw [if_pos h, if_neg (by simpa using h)]
  · rw [if_neg h, if_pos (by simpa using h)]
theorem bo_0 {p : Bool} : bo_ p = 0 ↔ p = false := by cases p <;> decide
def fm_ (mi mi2 : mi_) (lo hi : Nat) : Prop := ∀ a j, (a < lo ∨ hi ≤ a) → mi2 a j = mi a j
theorem tr_of {ty : ty_} {mi mi2 : mi_} {mr : mr_} {x t : Nat} {v : tv_} (h : tr_ ty mi mr x t v) (hx : t + 8 ≤ x + 62) (h1 : ∀ j, j ≠ 11 → mi2 t j = mi t j) (h2 : ∀ a j, a ≠ t → a ≠ t + 6 → a ≠ t + 7 → mi2 a j = mi a j) : tr_ ty mi2 mr x t v := by
  obtain ⟨b1, b2, b3, b4, b5, b6, bS, bR, bM⟩ := h
  refine ⟨by rw [h1 _ (by decide)]; exact b1, by rw [h1 _ (by decide)]; exact b2, by rw [h1 _ (by decide)]; exact b3, by rw [h1 _ (by decide)]; exact b4, by rw [h1 _ (by decide)]; exact b5, by rw [h1 _ (by decide)]; exact b6, ?_, ?_, ?_⟩
  · intro s hs
    obtain ⟨q, q1, c1, c2, c3, c4, c5, c6, c7, c8⟩ := bS s hs
    have e : ∀ j, mi2 q j = mi q j := fun j => h2 q j (by omega) (by omega) (by omega)
    exact ⟨q, q1, c1, c2, by rw [e]; exact c3, by rw [e]; exact c4, by rw [e]; exact c5, by rw [e]; exact c6, by rw [e]; exact c7, c8⟩
  · intro r hr
    obtain ⟨c1, c2, c3⟩ := bR r hr
    exact ⟨c1, by rw [h2 _ _ (by omega) (by omega) (by omega)]; exact c2, by rw [h2 _ _ (by omega) (by omega) (by omega)]; exact c3⟩
  · intro k hk
    rw [h2 _ _ (by omega) (by omega) (by omega)]
    exact bM k hk
theorem tr_re {ty : ty_} {mi mi2 : mi_} {mr : mr_} {x t : Nat} {v : tv_} {p : Int32} (h : tr_ ty mi mr x t v) (hv : wf_ v) (hx : t + 8 ≤ x + 62) (h1 : ∀ j, j ≠ 7 → mi2 t j = mi t j) (h2 : ∀ a j, a ≠ t → a ≠ t + 5 → mi2 a j = mi a j) (h3 : mi2 t 7 = nI (if wN v < 8 then wN v + 1 else 8)) (h4 : mi2 (t + 5) 0 = p) (h5 : ∀ k, 0 < k → k < 8 → mi2 (t + 5) k = mi (t + 5) (k - 1)) : tr_ ty mi2 mr x t (re_ v p) := by
  obtain ⟨b1, b2, b3, b4, b5, b6, bS, bR, bM⟩ := h
  have hs4 := hv.2.1
  have hr6 := hv.2.2.2.1
  refine ⟨?_, ?_, ?_, ?_, ?_, ?_, ?_, ?_, ?_⟩
  · rw [h1 _ (by decide), re_ne (by decide) (by decide)]; exact b1
  · rw [h1 _ (by decide), re_ne (by decide) (by decide)]; exact b2
  · rw [h1 _ (by decide), re_ne (by decide) (by decide)]; exact b3
  · rw [h3, re_4]
  · rw [h1 _ (by decide), re_ne (by decide) (by decide)]; exact b5
  · rw [h1 _ (by decide), re_ne (by decide) (by decide)]; exact b6
  · rw [re_sN]
    intro s hs
    obtain ⟨q, q1, c1, c2, c3, c4, c5, c6, c7, c8⟩ := bS s hs
    have e : ∀ j, mi2 q j = mi q j := fun j => h2 q j (by omega) (by omega)
    have ev : ∀ j, 10 ≤ j → j < 60 → re_ v p j = v j := fun j g1 g2 => re_ne (by omega) (by omega)
    have ek : kd_ (re_ v p) s = kd_ v s := by unfold kd_; rw [ev _ (by omega) (by omega)]
    exact ⟨q, q1, c1, by rw [ek]; exact c2, by rw [e, ev _ (by omega) (by omega)]; exact c3, by rw [e, ev _ (by omega) (by omega)]; exact c4, by rw [e, ev _ (by omega) (by omega)]; exact c5, by rw [e, ev _ (by omega) (by omega)]; exact c6, by rw [e, ev _ (by omega) (by omega)]; exact c7, c8⟩
  · rw [re_rN]
    intro r hr
    obtain ⟨c1, c2, c3⟩ := bR r hr
    have ev : ∀ j, 10 ≤ j → j < 60 → re_ v p j = v j := fun j g1 g2 => re_ne (by omega) (by omega)
    have ek : rk_ (re_ v p) r = rk_ v r := by unfold rk_; rw [ev _ (by omega) (by omega)]
    exact ⟨by rw [ek]; exact c1, by rw [h2 _ _ (by omega) (by omega), ev _ (by omega) (by omega)]; exact c2, by rw [h2 _ _ (by omega) (by omega), ev _ (by omega) (by omega)]; exact c3⟩
  · intro k hk
    by_cases h0 : k = 0
    · subst h0
      rw [h4, Nat.add_zero, re_60]
    · rw [h5 k (by omega) hk, re_61 (by omega) hk]
      exact bM (k - 1) (by omega)
theorem mn_8 {w : Nat} (h : w ≤ 8) : mn_ (nI 8) (nI w + nI 1) = nI (if w < 8 then w + 1 else 8) := by
  rw [nI_add]
  unfold mn_
  by_cases h8 : w < 8
  · by_cases h7 : w + 1 < 8
    · rw [if_pos (nI_lt h7 (by omega)), if_pos h8]
    · rw [if_neg (nI_nlt (by omega) (by omega)), if_pos h8]
      congr 1
      omega
  · rw [if_neg (nI_nlt (by omega) (by omega)), if_neg h8]
/-- the weeks shifted so far -/
def sh_ (mi : mi_) (t s : Nat) : mi_ := fun a j => if a = t + 5 ∧ 7 - s < j ∧ j ≤ 7 then mi (t + 5) (j - 1) else mi a j
section GOERS
variable {l : Launch} {D : dd_} {b : Nat} {ty : ty_} {mi : mi_} {mr : mr_} {n x t q g : Nat} {v : tv_} {s : Nat}
theorem ct_remember {p : Int32} (hs : ts_ ty mr t) (hr : tr_ ty mi mr x t v) (hv : wf_ v) (hx : t + 8 ≤ x + 62) : CT_ l D b yX15_remember hX15_remember (rm_ 1 0 0) [.ref t, .int p] (ty, mi, mr, n) (qw_ (fun mi2 => tr_ ty mi2 mr x t (re_ v p) ∧ fm_ mi mi2 t (t + 8) ∧ ∀ j, mi2 (t + 6) j = mi (t + 6) j) ty mr n) := by
  have hr0 := hr
  obtain ⟨a1, a2, a3, a4, a5, a6, a7, a8, a9, a10, a11, a12, a13, a14, a15⟩ := hs
  obtain ⟨b1, b2, b3, b4, b5, b6, bS, bR, bM⟩ := hr
  refine ct_of [some (.ref t), some (.int p), none] (by decide) rfl rfl ?_
  refine go_bipush (v := nI 7) dX15_remember_0 (by decide) ?_
  refine go_istore_n (ls2 := [_, _, _]) dX15_remember_2 rfl rfl ?_
  have e0 : mi = sh_ mi t 0 := by
    funext a j
    unfold sh_
    rw [if_neg (by omega)]
  refine go_mi e0 ?_
  refine go_for 7 (fun s => [some (.ref t), some (.int p), some (.int (nI (7 - s)))]) (fun s => (ty, sh_ mi t s, mr, n)) 0 (by omega) (fun s _ hs1 ih => ?_) ?_
  · refine go_iload_n dX15_remember_3 rfl ?_
    refine go_if_le (tgt := 27) dX15_remember_4 (by decide) (fun h => ?_) (fun h => ?_)
    · exact absurd h (nI_nle (by omega) (by omega))
    · refine go_aload_n dX15_remember_7 rfl ?_
      refine go_getR fX15_34_15 dX15_remember_8 (by assumption) rfl (by assumption) ?_
      refine go_iload_n dX15_remember_11 rfl ?_
      refine go_aload_n dX15_remember_12 rfl ?_
      refine go_getR fX15_34_15 dX15_remember_13 (by assumption) rfl (by assumption) ?_
      refine go_iload_n dX15_remember_16 rfl ?_
      refine go_iconst (v := nI 1) dX15_remember_17 (by decide) ?_
      refine go_isub dX15_remember_18 ?_
      refine go_iald dX15_remember_19 (by assumption) ⟨pk_sub (by omega), by omega, by decide⟩ ?_
      refine go_iast dX15_remember_20 (by assumption) ⟨rfl, by omega, by decide⟩ ?_
      refine go_iinc (ls2 := [_, _, _]) dX15_remember_21 rfl (show nI (7 - s) + Int32.ofInt (-1) = nI (7 - (s + 1)) by rw [show 7 - s = (7 - (s + 1)) + 1 by omega]; exact nI_dec _) rfl rfl ?_
      refine go_goto (tgt := 3) dX15_remember_24 (by decide) ?_
      refine go_mi ?_ ih
      funext a j
      unfold um_ sh_
      by_cases h1 : a = t + 5 ∧ j = 7 - s
      · obtain ⟨rfl, rfl⟩ := h1
        rw [if_pos ⟨rfl, rfl⟩, if_neg (by omega), if_pos (by omega)]
      · rw [if_neg h1]
        by_cases h2 : a = t + 5 ∧ 7 - s < j ∧ j ≤ 7
        · rw [if_pos h2, if_pos (by omega)]
        · rw [if_neg h2, if_neg (by omega)]
  · refine go_iload_n dX15_remember_3 rfl ?_
    refine go_if_le (tgt := 27) dX15_remember_4 (by decide) (fun h => ?_) (fun h => ?_)
    · refine go_aload_n dX15_remember_27 rfl ?_
      refine go_getR fX15_34_15 dX15_remember_28 (by assumption) rfl (by assumption) ?_
      refine go_iconst (v := nI 0) dX15_remember_31 (by decide) ?_
      refine go_iload_n dX15_remember_32 rfl ?_
      refine go_iast dX15_remember_33 (by assumption) ⟨rfl, by omega, by decide⟩ ?_
      refine go_aload_n dX15_remember_34 rfl ?_
      refine go_bipush (v := nI 8) dX15_remember_35 (by decide) ?_
      refine go_aload_n dX15_remember_37 rfl ?_
      refine go_getI fX15_50_15 dX15_remember_38 (by assumption) rfl ?_
      refine go_iconst (v := nI 1) dX15_remember_41 (by decide) ?_
      refine go_iadd dX15_remember_42 ?_
      refine go_callS sX15_72 (ct_min) dX15_remember_43 rfl rfl rfl (Nat.le_of_ble_eq_true rfl) (Nat.le_of_ble_eq_true rfl) (Nat.le_of_ble_eq_true rfl) (Nat.le_of_ble_eq_true rfl) (Nat.le_of_ble_eq_true rfl) (kr_i ?_) kt_i
      refine go_putI fX15_50_15 p15_7 rfl rfl rfl dX15_remember_46 (by assumption) ?_
      refine go_vret rfl dX15_remember_49 (Nat.le_of_ble_eq_true rfl) (Nat.le_of_ble_eq_true rfl) ?_
      have hw : mi t 7 = nI (wN v) := b4.trans hv.2.2.2.2.1
      have f1 : ∀ a j, a ≠ t → a ≠ t + 5 → um_ (um_ (sh_ mi t 7) (t + 5) 0 p) t 7 (mn_ (nI 8) (um_ (sh_ mi t 7) (t + 5) 0 p t 7 + nI 1)) a j = mi a j := by
        intro a j h1 h2
        rw [um_a h1, um_a h2]
        unfold sh_
        rw [if_neg (by omega)]
      refine ⟨_, rfl, rfl, tr_re hr0 hv hx ?_ f1 ?_ ?_ ?_, ?_, ?_⟩
      · intro j hj
        rw [um_k hj, um_a (by omega)]
        unfold sh_
        rw [if_neg (by omega)]
      · rw [um_s, um_a (by omega)]
        unfold sh_
        rw [if_neg (by omega), hw]
        exact mn_8 hv.2.2.2.2.2.1
      · rw [um_a (by omega), um_s]
      · intro k h1 h2
        rw [um_a (by omega), um_k (by omega)]
        unfold sh_
        rw [if_pos (by omega)]
      · intro a j h1
        exact f1 a j (by omega) (by omega)
      · intro j
        exact f1 _ j (by omega) (by omega)
    · exact absurd (show nI (7 - 7) ≤ 0 by decide) h
theorem ct_isLast0 : CT_ l D b yX8_isLast hX8_isLast (rm_ 4 0 0) [.ref g] (ty, mi, mr, n) (qi_ (bo_ false) (ty, mi, mr, n)) := by
  refine ct_of [some (.ref g)] (by decide) rfl rfl ?_
  refine go_iconst (v := nI 0) dX8_isLast_0 (by decide) ?_
  refine go_zret rfl rfl dX8_isLast_1 (Nat.le_of_ble_eq_true rfl) (Nat.le_of_ble_eq_true rfl) ?_
  exact ⟨rfl, rfl⟩
theorem ct_isLast5 : CT_ l D b yX14_isLast hX14_isLast (rm_ 4 0 0) [.ref g] (ty, mi, mr, n) (qi_ (bo_ true) (ty, mi, mr, n)) := by
  refine ct_of [some (.ref g)] (by decide) rfl rfl ?_
  refine go_iconst (v := nI 1) dX14_isLast_0 (by decide) ?_
  refine go_zret rfl rfl dX14_isLast_1 (Nat.le_of_ble_eq_true rfl) (Nat.le_of_ble_eq_true rfl) ?_
  exact ⟨rfl, rfl⟩
theorem ct_hasRule0 : CT_ l D b yX8_hasRule hX8_hasRule (rm_ 0 0 0) [.ref g] (ty, mi, mr, n) (qi_ (bo_ false) (ty, mi, mr, n)) := by
  refine ct_of [some (.ref g)] (by decide) rfl rfl ?_
  refine go_iconst (v := nI 0) dX8_hasRule_0 (by decide) ?_
  refine go_zret rfl rfl dX8_hasRule_1 (Nat.le_of_ble_eq_true rfl) (Nat.le_of_ble_eq_true rfl) ?_
  exact ⟨rfl, rfl⟩
theorem ct_hasRule2 : CT_ l D b yX11_hasRule hX11_hasRule (rm_ 0 0 0) [.ref g] (ty, mi, mr, n) (qi_ (bo_ true) (ty, mi, mr, n)) := by
  refine ct_of [some (.ref g)] (by decide) rfl rfl ?_
  refine go_iconst (v := nI 1) dX11_hasRule_0 (by decide) ?_
  refine go_zret rfl rfl dX11_hasRule_1 (Nat.le_of_ble_eq_true rfl) (Nat.le_of_ble_eq_true rfl) ?_
  exact ⟨rfl, rfl⟩
theorem ct_goes0 : CT_ l D b yX9_goes hX9_goes (rm_ 4 0 0) [.ref g, .ref t, .ref q] (ty, mi, mr, n) (qi_ (bo_ true) (ty, mi, mr, n)) := by
  refine ct_of [some (.ref g), some (.ref t), some (.ref q)] (by decide) rfl rfl ?_
  refine go_iconst (v := nI 1) dX9_goes_0 (by decide) ?_
  refine go_zret rfl rfl dX9_goes_1 (Nat.le_of_ble_eq_true rfl) (Nat.le_of_ble_eq_true rfl) ?_
  exact ⟨rfl, rfl⟩
theorem ct_goes1 : CT_ l D b yX10_goes hX10_goes (rm_ 4 0 0) [.ref g, .ref t, .ref q] (ty, mi, mr, n) (qi_ (bo_ false) (ty, mi, mr, n)) := by
  refine ct_of [some (.ref g), some (.ref t), some (.ref q)] (by decide) rfl rfl ?_
  refine go_iconst (v := nI 0) dX10_goes_0 (by decide) ?_
  refine go_zret rfl rfl dX10_goes_1 (Nat.le_of_ble_eq_true rfl) (Nat.le_of_ble_eq_true rfl) ?_
  exact ⟨rfl, rfl⟩
theorem ct_ruleOf2 {d : Nat} {z : Int32} : CT_ l D b yX11_ruleOf hX11_ruleOf (rm_ d 0 0) [.ref g, .ref t, .int z] (ty, mi, mr, n) (qi_ z (ty, mi, mr, n)) := by
  refine ct_of [some (.ref g), some (.ref t), some (.int z)] (by decide) rfl rfl ?_
  refine go_iload_n dX11_ruleOf_0 rfl ?_
  refine go_iret rfl dX11_ruleOf_1 (Nat.le_of_ble_eq_true rfl) (Nat.le_of_ble_eq_true rfl) ?_
  exact ⟨rfl, rfl⟩
theorem ha_lt {f : Nat} : ∀ i, f + 1 + i ≤ rN v → ha_ v f i < rN v := by
  intro i
  induction i with
  | zero => intro h; show f < rN v; omega
  | succ i ih =>
    intro h
    show (if v (40 + 3 * ha_ v f i + 2) < v (40 + 3 * (f + 1 + i) + 2) then f + 1 + i else ha_ v f i) < rN v
    have := ih (by omega)
    split <;> omega
theorem ct_ruleOf3 {f : Nat} (hg : ty g = some (.inl 12)) (hs : ts_ ty mr t) (hr : tr_ ty mi mr x t v) (hv : wf_ v) (hf : f < rN v) : CT_ l D b yX12_ruleOf hX12_ruleOf (rm_ 1 0 0) [.ref g, .ref t, .int (nI f)] (ty, mi, mr, n) (qi_ (nI (hat_ v f)) (ty, mi, mr, n)) := by
  obtain ⟨a1, a2, a3, a4, a5, a6, a7, a8, a9, a10, a11, a12, a13, a14, a15⟩ := hs
  obtain ⟨b1, b2, b3, b4, b5, b6, bS, bR, bM⟩ := hr
  have hn : mi t 3 = nI (rN v) := b3.trans hv.2.2.1
  have hn6 := hv.2.2.2.1
  refine ct_of [some (.ref g), some (.ref t), some (.int (nI f)), none, none] (by decide) rfl rfl ?_
  refine go_aload_n dX12_ruleOf_0 rfl ?_
  refine go_aload_n dX12_ruleOf_1 rfl ?_
  refine go_iload_n dX12_ruleOf_2 rfl ?_
  refine go_callP pX12_7 (ct_ruleOf2 (d := 0)) dX12_ruleOf_3 (by assumption) rfl rfl rfl rfl (Nat.le_of_ble_eq_true rfl) (Nat.le_of_ble_eq_true rfl) (Nat.le_of_ble_eq_true rfl) (Nat.le_of_ble_eq_true rfl) (Nat.le_of_ble_eq_true rfl) (kr_i ?_) kt_i
  refine go_istore_n (ls2 := [_, _, _, _, _]) dX12_ruleOf_6 rfl rfl ?_
  refine go_iload_n dX12_ruleOf_7 rfl ?_
  refine go_iconst (v := nI 1) dX12_ruleOf_8 (by decide) ?_
  refine go_iadd dX12_ruleOf_9 ?_
  refine go_top (nI_add f 1) ?_
  refine go_istore (ls2 := [_, _, _, _, _]) dX12_ruleOf_10 rfl rfl ?_
  refine go_for (rN v - (f + 1)) (fun i => [some (.ref g), some (.ref t), some (.int (nI f)), some (.int (nI (ha_ v f i))), some (.int (nI (f + 1 + i)))]) (fun _ => (ty, mi, mr, n)) 0 (by omega) (fun i _ hi ih => ?_) ?_
  · have hb := ha_lt (v := v) (f := f) i (by omega)
    obtain ⟨-, -, c1⟩ := bR (f + 1 + i) (by omega)
    obtain ⟨-, -, c2⟩ := bR (ha_ v f i) hb
    refine go_iload dX12_ruleOf_12 rfl ?_
    refine go_aload_n dX12_ruleOf_14 rfl ?_
    refine go_getI fX12_11_15 dX12_ruleOf_15 (by assumption) rfl ?_
    refine go_icmp_ge (tgt := 50) dX12_ruleOf_18 (by decide) (fun h => ?_) (fun h => ?_)
    · rw [hn] at h
      exact absurd h (nI_ge (by omega) (by omega))
    · refine go_aload_n dX12_ruleOf_21 rfl ?_
      refine go_getR fX12_17_15 dX12_ruleOf_22 (by assumption) rfl (by assumption) ?_
      refine go_iload dX12_ruleOf_25 rfl ?_
      refine go_iald dX12_ruleOf_27 (by assumption) ⟨rfl, by omega, by decide⟩ ?_
      refine go_aload_n dX12_ruleOf_28 rfl ?_
      refine go_getR fX12_17_15 dX12_ruleOf_29 (by assumption) rfl (by assumption) ?_
      refine go_iload_n dX12_ruleOf_32 rfl ?_
      refine go_iald dX12_ruleOf_33 (by assumption) ⟨rfl, by omega, by decide⟩ ?_
      rw [c1, c2]
      have e : ha_ v f (i + 1) = if v (40 + 3 * ha_ v f i + 2) < v (40 + 3 * (f + 1 + i) + 2) then f + 1 + i else ha_ v f i := rfl
      rw [e] at ih
      refine go_icmp_le (tgt := 42) dX12_ruleOf_34 (by decide) (fun h2 => ?_) (fun h2 => ?_)
      · rw [if_neg (by simpa using h2)] at ih
        refine go_iload_n dX12_ruleOf_42 rfl ?_
        refine go_istore_n (ls2 := [_, _, _, _, _]) dX12_ruleOf_43 rfl rfl ?_
        refine go_iinc (ls2 := [_, _, _, _, _]) dX12_ruleOf_44 rfl (nI_inc _) rfl rfl ?_
        refine go_goto (tgt := 12) dX12_ruleOf_47 (by decide) ?_
        exact ih
      · rw [if_pos (by simpa using h2)] at ih
        refine go_iload dX12_ruleOf_37 rfl ?_
        refine go_goto (tgt := 43) dX12_ruleOf_39 (by decide) ?_
        refine go_istore_n (ls2 := [_, _, _, _, _]) dX12_ruleOf_43 rfl rfl ?_
        refine go_iinc (ls2 := [_, _, _, _, _]) dX12_ruleOf_44 rfl (nI_inc _) rfl rfl ?_
        refine go_goto (tgt := 12) dX12_ruleOf_47 (by decide) ?_
        exact ih
  · refine go_iload dX12_ruleOf_12 rfl ?_
    refine go_aload_n dX12_ruleOf_14 rfl ?_
    refine go_getI fX12_11_15 dX12_ruleOf_15 (by assumption) rfl ?_
    refine go_icmp_ge (tgt := 50) dX12_ruleOf_18 (by decide) (fun h => ?_) (fun h => ?_)
    · refine go_iload_n dX12_ruleOf_50 rfl ?_
      refine go_iret rfl dX12_ruleOf_51 (Nat.le_of_ble_eq_true rfl) (Nat.le_of_ble_eq_true rfl) ?_
      exact ⟨rfl, rfl⟩
    · rw [hn] at h
      exact absurd (nI_le (by omega) (by omega)) h
theorem ct_goes2 (hg : ty g = some (.inl 11)) (hk : ks_ ty x) (hs : ts_ ty mr t) (hr : tr_ ty mi mr x t v) (hv : wf_ v) (hsn : s < sN v) (hq : sq_ ty mi mr x q v s) (hk2 : kd_ v s = 2) : CT_ l D b yX11_goes hX11_goes (rm_ 4 0 0) [.ref g, .ref t, .ref q] (ty, mi, mr, n) (qi_ (bo_ (ro_ v (fg_ v s))) (ty, mi, mr, n)) := by
  obtain ⟨-, s2, s3, s4, s5, s6⟩ := hv.2.2.2.2.2.2.2.1 s hsn
  have hf := s6 (Or.inl hk2)
  obtain ⟨q1, q2, q3, q4, -⟩ := hq
  have e4 : mi q 2 = nI (fg_ v s) := q4.trans s4
  have a1 := hs.1
  refine ct_of [some (.ref g), some (.ref t), some (.ref q)] (by decide) rfl rfl ?_
  refine go_aload_n dX11_goes_0 rfl ?_
  refine go_aload_n dX11_goes_1 rfl ?_
  refine go_aload_n dX11_goes_2 rfl ?_
  refine go_aload_n dX11_goes_3 rfl ?_
  refine go_getI fX11_7_25 dX11_goes_4 (by assumption) rfl ?_
  rw [e4]
  refine go_callV vX11_13_11 (ct_ruleOf2 (d := 0)) dX11_goes_7 (by assumption) rfl rfl rfl rfl rfl (Nat.le_of_ble_eq_true rfl) (Nat.le_of_ble_eq_true rfl) (Nat.le_of_ble_eq_true rfl) (Nat.le_of_ble_eq_true rfl) (Nat.le_of_ble_eq_true rfl) (kr_i ?_) kt_i
  refine go_callV vX11_19_15 (ct_foretold hk hs hr hv hf) dX11_goes_10 (by assumption) rfl rfl rfl rfl rfl (Nat.le_of_ble_eq_true rfl) (Nat.le_of_ble_eq_true rfl) (Nat.le_of_ble_eq_true rfl) (Nat.le_of_ble_eq_true rfl) (Nat.le_of_ble_eq_true rfl) (kr_i ?_) kt_i
  refine go_aload_n dX11_goes_13 rfl ?_
  refine go_getI fX11_25_15 dX11_goes_14 (by assumption) rfl ?_
  refine go_ticmp_gt (m := nI 0) (n := nI 1) (t1 := 24) (t2 := 25) dX11_goes_17 (by decide) dX11_goes_20 (by decide) dX11_goes_21 (by decide) dX11_goes_24 (by decide) rfl ?_
  rw [bo_le, hr.1]
  refine go_zret rfl (bo_nw _) dX11_goes_25 (Nat.le_of_ble_eq_true rfl) (Nat.le_of_ble_eq_true rfl) ?_
  exact ⟨rfl, rfl⟩
theorem ct_goes3 (hg : ty g = some (.inl 12)) (hk : ks_ ty x) (hs : ts_ ty mr t) (hr : tr_ ty mi mr x t v) (hv : wf_ v) (hsn : s < sN v) (hq : sq_ ty mi mr x q v s) (hk2 : kd_ v s = 3) : CT_ l D b yX11_goes hX11_goes (rm_ 4 0 0) [.ref g, .ref t, .ref q] (ty, mi, mr, n) (qi_ (bo_ (ro_ v (hat_ v (fg_ v s)))) (ty, mi, mr, n)) := by
  obtain ⟨-, s2, s3, s4, s5, s6⟩ := hv.2.2.2.2.2.2.2.1 s hsn
  have hf := s6 (Or.inr hk2)
  obtain ⟨q1, q2, q3, q4, -⟩ := hq
  have e4 : mi q 2 = nI (fg_ v s) := q4.trans s4
  have a1 := hs.1
  refine ct_of [some (.ref g), some (.ref t), some (.ref q)] (by decide) rfl rfl ?_
  refine go_aload_n dX11_goes_0 rfl ?_
  refine go_aload_n dX11_goes_1 rfl ?_
  refine go_aload_n dX11_goes_2 rfl ?_
  refine go_aload_n dX11_goes_3 rfl ?_
  refine go_getI fX11_7_25 dX11_goes_4 (by assumption) rfl ?_
  rw [e4]
  refine go_callU uX11_13_12 (ct_ruleOf3 hg hs hr hv hf) dX11_goes_7 (by assumption) rfl rfl rfl rfl rfl (Nat.le_of_ble_eq_true rfl) (Nat.le_of_ble_eq_true rfl) (Nat.le_of_ble_eq_true rfl) (Nat.le_of_ble_eq_true rfl) (Nat.le_of_ble_eq_true rfl) (kr_i ?_) kt_i
  refine go_callV vX11_19_15 (ct_foretold hk hs hr hv (show hat_ v (fg_ v s) < rN v from ha_lt _ (by omega))) dX11_goes_10 (by assumption) rfl rfl rfl rfl rfl (Nat.le_of_ble_eq_true rfl) (Nat.le_of_ble_eq_true rfl) (Nat.le_of_ble_eq_true rfl) (Nat.le_of_ble_eq_true rfl) (Nat.le_of_ble_eq_true rfl) (kr_i ?_) kt_i
  refine go_aload_n dX11_goes_13 rfl ?_
  refine go_getI fX11_25_15 dX11_goes_14 (by assumption) rfl ?_
  refine go_ticmp_gt (m := nI 0) (n := nI 1) (t1 := 24) (t2 := 25) dX11_goes_17 (by decide) dX11_goes_20 (by decide) dX11_goes_21 (by decide) dX11_goes_24 (by decide) rfl ?_
  rw [bo_le, hr.1]
  refine go_zret rfl (bo_nw _) dX11_goes_25 (Nat.le_of_ble_eq_true rfl) (Nat.le_of_ble_eq_true rfl) ?_
  exact ⟨rfl, rfl⟩
theorem ct_goes4 (hs : ts_ ty mr t) (hr : tr_ ty mi mr x t v) (hv : wf_ v) (hsn : s < sN v) (hq : sq_ ty mi mr x q v s) : CT_ l D b yX13_goes hX13_goes (rm_ 4 0 0) [.ref g, .ref t, .ref q] (ty, mi, mr, n) (qi_ (bo_ (decide (v 3 - v 3 / (nI (fg_ v s) + nI 1) * (nI (fg_ v s) + nI 1) = nI 0))) (ty, mi, mr, n)) := by
  obtain ⟨-, s2, s3, s4, s5, s6⟩ := hv.2.2.2.2.2.2.2.1 s hsn
  obtain ⟨q1, q2, q3, q4, -⟩ := hq
  have e4 : mi q 2 = nI (fg_ v s) := q4.trans s4
  obtain ⟨b1, b2, b3, b4, b5, b6, bS, bR, bM⟩ := hr
  have a1 := hs.1
  refine ct_of [some (.ref g), some (.ref t), some (.ref q)] (by decide) rfl rfl ?_
  refine go_aload_n dX13_goes_0 rfl ?_
  refine go_getI fX13_7_15 dX13_goes_1 (by assumption) rfl ?_
  refine go_aload_n dX13_goes_4 rfl ?_
  refine go_getI fX13_13_25 dX13_goes_5 (by assumption) rfl ?_
  refine go_iconst (v := nI 1) dX13_goes_8 (by decide) ?_
  refine go_iadd dX13_goes_9 ?_
  rw [e4, b5]
  refine go_irem dX13_goes_10 (by rw [nI_add]; exact nI_ne0 (by omega) (by omega)) ?_
  refine go_tif_ne (m := nI 0) (n := nI 1) (t1 := 18) (t2 := 19) dX13_goes_11 (by decide) dX13_goes_14 (by decide) dX13_goes_15 (by decide) dX13_goes_18 (by decide) rfl ?_
  refine go_zret rfl (by split <;> rfl) dX13_goes_19 (Nat.le_of_ble_eq_true rfl) (Nat.le_of_ble_eq_true rfl) ?_
  refine ⟨?_, rfl⟩
  unfold bo_
  simp only [nI_0]
  by_cases h : v 3 - v 3 / (nI (fg_ v s) + nI 1) * (nI (fg_ v s) + nI 1) = 0 <;> simp [h]
theorem ct_goes5 (hs : ts_ ty mr t) (hr : tr_ ty mi mr x t v) (hq : sq_ ty mi mr x q v s) : CT_ l D b yX14_goes hX14_goes (rm_ 4 0 0) [.ref g, .ref t, .ref q] (ty, mi, mr, n) (qi_ (bo_ (decide (mi t 11 + v (10 + 6 * s) ≤ v 2))) (ty, mi, mr, n)) := by
  obtain ⟨q1, q2, q3, q4, -⟩ := hq
  have a1 := hs.1
  refine ct_of [some (.ref g), some (.ref t), some (.ref q)] (by decide) rfl rfl ?_
  refine go_aload_n dX14_goes_0 rfl ?_
  refine go_getI fX14_7_15 dX14_goes_1 (by assumption) rfl ?_
  refine go_aload_n dX14_goes_4 rfl ?_
  refine go_getI fX14_13_25 dX14_goes_5 (by assumption) rfl ?_
  refine go_iadd dX14_goes_8 ?_
  refine go_aload_n dX14_goes_9 rfl ?_
  refine go_getI fX14_18_15 dX14_goes_10 (by assumption) rfl ?_
  refine go_ticmp_gt (m := nI 0) (n := nI 1) (t1 := 20) (t2 := 21) dX14_goes_13 (by decide) dX14_goes_16 (by decide) dX14_goes_17 (by decide) dX14_goes_20 (by decide) rfl ?_
  rw [bo_le, hr.1, q3]
  refine go_zret rfl (bo_nw _) dX14_goes_21 (Nat.le_of_ble_eq_true rfl) (Nat.le_of_ble_eq_true rfl) ?_
  exact ⟨rfl, rfl⟩
end GOERS
