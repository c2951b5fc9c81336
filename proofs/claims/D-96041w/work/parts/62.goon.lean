/-! THE MODEL: a week goes by -/
set_option maxRecDepth 100000
theorem wf_rt {v w : tv_} (hv : wf_ v) (h : ∀ j, (j < 40 ∨ 58 ≤ j ∨ ¬ (j - 40) % 3 = 2) → w j = v j) : wf_ w := by
  obtain ⟨a1, a2, a3, a4, a5, a6, a7, a8, a9, a10⟩ := hv
  have es : sN w = sN v := sN_of (h 0 (by decide))
  have er : rN w = rN v := rN_of (h 1 (by decide))
  have ew : wN w = wN v := wN_of (h 4 (by decide))
  refine ⟨by rw [es, h _ (by decide)]; exact a1, by rw [es]; exact a2, by rw [er, h _ (by decide)]; exact a3, by rw [er]; exact a4, by rw [ew, h _ (by decide)]; exact a5, by rw [ew]; exact a6, by rw [h _ (by decide)]; exact a7, ?_, ?_, ?_⟩
  · rw [es]
    exact fun s hs => so_ok_of (Nat.le_of_eq er.symm) (fun j g1 g2 => h j (by omega)) (a8 s hs)
  · rw [er]
    exact fun r hr => ru_ok_of (h _ (by omega)) (h _ (by omega)) (a9 r hr)
  · rw [ew]
    intro k hk
    rw [h _ (by omega)]
    exact a10 k hk
theorem sm_of {f g : Nat → Int32} : ∀ {k : Nat}, (∀ j, j < k → f j = g j) → sm_ f k = sm_ g k
  | 0, _ => rfl
  | k + 1, h => by
    show sm_ f k + f k = sm_ g k + g k
    rw [sm_of (fun j hj => h j (by omega)), h k (by omega)]
theorem ro_of {v w : tv_} (hv : wf_ v) (h : ∀ j, (j < 40 ∨ 58 ≤ j ∨ ¬ (j - 40) % 3 = 2) → w j = v j) {r : Nat} (hr : r < rN v) : ro_ w r = ro_ v r := by
  have h4 := hv.2.1
  have ew : wN w = wN v := wN_of (h 4 (by decide))
  have ag : ∀ k, ag_ w k = ag_ v k := fun k => by
    unfold ag_
    rw [ew, h 2 (by decide), h (60 + (k - 1)) (by omega)]
  have pe : pe_ w = pe_ v := by
    unfold pe_
    rw [sN_of (h 0 (by decide))]
    exact sm_of (fun j hj => h _ (by omega))
  have fo : ∀ k s, fo_ w k s = fo_ v k s := fun k s => by
    unfold fo_
    simp only [ag, pe]
  unfold ro_
  have ek : rk_ w r = rk_ v r := by unfold rk_; rw [h _ (by omega)]
  have er : rs_ w r = rs_ v r := by unfold rs_; rw [h _ (by omega)]
  rw [fo, ek, er, h 2 (by decide)]
def rip_ (v : tv_) (K : Nat) : tv_ := fun j => if 40 ≤ j ∧ j < 40 + 3 * K ∧ (j - 40) % 3 = 2 then v j + (if ro_ v ((j - 40) / 3) = decide (pr_ v ≤ v 2) then nI 1 else nI 0) else v j
theorem rip_ne {v : tv_} {K j : Nat} (hK : K ≤ 6) (h : j < 40 ∨ 58 ≤ j ∨ ¬ (j - 40) % 3 = 2) : rip_ v K j = v j := by
  unfold rip_
  rw [if_neg (by omega)]
section GOON
variable {l : Launch} {D : dd_} {b : Nat} {ty : ty_} {mi : mi_} {mr : mr_} {n m : Nat} {v : tv_}
theorem cm_remember {p : Int32} (hh : mh_ ty mr m) (ht : mt_ mi m v) (hv : wf_ v) : CT_ l D b yX16_remember hX16_remember (rm_ 3 0 0) [.ref m, .int p] (ty, mi, mr, n) (qw_ (fun mi2 => mt_ mi2 m (re_ v p) ∧ ∀ a j, a ≠ m + 2 → mi2 a j = mi a j) ty mr n) := by
  obtain ⟨a0, -, -, a1, a2, -⟩ := hh
  have hw8 := hv.2.2.2.2.2.1
  refine ct_of [some (.ref m), some (.int p), none] (by decide) rfl rfl ?_
  refine go_bipush (v := nI 7) dX16_remember_0 (by decide) ?_
  refine go_istore_n (ls2 := [_, _, _]) dX16_remember_2 rfl rfl ?_
  refine go_loop (α := Nat × mi_) (fun c => c.1) (fun c => [some (.ref m), some (.int p), some (.int (nI c.1))]) (fun c => (ty, c.2, mr, n)) (fun c => c.1 ≤ 7 ∧ (∀ a j, a ≠ m + 2 → c.2 a j = mi a j) ∧ ∀ j, j < 70 → c.2 (m + 2) j = if 60 + c.1 < j ∧ j < 68 then v (j - 1) else v j) ?_ (7, mi) ⟨Nat.le_refl _, fun _ _ _ => rfl, fun j hj => by rw [if_neg (by dsimp only; omega)]; exact ht j hj⟩
  rintro ⟨k, m1⟩ ⟨i1, i2, i3⟩ ih
  dsimp only at i1 i2 i3 ⊢
  cases k with
  | zero =>
    refine go_iload_n dX16_remember_3 rfl ?_
    refine go_if_le (tgt := 33) dX16_remember_4 (by decide) (fun _ => ?_) (fun h0_ => absurd ((by decide)) h0_)
    have e4 : m1 (m + 2) 4 = nI (wN v) := by rw [i3 4 (by omega), if_neg (by omega)]; exact hv.2.2.2.2.1
    refine go_aload_n dX16_remember_33 rfl ?_
    refine go_getR fX16_11_16 dX16_remember_34 (by assumption) rfl (by assumption) ?_
    refine go_bipush (v := nI 60) dX16_remember_37 (by decide) ?_
    refine go_iload_n dX16_remember_39 rfl ?_
    refine go_iast dX16_remember_40 (by assumption) ⟨rfl, by omega, by decide⟩ ?_
    refine go_aload_n dX16_remember_41 rfl ?_
    refine go_getR fX16_11_16 dX16_remember_42 (by assumption) rfl (by assumption) ?_
    refine go_iconst (v := nI 4) dX16_remember_45 (by decide) ?_
    refine go_dup2 dX16_remember_46 rfl rfl ?_
    refine go_iald dX16_remember_47 (by assumption) ⟨rfl, by omega, by decide⟩ ?_
    rw [um_k (by decide), e4]
    refine go_aload_n dX16_remember_48 rfl ?_
    refine go_getR fX16_11_16 dX16_remember_49 (by assumption) rfl (by assumption) ?_
    refine go_iconst (v := nI 4) dX16_remember_52 (by decide) ?_
    refine go_iald dX16_remember_53 (by assumption) ⟨rfl, by omega, by decide⟩ ?_
    rw [um_k (by decide), e4]
    refine go_bipush (v := nI 8) dX16_remember_54 (by decide) ?_
    refine go_ticmp_ge (m := nI 0) (n := nI 1) (t1 := 63) (t2 := 64) dX16_remember_56 (by decide) dX16_remember_59 (by decide) dX16_remember_60 (by decide) dX16_remember_63 (by decide) rfl ?_
    refine go_iadd dX16_remember_64 ?_
    refine go_iast dX16_remember_65 (by assumption) ⟨rfl, by omega, by decide⟩ ?_
    refine go_vret rfl dX16_remember_66 (Nat.le_of_ble_eq_true rfl) (Nat.le_of_ble_eq_true rfl) ?_
    refine ⟨_, rfl, rfl, fun j hj => ?_, fun a j h => (um_a h).trans ((um_a h).trans (i2 a j h))⟩
    by_cases h4 : j = 4
    · subst h4
      rw [um_s, re_4]
      by_cases h8 : wN v < 8
      · rw [if_neg (nI_ge h8 (by omega)), if_pos h8, nI_add]
      · rw [if_pos (nI_le (by omega) (by omega)), if_neg h8, nI_add]
        congr 1
        omega
    · rw [um_k h4]
      by_cases h60 : j = 60
      · subst h60
        rw [um_s, re_60]
      · rw [um_k h60, i3 j hj]
        unfold re_
        rw [if_neg h4, if_neg h60]
  | succ k =>
    refine go_iload_n dX16_remember_3 rfl ?_
    refine go_if_le (tgt := 33) dX16_remember_4 (by decide) (fun h0_ => absurd h0_ (nI_nle (by omega) (by omega))) (fun _ => ?_)
    refine go_aload_n dX16_remember_7 rfl ?_
    refine go_getR fX16_11_16 dX16_remember_8 (by assumption) rfl (by assumption) ?_
    refine go_bipush (v := nI 60) dX16_remember_11 (by decide) ?_
    refine go_iload_n dX16_remember_13 rfl ?_
    refine go_iadd dX16_remember_14 ?_
    rw [nI_add]
    refine go_aload_n dX16_remember_15 rfl ?_
    refine go_getR fX16_11_16 dX16_remember_16 (by assumption) rfl (by assumption) ?_
    refine go_bipush (v := nI 60) dX16_remember_19 (by decide) ?_
    refine go_iload_n dX16_remember_21 rfl ?_
    refine go_iadd dX16_remember_22 ?_
    rw [nI_add]
    refine go_iconst (v := nI 1) dX16_remember_23 (by decide) ?_
    refine go_isub dX16_remember_24 ?_
    rw [pk_sub (by omega)]
    refine go_iald dX16_remember_25 (by assumption) ⟨rfl, by omega, by decide⟩ ?_
    rw [i3 _ (by omega), if_neg (by omega)]
    refine go_iast dX16_remember_26 (by assumption) ⟨rfl, by omega, by decide⟩ ?_
    refine go_iinc (ls2 := [_, _, _]) dX16_remember_27 rfl (nI_dec _) rfl rfl ?_
    refine go_goto (tgt := 3) dX16_remember_30 (by decide) ?_
    refine ih (k, um_ m1 (m + 2) (60 + (k + 1)) (v (60 + (k + 1) - 1))) ⟨by show k ≤ 7; omega, fun a j h => (um_a h).trans (i2 a j h), fun j hj => ?_⟩ (Nat.lt_succ_self _)
    show um_ m1 (m + 2) (60 + (k + 1)) (v (60 + (k + 1) - 1)) (m + 2) j = if 60 + k < j ∧ j < 68 then v (j - 1) else v j
    by_cases h : j = 60 + (k + 1)
    · subst h
      rw [um_s, if_pos (by omega)]
    · rw [um_k h, i3 j hj]
      by_cases h2 : 60 + (k + 1) < j ∧ j < 68
      · rw [if_pos h2, if_pos (by omega)]
      · rw [if_neg h2, if_neg (by omega)]
theorem cm_goOn (hh : mh_ ty mr m) (ht : mt_ mi m v) (hv : wf_ v) : CT_ l D b yX16_goOn hX16_goOn (rm_ 5 0 0) [.ref m] (ty, mi, mr, n) (qp_ (fun r mi2 => r = pr_ v ∧ mt_ mi2 m (wk_ v) ∧ (∀ a j, a ≠ m + 2 → a ≠ m + 10 → mi2 a j = mi a j)) ty mr n) := by
  have hh0 := hh
  obtain ⟨a0, -, -, a1, a2, -⟩ := hh
  have h6 := hv.2.2.2.1
  refine ct_of [some (.ref m), none, none] (by decide) rfl rfl ?_
  refine go_aload_n dX16_goOn_0 rfl ?_
  refine go_callV vX16_139_16 (cm_present hh0 ht hv) dX16_goOn_1 (by assumption) rfl rfl rfl rfl rfl (Nat.le_of_ble_eq_true rfl) (Nat.le_of_ble_eq_true rfl) (Nat.le_of_ble_eq_true rfl) (Nat.le_of_ble_eq_true rfl) (Nat.le_of_ble_eq_true rfl) (kr_p (fun r mA hp => ?_)) kt_p
  obtain ⟨rfl, p1, p2⟩ := hp
  have tA : mt_ mA m v := fun k hk => (p1 _ _ (by omega)).trans (ht k hk)
  refine go_istore_n (ls2 := [_, _, _]) dX16_goOn_4 rfl rfl ?_
  refine go_iconst (v := nI 0) dX16_goOn_5 (by decide) ?_
  refine go_istore_n (ls2 := [_, _, _]) dX16_goOn_6 rfl rfl ?_
  refine go_forI (α := mi_) (rN v) (fun r _ => [some (.ref m), some (.int (pr_ v)), some (.int (nI r))]) (fun _ c => (ty, c, mr, n)) (fun r c => mt_ c m (rip_ v r) ∧ ∀ a j, a ≠ m + 2 → a ≠ m + 10 → c a j = mi a j) 0 mA (by omega) ⟨fun k hk => by unfold rip_; rw [if_neg (by omega)]; exact tA k hk, fun a j _ h => p1 a j h⟩ (fun r m1 _ hr hI ih => ?_) (fun m1 hI => ?_)
  · obtain ⟨i1, i2⟩ := hI
    have hne : ∀ j, (j < 40 ∨ 58 ≤ j ∨ ¬ (j - 40) % 3 = 2) → rip_ v r j = v j := fun j h => rip_ne (by omega) h
    have e1 : m1 (m + 2) 1 = nI (rN v) := by rw [i1 1 (by omega), hne _ (by decide)]; exact hv.2.2.1
    have e2 : m1 (m + 2) 2 = v 2 := by rw [i1 2 (by omega), hne _ (by decide)]
    have e3 : m1 (m + 2) (40 + 3 * r + 2) = v (40 + 3 * r + 2) := by
      rw [i1 _ (by omega)]
      unfold rip_
      rw [if_neg (by omega)]
    have er : rN (rip_ v r) = rN v := rN_of (hne 1 (by decide))
    refine go_iload_n dX16_goOn_7 rfl ?_
    refine go_aload_n dX16_goOn_8 rfl ?_
    refine go_getR fX16_11_16 dX16_goOn_9 (by assumption) rfl (by assumption) ?_
    refine go_iconst (v := nI 1) dX16_goOn_12 (by decide) ?_
    refine go_iald dX16_goOn_13 (by assumption) ⟨rfl, by omega, by decide⟩ ?_
    rw [e1]
    refine go_icmp_ge (tgt := 67) dX16_goOn_14 (by decide) (fun h0_ => absurd h0_ (nI_ge (by omega) (by omega))) (fun _ => ?_)
    refine go_aload_n dX16_goOn_17 rfl ?_
    refine go_getR fX16_11_16 dX16_goOn_18 (by assumption) rfl (by assumption) ?_
    refine go_bipush (v := nI 40) dX16_goOn_21 (by decide) ?_
    refine go_iconst (v := nI 3) dX16_goOn_23 (by decide) ?_
    refine go_iload_n dX16_goOn_24 rfl ?_
    refine go_imul dX16_goOn_25 ?_
    rw [pk_mul]
    refine go_iadd dX16_goOn_26 ?_
    rw [nI_add]
    refine go_iconst (v := nI 2) dX16_goOn_27 (by decide) ?_
    refine go_iadd dX16_goOn_28 ?_
    rw [nI_add]
    refine go_dup2 dX16_goOn_29 rfl rfl ?_
    refine go_iald dX16_goOn_30 (by assumption) ⟨rfl, by omega, by decide⟩ ?_
    rw [e3]
    refine go_aload_n dX16_goOn_31 rfl ?_
    refine go_iload_n dX16_goOn_32 rfl ?_
    refine go_callV vX16_129_16 (cm_isRoom hh0 i1 (wf_rt hv hne) (by rw [er]; exact hr)) dX16_goOn_33 (by assumption) rfl rfl rfl rfl rfl (Nat.le_of_ble_eq_true rfl) (Nat.le_of_ble_eq_true rfl) (Nat.le_of_ble_eq_true rfl) (Nat.le_of_ble_eq_true rfl) (Nat.le_of_ble_eq_true rfl) (kr_i ?_) kt_i
    rw [ro_of hv hne hr]
    refine go_iload_n dX16_goOn_36 rfl ?_
    refine go_aload_n dX16_goOn_37 rfl ?_
    refine go_getR fX16_11_16 dX16_goOn_38 (by assumption) rfl (by assumption) ?_
    refine go_iconst (v := nI 2) dX16_goOn_41 (by decide) ?_
    refine go_iald dX16_goOn_42 (by assumption) ⟨rfl, by omega, by decide⟩ ?_
    rw [e2]
    refine go_ticmp_gt (m := nI 0) (n := nI 1) (t1 := 50) (t2 := 51) dX16_goOn_43 (by decide) dX16_goOn_46 (by decide) dX16_goOn_47 (by decide) dX16_goOn_50 (by decide) rfl ?_
    rw [bo_le]
    refine go_ticmp_ne (m := nI 0) (n := nI 1) (t1 := 58) (t2 := 59) dX16_goOn_51 (by decide) dX16_goOn_54 (by decide) dX16_goOn_55 (by decide) dX16_goOn_58 (by decide) rfl ?_
    have e5 : (if ¬ bo_ (ro_ v r) = bo_ (decide (pr_ v ≤ v 2)) then nI 0 else nI 1) = (if ro_ v r = decide (pr_ v ≤ v 2) then nI 1 else nI 0) := by
      cases ro_ v r <;> cases decide (pr_ v ≤ v 2) <;> decide
    rw [e5]
    refine go_iadd dX16_goOn_59 ?_
    refine go_iast dX16_goOn_60 (by assumption) ⟨rfl, by omega, by decide⟩ ?_
    refine go_iinc (ls2 := [_, _, _]) dX16_goOn_61 rfl (nI_inc _) rfl rfl ?_
    refine go_goto (tgt := 7) dX16_goOn_64 (by decide) ?_
    refine ih _ ⟨fun j hj => ?_, fun a j h1 h2 => (um_a h1).trans (i2 a j h1 h2)⟩
    by_cases h : j = 40 + 3 * r + 2
    · subst h
      rw [um_s]
      unfold rip_
      rw [if_pos (show 40 ≤ 40 + 3 * r + 2 ∧ 40 + 3 * r + 2 < 40 + 3 * (r + 1) ∧ (40 + 3 * r + 2 - 40) % 3 = 2 by omega), show (40 + 3 * r + 2 - 40) / 3 = r by omega]
    · rw [um_k h, i1 j hj]
      unfold rip_
      by_cases h2 : 40 ≤ j ∧ j < 40 + 3 * r ∧ (j - 40) % 3 = 2
      · rw [if_pos h2, if_pos (show 40 ≤ j ∧ j < 40 + 3 * (r + 1) ∧ (j - 40) % 3 = 2 by omega)]
      · rw [if_neg h2, if_neg (show ¬ (40 ≤ j ∧ j < 40 + 3 * (r + 1) ∧ (j - 40) % 3 = 2) by omega)]
  · obtain ⟨i1, i2⟩ := hI
    have hrip : rip_ v (rN v) = ri_ v := rfl
    rw [hrip] at i1
    have e1 : m1 (m + 2) 1 = nI (rN v) := by rw [i1 1 (by omega), ri_ne (by decide) h6]; exact hv.2.2.1
    refine go_iload_n dX16_goOn_7 rfl ?_
    refine go_aload_n dX16_goOn_8 rfl ?_
    refine go_getR fX16_11_16 dX16_goOn_9 (by assumption) rfl (by assumption) ?_
    refine go_iconst (v := nI 1) dX16_goOn_12 (by decide) ?_
    refine go_iald dX16_goOn_13 (by assumption) ⟨rfl, by omega, by decide⟩ ?_
    rw [e1]
    refine go_icmp_ge (tgt := 67) dX16_goOn_14 (by decide) (fun _ => ?_) (fun h0_ => absurd (nI_le (by omega) (by omega)) h0_)
    refine go_aload_n dX16_goOn_67 rfl ?_
    refine go_iload_n dX16_goOn_68 rfl ?_
    refine go_callV vX16_97_16 (cm_remember hh0 i1 (ri_wf hv)) dX16_goOn_69 (by assumption) rfl rfl rfl rfl rfl (Nat.le_of_ble_eq_true rfl) (Nat.le_of_ble_eq_true rfl) (Nat.le_of_ble_eq_true rfl) (Nat.le_of_ble_eq_true rfl) (Nat.le_of_ble_eq_true rfl) (kr_w (fun mB hp => ?_)) kt_w
    obtain ⟨q1, q2⟩ := hp
    have e3 : mB (m + 2) 3 = v 3 := by rw [q1 3 (by omega), re_ne (by decide) (by decide), ri_ne (by decide) h6]
    refine go_aload_n dX16_goOn_72 rfl ?_
    refine go_getR fX16_11_16 dX16_goOn_73 (by assumption) rfl (by assumption) ?_
    refine go_iconst (v := nI 3) dX16_goOn_76 (by decide) ?_
    refine go_dup2 dX16_goOn_77 rfl rfl ?_
    refine go_iald dX16_goOn_78 (by assumption) ⟨rfl, by omega, by decide⟩ ?_
    rw [e3]
    refine go_iconst (v := nI 1) dX16_goOn_79 (by decide) ?_
    refine go_iadd dX16_goOn_80 ?_
    refine go_iast dX16_goOn_81 (by assumption) ⟨rfl, by omega, by decide⟩ ?_
    refine go_iload_n dX16_goOn_82 rfl ?_
    refine go_iret rfl dX16_goOn_83 (Nat.le_of_ble_eq_true rfl) (Nat.le_of_ble_eq_true rfl) ?_
    refine ⟨_, _, rfl, rfl, rfl, fun j hj => ?_, fun a j h1 h2 => (um_a h1).trans ((q2 a j h1).trans (i2 a j h1 h2))⟩
    unfold wk_
    by_cases h : j = 3
    · subst h
      rw [um_s, if_pos rfl]
    · rw [um_k h, if_neg h]
      exact q1 j hj
theorem cm_move {p q : Nat} (hp : ty p = some (.inr (.int, 70))) (hq : ty q = some (.inr (.int, 70))) (hpq : p ≠ q) : CT_ l D b yX16_move hX16_move (rm_ 0 0 0) [.ref p, .ref q] (ty, mi, mr, n) (qw_ (fun mi2 => (∀ j, j < 70 → mi2 q j = mi p j) ∧ ∀ a j, a ≠ q → mi2 a j = mi a j) ty mr n) := by
  refine ct_of [some (.ref p), some (.ref q), none] (by decide) rfl rfl ?_
  refine go_iconst (v := nI 0) dX16_move_0 (by decide) ?_
  refine go_istore_n (ls2 := [_, _, _]) dX16_move_1 rfl rfl ?_
  refine go_forI (α := mi_) 70 (fun k _ => [some (.ref p), some (.ref q), some (.int (nI k))]) (fun _ c => (ty, c, mr, n)) (fun k c => (∀ j, j < k → c q j = mi p j) ∧ ∀ a j, a ≠ q → c a j = mi a j) 0 mi (by omega) ⟨fun j h => absurd h (Nat.not_lt_zero _), fun _ _ _ => rfl⟩ (fun k m1 _ hk hI ih => ?_) (fun m1 hI => ?_)
  · obtain ⟨i1, i2⟩ := hI
    refine go_iload_n dX16_move_2 rfl ?_
    refine go_bipush (v := nI 70) dX16_move_3 (by decide) ?_
    refine go_icmp_ge (tgt := 20) dX16_move_5 (by decide) (fun h0_ => absurd h0_ (nI_ge (by omega) (by omega))) (fun _ => ?_)
    refine go_aload_n dX16_move_8 rfl ?_
    refine go_iload_n dX16_move_9 rfl ?_
    refine go_aload_n dX16_move_10 rfl ?_
    refine go_iload_n dX16_move_11 rfl ?_
    refine go_iald dX16_move_12 (by assumption) ⟨rfl, by omega, by decide⟩ ?_
    rw [i2 p k hpq]
    refine go_iast dX16_move_13 (by assumption) ⟨rfl, by omega, by decide⟩ ?_
    refine go_iinc (ls2 := [_, _, _]) dX16_move_14 rfl (nI_inc _) rfl rfl ?_
    refine go_goto (tgt := 2) dX16_move_17 (by decide) ?_
    refine ih _ ⟨fun j hj => ?_, fun a j h => (um_a h).trans (i2 a j h)⟩
    by_cases h : j = k
    · subst h; exact um_s
    · exact (um_k h).trans (i1 j (by omega))
  · refine go_iload_n dX16_move_2 rfl ?_
    refine go_bipush (v := nI 70) dX16_move_3 (by decide) ?_
    refine go_icmp_ge (tgt := 20) dX16_move_5 (by decide) (fun _ => ?_) (fun h0_ => absurd (nI_le (by omega) (by omega)) h0_)
    refine go_vret rfl dX16_move_20 (Nat.le_of_ble_eq_true rfl) (Nat.le_of_ble_eq_true rfl) ?_
    exact ⟨_, rfl, rfl, hI⟩
end GOON
