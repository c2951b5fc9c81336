/-! WHAT EACH ACT DOES, no program in sight; the small acts -/
set_option maxRecDepth 100000
abbrev rr_ : Type := (Int32 ⊕ Nat) × cS_
def wt_ (a lo hi : Int32) (S : cS_) (k : rr_) : rr_ := if a < lo then (.inr 4, S) else if hi < a then (.inr 6, S) else k
def mu_ (c : Bool) (e : Nat) (S : cS_) (k : rr_) : rr_ := if c = true then k else (.inr e, S)
def iN_ (a : Int32) : Nat := a.toNatClampNeg
def fu_ (f : Nat → Int32) (k : Nat) (z : Int32) : Nat → Int32 := fun j => if j = k then z else f j
def isS_ (a : Int32) (v : tv_) : Bool := in_ a (nI 0) (nI (sN v) - nI 1)
def isR_ (a : Int32) (v : tv_) : Bool := in_ a (nI 0) (nI (rN v) - nI 1)
def op_letter (a : Int32) (S : cS_) : rr_ := wt_ a (nI 0) (nI 255) S (mu_ (decide (S.2.2.2.2.2.2.1 < 80)) 6 S (.inl (nI (S.2.2.2.2.2.2.1 + 1)), s_let S (fu_ S.2.2.2.2.2.1 S.2.2.2.2.2.2.1 a) (S.2.2.2.2.2.2.1 + 1)))
def op_sort (a b : Int32) (S : cS_) : rr_ := mu_ (isS_ a S.1) 1 S (mu_ (in_ b (nI 0) (nI 5)) 2 S (.inl (S.1 (10 + 6 * iN_ a + iN_ b)), S))
def op_rule (a b : Int32) (S : cS_) : rr_ := mu_ (isR_ a S.1) 1 S (mu_ (in_ b (nI 0) (nI 3)) 2 S (.inl (if iN_ b = 3 then fo_ S.1 (rk_ S.1 (iN_ a)) (rs_ S.1 (iN_ a)) else S.1 (40 + 3 * iN_ a + iN_ b)), S))
def op_goes (a : Int32) (S : cS_) : rr_ := mu_ (isS_ a S.1) 1 S (.inl (bo_ (gf_ S.1 (iN_ a))), S)
def wa_ (v : tv_) : Int32 := sm_ (fun s => v (10 + 6 * s) * wo_ v s (pr_ v)) (sN v)
def op_worth (a : Int32) (S : cS_) : rr_ := mu_ (decide (a = -1) || isS_ a S.1) 1 S (.inl (if a < 0 then wa_ S.1 else wo_ S.1 (iN_ a) (pr_ S.1)), S)
def lkt_ (w : Nat) (k : Nat) (v : tv_) : Int32 := if w = 11 then nI 100 * sm_ (pa_ v) k / nI k else if w = 12 then mo_ v (k - 1) - le_ v (k - 1) else sm_ (gd_ v) k
def op_look (w : Nat) (a : Int32) (S : cS_) : rr_ := wt_ a (nI 1) (nI 60) S (.inl (lkt_ w (iN_ a) S.1), S)
def op_rest (a : Int32) (S : cS_) : rr_ := mu_ (decide (a = -1) || isS_ a S.1) 1 S (.inl (if (pfin_ S.1).1 = 0 then -9 else if a < 0 then (pfin_ S.1).2.1 else (pfin_ S.1).2.2.2.2.2.1 (iN_ a)), S)
def op_best (a : Int32) (S : cS_) : rr_ := mu_ (in_ a (nI 0) (nI 1)) 2 S (.inl (if a = 0 then (pfin_ S.1).2.2.2.1 else (pfin_ S.1).2.2.2.2.1), S)
theorem in_nat {a : Int32} {k : Nat} (hk : k < 1000) (h : in_ a (nI 0) (nI k - nI 1) = true) : ∃ s, s < k ∧ a = nI s := by
  unfold in_ at h
  rw [Bool.and_eq_true, decide_eq_true_eq, decide_eq_true_eq] at h
  cases k with
  | zero =>
    have := Int32.le_trans h.1 h.2
    exact absurd this (by decide)
  | succ k =>
    rw [pd_1] at h
    have h0 : ¬ a < 0 := fun z => absurd (Int32.le_trans h.1 (Int32.le_of_lt z)) (fun _ => by
      have := Int32.lt_iff_toInt_lt.mp z
      have h2 := Int32.le_iff_toInt_le.mp h.1
      have e : (0 : Int32).toInt = 0 := rfl
      have e2 : (nI 0).toInt = 0 := rfl
      omega)
    obtain ⟨j, h1, h2⟩ := nI_of h0
    subst h2
    exact ⟨j, by have := (nI_leI h1 (by omega)).mp h.2; omega, rfl⟩
theorem in_nat2 {a : Int32} {k : Nat} (hk : k < 1000) (h : in_ a (nI 0) (nI k) = true) : ∃ s, s ≤ k ∧ a = nI s := by
  have : in_ a (nI 0) (nI (k + 1) - nI 1) = true := by rw [pd_1]; exact h
  by_cases h2 : k + 1 < 1000
  · obtain ⟨s, h3, h4⟩ := in_nat h2 this
    exact ⟨s, by omega, h4⟩
  · have e : k = 999 := by omega
    subst e
    unfold in_ at h
    rw [Bool.and_eq_true, decide_eq_true_eq, decide_eq_true_eq] at h
    have h0 : ¬ a < 0 := fun z => by
      have := Int32.lt_iff_toInt_lt.mp z
      have h2 := Int32.le_iff_toInt_le.mp h.1
      have e : (0 : Int32).toInt = 0 := rfl
      have e2 : (nI 0).toInt = 0 := rfl
      omega
    obtain ⟨j, h1, h2⟩ := nI_of h0
    subst h2
    exact ⟨j, (nI_leI h1 (by omega)).mp h.2, rfl⟩
theorem wi_nat {a : Int32} {lo hi : Nat} (hh : hi < 1000) (hlo : lo ≤ hi) (h : wi_ a (nI lo) (nI hi) = none) : ∃ s, lo ≤ s ∧ s ≤ hi ∧ a = nI s := by
  unfold wi_ at h
  split at h
  · cases h
  · rename_i h1
    split at h
    · cases h
    · rename_i h2
      have h0 : ¬ a < 0 := fun z => h1 (by
        apply Int32.lt_iff_toInt_lt.mpr
        have := Int32.lt_iff_toInt_lt.mp z
        have e : (0 : Int32).toInt = 0 := rfl
        rw [nI_toInt (by omega)]
        omega)
      obtain ⟨j, h3, h4⟩ := nI_of h0
      subst h4
      refine ⟨j, ?_, ?_, rfl⟩
      · by_cases h5 : lo ≤ j
        · exact h5
        · exact absurd (nI_lt (by omega) (by omega)) h1
      · by_cases h5 : j ≤ hi
        · exact h5
        · exact absurd (nI_lt (by omega) h3) h2
theorem iN_n {s : Nat} (h : s < 1000) : iN_ (nI s) = s := nI_cl (by omega)
theorem wt_ok {a lo hi : Int32} {S : cS_} {k : rr_} (h : wi_ a lo hi = none) : wt_ a lo hi S k = k := by
  unfold wi_ at h
  unfold wt_
  split at h
  · cases h
  · rename_i h1
    split at h
    · cases h
    · rename_i h2
      rw [if_neg h1, if_neg h2]
theorem wt_no {a lo hi z : Int32} {S : cS_} {k : rr_} (h : wi_ a lo hi = some z) : ∃ e, z = ng_ e ∧ wt_ a lo hi S k = (.inr e, S) := by
  unfold wi_ at h
  unfold wt_
  split at h
  · rename_i h1
    cases h
    exact ⟨4, by decide, if_pos h1⟩
  · rename_i h1
    split at h
    · rename_i h2
      cases h
      exact ⟨6, by decide, by rw [if_neg h1, if_pos h2]⟩
    · cases h
theorem mu_ok {c : Bool} {e : Nat} {S : cS_} {k : rr_} (h : c = true) : mu_ c e S k = k := if_pos h
theorem mu_no {c : Bool} {e : Nat} {S : cS_} {k : rr_} (h : ¬ c = true) : mu_ c e S k = (.inr e, S) := if_neg h
theorem ao_t {x n e : Nat} {z : Int32} {ty : ty_} {mi : mi_} {mr : mr_} {S : cS_} {o : Outcome} {σ2 : so_} (hc : ci_ ty mi mr n x S) (hz : z = ng_ e) (ht : tw_ 18 z ty mi mr n o σ2) : ao_ x (ty, mi, mr, n) (.inr e, S) o σ2 := by
  obtain ⟨mr2, rfl, rfl, h3⟩ := ht
  have z3 : ∀ a, a < n → ut_ ty n (.inl 18) a = ty a := fun a h => ut_a (Nat.ne_of_lt h)
  have z1 : sk_ x n mi (um_ mi n 6 z) := fun a j h1 h2 => um_a (Nat.ne_of_lt h1)
  have z2 : sr_ x n mr mr2 := fun a j h1 _ _ => h3 a j (Nat.ne_of_lt h1)
  have z4 : ∀ a u, ut_ ty n (.inl 18) a = some u → a < n + 1 := fun a u h => by
    by_cases h2 : a = n
    · omega
    · rw [ut_a h2] at h
      have := hc.2.2.1 a u h
      omega
  exact ⟨hc.up z3 z1 z2 (Nat.le_succ _) z4, ⟨z3, sk_ff z1 z2, Nat.le_succ _⟩, n, rfl, Or.inl ut_s, um_s.trans hz⟩
theorem ao_k {x n : Nat} {r : Int32} {ty : ty_} {mi mi2 : mi_} {mr mr2 : mr_} {S : cS_} (hc : ci_ ty mi mr n x S) (h1 : sk_ x n mi mi2) (h2 : sr_ x n mr mr2) : ao_ x (ty, mi, mr, n) (.inl r, S) (.returned (some (.int r))) (ty, mi2, mr2, n) := ⟨hc.sk h1 h2, ⟨fun _ _ => rfl, sk_ff h1 h2, Nat.le_refl _⟩, rfl⟩
theorem ao_0 {x n : Nat} {r : Int32} {ty : ty_} {mi : mi_} {mr : mr_} {S : cS_} (hc : ci_ ty mi mr n x S) : ao_ x (ty, mi, mr, n) (.inl r, S) (.returned (some (.int r))) (ty, mi, mr, n) := ao_k hc sk_.rf sr_.rf
theorem ao_s {x n : Nat} {r : Int32} {ty : ty_} {mi mi2 : mi_} {mr mr2 : mr_} {S2 : cS_} (hc : ci_ ty mi2 mr2 n x S2) (h1 : ff_ x n mi mi2 mr mr2) : ao_ x (ty, mi, mr, n) (.inl r, S2) (.returned (some (.int r))) (ty, mi2, mr2, n) := ⟨hc, ⟨fun _ _ => rfl, h1, Nat.le_refl _⟩, rfl⟩
section OPS
variable {l : Launch} {D : dd_} {b : Nat} {ty : ty_} {mi : mi_} {mr : mr_} {n x : Nat} {S : cS_} {a c : Int32}
theorem ct_mustBeSort (hc : ci_ ty mi mr n x S) : CT_ l D b yX0_mustBeSort hX0_mustBeSort (rm_ 9 1 7) [.ref x, .int a] (ty, mi, mr, n) (qt_ (if isS_ a S.1 = true then none else some (-1)) ty mi mr n) := by
  have a1 := hc.1.1
  have a2 := hc.1.2.2.2.2.2.2.2.2.1
  have a3 := hc.1.2.2.2.2.2.2.2.2.2.2.2.1.1
  refine ct_of [some (.ref x), some (.int a)] (by decide) rfl rfl ?_
  refine go_iload_n dX0_mustBeSort_0 rfl ?_
  refine go_aload_n dX0_mustBeSort_1 rfl ?_
  refine go_getR fX0_73_0 dX0_mustBeSort_2 (by assumption) rfl (by assumption) ?_
  refine go_getI fX0_177_15 dX0_mustBeSort_5 (by assumption) rfl ?_
  rw [hc.2.2.2.1.2.1.trans hc.2.2.2.2.1.1]
  refine go_callS sX0_300 (ct_mustBe) dX0_mustBeSort_8 rfl rfl rfl (Nat.le_of_ble_eq_true rfl) (Nat.le_of_ble_eq_true rfl) (Nat.le_of_ble_eq_true rfl) (Nat.le_of_ble_eq_true rfl) (Nat.le_of_ble_eq_true rfl) (kr_t (fun hn => ?_)) (kt_t (fun z hz o σ2 ht => ?_))
  · refine go_vret rfl dX0_mustBeSort_11 (Nat.le_of_ble_eq_true rfl) (Nat.le_of_ble_eq_true rfl) ?_
    unfold isS_
    rw [hn]
    exact ⟨rfl, rfl⟩
  · unfold isS_
    rw [hz]
    exact ht
theorem i2c_id : ∀ j, j < 256 → ((nI j).toUInt32 % 65536).toInt32 = nI j := by decide +kernel
theorem narc_id : ∀ j, j < 256 → vp_nar .char (nI j) = nI j := by decide +kernel
theorem ct_letterIt (hc : ci_ ty mi mr n x S) : CT_ l D b yX0_letterIt hX0_letterIt (rm_ 9 3 21) [.ref x, .int a] (ty, mi, mr, n) (ao_ x (ty, mi, mr, n) (op_letter a S)) := by
  have hx := hc.2.1
  have a1 := hc.1.1
  have l9 := hc.2.2.2.2.2.2.2.2.2.2.2.2.1
  have l80 := hc.2.2.2.2.2.2.2.2.2.2.2.2.2.1
  have l40 := hc.2.2.2.2.2.2.2.2.2.2.2.2.2.2.1
  have c17 : mr x 8 = some (x + 40) := hc.1.2.2.2.2.2.2.2.2.2.2.2.2.2.2.2.2.1
  have c18 : ty (x + 40) = some (.inr (.char, 80)) := hc.1.2.2.2.2.2.2.2.2.2.2.2.2.2.2.2.2.2.1
  generalize hres : op_letter a S = res
  unfold op_letter at hres
  generalize hln : S.2.2.2.2.2.2.1 = ln at l9 l80 l40 hres
  refine ct_of [some (.ref x), some (.int a)] (by decide) rfl rfl ?_
  refine go_iload_n dX0_letterIt_0 rfl ?_
  refine go_i2l dX0_letterIt_1 ?_
  refine go_lconst (v := (nI 0).toInt64) dX0_letterIt_2 (by decide) ?_
  refine go_ldc2 q390 dX0_letterIt_3 ?_
  refine go_topl (show (255 : Int64) = (nI 255).toInt64 by decide) ?_
  refine go_callS sX0_305 (ct_within) dX0_letterIt_6 rfl rfl rfl (Nat.le_of_ble_eq_true rfl) (Nat.le_of_ble_eq_true rfl) (Nat.le_of_ble_eq_true rfl) (Nat.le_of_ble_eq_true rfl) (Nat.le_of_ble_eq_true rfl) (kr_t (fun hn => ?_)) (kt_t (fun z hz o σ2 ht => ?_))
  · rw [wt_ok hn] at hres
    obtain ⟨j, -, hj, rfl⟩ := wi_nat (by omega) (by omega) hn
    refine go_aload_n dX0_letterIt_9 rfl ?_
    refine go_getI fX0_112_0 dX0_letterIt_10 (by assumption) rfl ?_
    rw [l9]
    refine go_bipush (v := nI 80) dX0_letterIt_13 (by decide) ?_
    refine go_ticmp_ge (m := nI 0) (n := nI 1) (t1 := 22) (t2 := 23) dX0_letterIt_15 (by decide) dX0_letterIt_18 (by decide) dX0_letterIt_19 (by decide) dX0_letterIt_22 (by decide) rfl ?_
    have e1 : (if nI 80 ≤ nI ln then nI 0 else nI 1) = bo_ (decide (ln < 80)) := by
      by_cases h : ln < 80
      · rw [if_neg (nI_ge h (by omega)), decide_eq_true h]; rfl
      · rw [if_pos (nI_le (by omega) (by omega)), decide_eq_false h]; rfl
    rw [e1]
    refine go_bipush (v := (-6)) dX0_letterIt_23 (by decide) ?_
    refine go_callS sX0_9 (ct_must) dX0_letterIt_25 rfl rfl rfl (Nat.le_of_ble_eq_true rfl) (Nat.le_of_ble_eq_true rfl) (Nat.le_of_ble_eq_true rfl) (Nat.le_of_ble_eq_true rfl) (Nat.le_of_ble_eq_true rfl) (kr_t (fun hn2 => ?_)) (kt_t (fun z hz o σ2 ht => ?_))
    · have h80 : decide (ln < 80) = true := by
        by_cases h : decide (ln < 80) = true
        · exact h
        · rw [if_neg h] at hn2; cases hn2
      have h8 := of_decide_eq_true h80
      rw [mu_ok h80] at hres
      refine go_aload_n dX0_letterIt_28 rfl ?_
      refine go_getR fX0_87_0 dX0_letterIt_29 (by assumption) rfl (by assumption) ?_
      refine go_aload_n dX0_letterIt_32 rfl ?_
      refine go_getI fX0_112_0 dX0_letterIt_33 (by assumption) rfl ?_
      rw [l9]
      refine go_iload_n dX0_letterIt_36 rfl ?_
      refine go_i2c dX0_letterIt_37 ?_
      rw [i2c_id j (by omega)]
      refine go_cast dX0_letterIt_38 (by assumption) ⟨rfl, by omega, by decide⟩ ?_
      rw [narc_id j (by omega)]
      refine go_aload_n dX0_letterIt_39 rfl ?_
      refine go_dup dX0_letterIt_40 rfl ?_
      refine go_getI fX0_112_0 dX0_letterIt_41 (by assumption) rfl ?_
      rw [um_a (by omega), l9]
      refine go_iconst (v := nI 1) dX0_letterIt_44 (by decide) ?_
      refine go_iadd dX0_letterIt_45 ?_
      rw [nI_add]
      refine go_putI fX0_112_0 p0_9 rfl rfl rfl dX0_letterIt_46 (by assumption) ?_
      refine go_aload_n dX0_letterIt_49 rfl ?_
      refine go_getI fX0_112_0 dX0_letterIt_50 (by assumption) rfl ?_
      rw [um_s]
      refine go_iret rfl dX0_letterIt_53 (Nat.le_of_ble_eq_true rfl) (Nat.le_of_ble_eq_true rfl) ?_
      rw [← hres]
      refine ao_s (hc.let (fun a j h1 h2 h3 => ?_) um_s (by omega) (fun k hk => ?_)) (fun a j h1 h2 => ⟨?_, rfl⟩)
      · exact (if_neg h2).trans (um_a h3)
      · refine (um_a (by omega)).trans ?_
        unfold fu_
        by_cases h : k = ln
        · subst h
          rw [um_s, if_pos rfl]
        · rw [um_k h, if_neg h]
          exact l40 k (by omega)
      · exact (um_a (by omega)).trans (um_a (by omega))
    · have h80 : ¬ decide (ln < 80) = true := fun h => by rw [if_pos h] at hz; cases hz
      rw [if_neg h80] at hz
      rw [mu_no h80] at hres
      rw [← hres]
      cases hz
      exact ao_t hc (by decide) ht
  · obtain ⟨e, he1, he2⟩ := wt_no (S := S) (k := mu_ (decide (ln < 80)) 6 S (.inl (nI (ln + 1)), s_let S (fu_ S.2.2.2.2.2.1 ln a) (ln + 1))) hz
    rw [he2] at hres
    rw [← hres]
    exact ao_t hc he1 ht
theorem ct_kind2 {q : Nat} : CT_ l D b yX2_kind hX2_kind (rm_ 0 0 0) [.ref q] (ty, mi, mr, n) (qi_ (nI 0) (ty, mi, mr, n)) := by
  refine ct_of [some (.ref q)] (by decide) rfl rfl ?_
  refine go_iconst (v := nI 0) dX2_kind_0 (by decide) ?_
  refine go_iret rfl dX2_kind_1 (Nat.le_of_ble_eq_true rfl) (Nat.le_of_ble_eq_true rfl) ?_
  exact ⟨rfl, rfl⟩
theorem ct_kind3 {q : Nat} : CT_ l D b yX3_kind hX3_kind (rm_ 0 0 0) [.ref q] (ty, mi, mr, n) (qi_ (nI 1) (ty, mi, mr, n)) := by
  refine ct_of [some (.ref q)] (by decide) rfl rfl ?_
  refine go_iconst (v := nI 1) dX3_kind_0 (by decide) ?_
  refine go_iret rfl dX3_kind_1 (Nat.le_of_ble_eq_true rfl) (Nat.le_of_ble_eq_true rfl) ?_
  exact ⟨rfl, rfl⟩
theorem ct_kind4 {q : Nat} : CT_ l D b yX4_kind hX4_kind (rm_ 0 0 0) [.ref q] (ty, mi, mr, n) (qi_ (nI 2) (ty, mi, mr, n)) := by
  refine ct_of [some (.ref q)] (by decide) rfl rfl ?_
  refine go_iconst (v := nI 2) dX4_kind_0 (by decide) ?_
  refine go_iret rfl dX4_kind_1 (Nat.le_of_ble_eq_true rfl) (Nat.le_of_ble_eq_true rfl) ?_
  exact ⟨rfl, rfl⟩
theorem ct_kind5 {q : Nat} : CT_ l D b yX5_kind hX5_kind (rm_ 0 0 0) [.ref q] (ty, mi, mr, n) (qi_ (nI 3) (ty, mi, mr, n)) := by
  refine ct_of [some (.ref q)] (by decide) rfl rfl ?_
  refine go_iconst (v := nI 3) dX5_kind_0 (by decide) ?_
  refine go_iret rfl dX5_kind_1 (Nat.le_of_ble_eq_true rfl) (Nat.le_of_ble_eq_true rfl) ?_
  exact ⟨rfl, rfl⟩
theorem ct_kind6 {q : Nat} : CT_ l D b yX6_kind hX6_kind (rm_ 0 0 0) [.ref q] (ty, mi, mr, n) (qi_ (nI 4) (ty, mi, mr, n)) := by
  refine ct_of [some (.ref q)] (by decide) rfl rfl ?_
  refine go_iconst (v := nI 4) dX6_kind_0 (by decide) ?_
  refine go_iret rfl dX6_kind_1 (Nat.le_of_ble_eq_true rfl) (Nat.le_of_ble_eq_true rfl) ?_
  exact ⟨rfl, rfl⟩
theorem ct_kind7 {q : Nat} : CT_ l D b yX7_kind hX7_kind (rm_ 0 0 0) [.ref q] (ty, mi, mr, n) (qi_ (nI 5) (ty, mi, mr, n)) := by
  refine ct_of [some (.ref q)] (by decide) rfl rfl ?_
  refine go_iconst (v := nI 5) dX7_kind_0 (by decide) ?_
  refine go_iret rfl dX7_kind_1 (Nat.le_of_ble_eq_true rfl) (Nat.le_of_ble_eq_true rfl) ?_
  exact ⟨rfl, rfl⟩
theorem ct_kind9 {q : Nat} : CT_ l D b yX9_kind hX9_kind (rm_ 0 0 0) [.ref q] (ty, mi, mr, n) (qi_ (nI 0) (ty, mi, mr, n)) := by
  refine ct_of [some (.ref q)] (by decide) rfl rfl ?_
  refine go_iconst (v := nI 0) dX9_kind_0 (by decide) ?_
  refine go_iret rfl dX9_kind_1 (Nat.le_of_ble_eq_true rfl) (Nat.le_of_ble_eq_true rfl) ?_
  exact ⟨rfl, rfl⟩
theorem ct_kind10 {q : Nat} : CT_ l D b yX10_kind hX10_kind (rm_ 0 0 0) [.ref q] (ty, mi, mr, n) (qi_ (nI 1) (ty, mi, mr, n)) := by
  refine ct_of [some (.ref q)] (by decide) rfl rfl ?_
  refine go_iconst (v := nI 1) dX10_kind_0 (by decide) ?_
  refine go_iret rfl dX10_kind_1 (Nat.le_of_ble_eq_true rfl) (Nat.le_of_ble_eq_true rfl) ?_
  exact ⟨rfl, rfl⟩
theorem ct_kind11 {q : Nat} : CT_ l D b yX11_kind hX11_kind (rm_ 0 0 0) [.ref q] (ty, mi, mr, n) (qi_ (nI 2) (ty, mi, mr, n)) := by
  refine ct_of [some (.ref q)] (by decide) rfl rfl ?_
  refine go_iconst (v := nI 2) dX11_kind_0 (by decide) ?_
  refine go_iret rfl dX11_kind_1 (Nat.le_of_ble_eq_true rfl) (Nat.le_of_ble_eq_true rfl) ?_
  exact ⟨rfl, rfl⟩
theorem ct_kind12 {q : Nat} : CT_ l D b yX12_kind hX12_kind (rm_ 0 0 0) [.ref q] (ty, mi, mr, n) (qi_ (nI 3) (ty, mi, mr, n)) := by
  refine ct_of [some (.ref q)] (by decide) rfl rfl ?_
  refine go_iconst (v := nI 3) dX12_kind_0 (by decide) ?_
  refine go_iret rfl dX12_kind_1 (Nat.le_of_ble_eq_true rfl) (Nat.le_of_ble_eq_true rfl) ?_
  exact ⟨rfl, rfl⟩
theorem ct_kind13 {q : Nat} : CT_ l D b yX13_kind hX13_kind (rm_ 0 0 0) [.ref q] (ty, mi, mr, n) (qi_ (nI 4) (ty, mi, mr, n)) := by
  refine ct_of [some (.ref q)] (by decide) rfl rfl ?_
  refine go_iconst (v := nI 4) dX13_kind_0 (by decide) ?_
  refine go_iret rfl dX13_kind_1 (Nat.le_of_ble_eq_true rfl) (Nat.le_of_ble_eq_true rfl) ?_
  exact ⟨rfl, rfl⟩
theorem ct_kind14 {q : Nat} : CT_ l D b yX14_kind hX14_kind (rm_ 0 0 0) [.ref q] (ty, mi, mr, n) (qi_ (nI 5) (ty, mi, mr, n)) := by
  refine ct_of [some (.ref q)] (by decide) rfl rfl ?_
  refine go_iconst (v := nI 5) dX14_kind_0 (by decide) ?_
  refine go_iret rfl dX14_kind_1 (Nat.le_of_ble_eq_true rfl) (Nat.le_of_ble_eq_true rfl) ?_
  exact ⟨rfl, rfl⟩
end OPS
