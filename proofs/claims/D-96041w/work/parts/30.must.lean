/-! WHAT IS REFUSED: Refused, Fault, must, within, mustBe -/
set_option maxRecDepth 100000
/-- it throws a new object of class c with the number z; nothing else has changed -/
def tw_ (c : Nat) (z : Int32) (ty : ty_) (mi : mi_) (mr : mr_) (n : Nat) : Outcome → so_ → Prop := fun o σ2 => ∃ mr2 : mr_, o = .threw n ∧ σ2 = (ut_ ty n (.inl c), um_ mi n 6 z, mr2, n + 1) ∧ ∀ a k, a ≠ n → mr2 a k = mr a k
def qt_ (r : Option Int32) (ty : ty_) (mi : mi_) (mr : mr_) (n : Nat) : Outcome → so_ → Prop := fun o σ2 => match r with
  | none => o = .returned none ∧ σ2 = (ty, mi, mr, n)
  | some z => tw_ 18 z ty mi mr n o σ2
section KT
variable {l : Launch} {D : dd_} {b : Nat} {M : mc_} {Q : Outcome → so_ → Prop} {cc : ByteArray} {pc : Nat} {ls : List (Option Value)} {st rest : List Value} {kc ks : Nat} {ty : ty_} {mi : mi_} {mr : mr_} {n : Nat} {σ : so_}
theorem kr_t {r : Option Int32} (k : r = none → G_ l D b M Q cc pc ls rest (ty, mi, mr, n) kc ks) : ∀ (v : Option Value) (σ2 : so_), qt_ r ty mi mr n (.returned v) σ2 → G_ l D b M Q cc pc ls (v.toList ++ rest) σ2 kc ks := by
  intro v σ2 h
  cases r with
  | none =>
    obtain ⟨h1, rfl⟩ := h
    cases h1
    exact k rfl
  | some z =>
    obtain ⟨mr2, h1, -⟩ := h
    cases h1
theorem kt_t {r : Option Int32} (k : ∀ z, r = some z → ∀ o σ2, tw_ 18 z ty mi mr n o σ2 → Q o σ2) : ∀ (x : Nat) (σ2 : so_), qt_ r ty mi mr n (.threw x) σ2 → Q (.threw x) σ2 := by
  intro x σ2 h
  cases r with
  | none => cases h.1
  | some z => exact k z rfl _ _ h
theorem go_topl {x y : Int64} (h : x = y) (k : G_ l D b M Q cc pc ls (.long y :: st) σ kc ks) : G_ l D b M Q cc pc ls (.long x :: st) σ kc ks := h ▸ k
end KT
theorem i64_le {x y : Int32} : x.toInt64 ≤ y.toInt64 ↔ x ≤ y := by
  rw [Int64.le_iff_toInt_le, Int32.le_iff_toInt_le, Int32.toInt_toInt64, Int32.toInt_toInt64]
theorem i64_lt {x y : Int32} : x.toInt64 < y.toInt64 ↔ x < y := by
  rw [Int64.lt_iff_toInt_lt, Int32.lt_iff_toInt_lt, Int32.toInt_toInt64, Int32.toInt_toInt64]
def in_ (v lo hi : Int32) : Bool := decide (lo ≤ v) && decide (v ≤ hi)
def wi_ (v lo hi : Int32) : Option Int32 := if v < lo then some (-4) else if hi < v then some (-6) else none
section MUST
variable {l : Launch} {D : dd_} {b : Nat} {ty : ty_} {mi : mi_} {mr : mr_} {n a : Nat} {z : Int32}
theorem ct_refused (hT : ty a = some (.inl 18)) (h4 : mr a 4 = none) : CT_ l D b yX18_init hX18_init (rm_ 6 0 0) [.ref a, .int z] (ty, mi, mr, n) (fun o σ2 => ∃ mr2 : mr_, o = .returned none ∧ σ2 = (ty, um_ mi a 6 z, mr2, n) ∧ ∀ a2 k, a2 ≠ a → mr2 a2 k = mr a2 k) := by
  refine ct_of [some (.ref a), some (.int z)] (by decide) rfl rfl ?_
  refine go_aload_n dX18_init_0 rfl ?_
  refine go_refusal tc_18 (nw_in q441 rfl) hT h4 dX18_init_1 (Nat.le_of_ble_eq_true rfl) (Nat.le_of_ble_eq_true rfl) (Nat.le_of_ble_eq_true rfl) (fun mr2 hm => ?_)
  refine go_aload_n dX18_init_4 rfl ?_
  refine go_iload_n dX18_init_5 rfl ?_
  refine go_putI fX18_7_18 p18_6 rfl rfl rfl dX18_init_6 (by assumption) ?_
  refine go_vret rfl dX18_init_9 (Nat.le_of_ble_eq_true rfl) (Nat.le_of_ble_eq_true rfl) ?_
  exact ⟨mr2, rfl, rfl, hm⟩
theorem ct_fault (hT : ty a = some (.inl 20)) (h4 : mr a 4 = none) : CT_ l D b yX20_init hX20_init (rm_ 6 0 0) [.ref a, .int z] (ty, mi, mr, n) (fun o σ2 => ∃ mr2 : mr_, o = .returned none ∧ σ2 = (ty, um_ mi a 6 z, mr2, n) ∧ ∀ a2 k, a2 ≠ a → mr2 a2 k = mr a2 k) := by
  refine ct_of [some (.ref a), some (.int z)] (by decide) rfl rfl ?_
  refine go_aload_n dX20_init_0 rfl ?_
  refine go_refusal tc_20 (nw_in q514 rfl) hT h4 dX20_init_1 (Nat.le_of_ble_eq_true rfl) (Nat.le_of_ble_eq_true rfl) (Nat.le_of_ble_eq_true rfl) (fun mr2 hm => ?_)
  refine go_aload_n dX20_init_4 rfl ?_
  refine go_iload_n dX20_init_5 rfl ?_
  refine go_putI fX20_7_20 p20_6 rfl rfl rfl dX20_init_6 (by assumption) ?_
  refine go_vret rfl dX20_init_9 (Nat.le_of_ble_eq_true rfl) (Nat.le_of_ble_eq_true rfl) ?_
  exact ⟨mr2, rfl, rfl, hm⟩
theorem ct_number18 (hT : ty a = some (.inl 18)) : CT_ l D b yX18_number hX18_number (rm_ 0 0 0) [.ref a] (ty, mi, mr, n) (qi_ (mi a 6) (ty, mi, mr, n)) := by
  refine ct_of [some (.ref a)] (by decide) rfl rfl ?_
  refine go_aload_n dX18_number_0 rfl ?_
  refine go_getI fX18_7_18 dX18_number_1 (by assumption) rfl ?_
  refine go_iret rfl dX18_number_4 (Nat.le_of_ble_eq_true rfl) (Nat.le_of_ble_eq_true rfl) ?_
  exact ⟨rfl, rfl⟩
theorem ct_number20 (hT : ty a = some (.inl 20)) : CT_ l D b yX20_number hX20_number (rm_ 0 0 0) [.ref a] (ty, mi, mr, n) (qi_ (mi a 6) (ty, mi, mr, n)) := by
  refine ct_of [some (.ref a)] (by decide) rfl rfl ?_
  refine go_aload_n dX20_number_0 rfl ?_
  refine go_getI fX20_7_20 dX20_number_1 (by assumption) rfl ?_
  refine go_iret rfl dX20_number_4 (Nat.le_of_ble_eq_true rfl) (Nat.le_of_ble_eq_true rfl) ?_
  exact ⟨rfl, rfl⟩
theorem ct_in {d : Nat} {v lo hi : Int32} : CT_ l D b yX0_in hX0_in (rm_ d 0 0) [.long v.toInt64, .long lo.toInt64, .long hi.toInt64] (ty, mi, mr, n) (qi_ (bo_ (in_ v lo hi)) (ty, mi, mr, n)) := by
  refine ct_of [some (.long v.toInt64), none, some (.long lo.toInt64), none, some (.long hi.toInt64), none] (by decide) rfl rfl ?_
  refine go_lload_n dX0_in_0 rfl ?_
  refine go_lload_n dX0_in_1 rfl ?_
  refine go_lcmp dX0_in_2 ?_
  refine go_if_lt (tgt := 17) dX0_in_3 (by decide) (fun h => ?_) (fun h => ?_)
  · have h1 := i64_lt.mp ((lg_cmp_lt _ _).mp h)
    refine go_iconst (v := nI 0) dX0_in_17 (by decide) ?_
    refine go_zret rfl rfl dX0_in_18 (Nat.le_of_ble_eq_true rfl) (Nat.le_of_ble_eq_true rfl) ?_
    refine ⟨?_, rfl⟩
    have : in_ v lo hi = false := by
      unfold in_
      rw [decide_eq_false (by simpa using h1)]
      rfl
    rw [this]
    rfl
  · have h1 : lo ≤ v := by
      have := fun q => h ((lg_cmp_lt _ _).mpr (i64_lt.mpr q))
      simpa using this
    refine go_lload_n dX0_in_6 rfl ?_
    refine go_lload dX0_in_7 rfl ?_
    refine go_lcmp dX0_in_9 ?_
    refine go_if_gt (tgt := 17) dX0_in_10 (by decide) (fun h2 => ?_) (fun h2 => ?_)
    · have h3 := i64_lt.mp ((lg_cmp_gt _ _).mp h2)
      refine go_iconst (v := nI 0) dX0_in_17 (by decide) ?_
      refine go_zret rfl rfl dX0_in_18 (Nat.le_of_ble_eq_true rfl) (Nat.le_of_ble_eq_true rfl) ?_
      refine ⟨?_, rfl⟩
      have : in_ v lo hi = false := by
        unfold in_
        rw [decide_eq_false (show ¬ v ≤ hi by simpa using h3), Bool.and_false]
      rw [this]
      rfl
    · have h3 : v ≤ hi := by
        have := fun q => h2 ((lg_cmp_gt _ _).mpr (i64_lt.mpr q))
        simpa using this
      refine go_iconst (v := nI 1) dX0_in_13 (by decide) ?_
      refine go_goto (tgt := 18) dX0_in_14 (by decide) ?_
      refine go_zret rfl rfl dX0_in_18 (Nat.le_of_ble_eq_true rfl) (Nat.le_of_ble_eq_true rfl) ?_
      refine ⟨?_, rfl⟩
      have : in_ v lo hi = true := by
        unfold in_
        rw [decide_eq_true h1, decide_eq_true h3]
        rfl
      rw [this]
      rfl
theorem ct_must {p : Bool} : CT_ l D b yX0_must hX0_must (rm_ 7 1 7) [.int (bo_ p), .int z] (ty, mi, mr, n) (qt_ (if p = true then none else some z) ty mi mr n) := by
  refine ct_of [some (.int (bo_ p)), some (.int z)] (by decide) rfl rfl ?_
  refine go_iload_n dX0_must_0 rfl ?_
  refine go_if_ne (tgt := 13) dX0_must_1 (by decide) (fun h => ?_) (fun h => ?_)
  · have hp : p = true := by
      cases p with
      | true => rfl
      | false => exact absurd rfl h
    refine go_vret rfl dX0_must_13 (Nat.le_of_ble_eq_true rfl) (Nat.le_of_ble_eq_true rfl) ?_
    rw [if_pos hp]
    exact ⟨rfl, rfl⟩
  · have hp := bo_0.mp h
    refine go_facts (fun hz hl hb => ?_)
    refine go_new (c := 18) rfl q397 q97 dX0_must_4 (Nat.le_of_ble_eq_true rfl) (Nat.le_of_ble_eq_true rfl) ?_
    refine go_dup dX0_must_7 rfl ?_
    refine go_iload_n dX0_must_8 rfl ?_
    have hT : ut_ ty n (.inl 18) n = some (.inl 18) := ut_s
    refine go_callI iX0_3 (ct_refused hT (hz n 4 (Nat.le_refl _)).2) dX0_must_9 rfl rfl rfl (Nat.le_of_ble_eq_true rfl) (Nat.le_of_ble_eq_true rfl) (Nat.le_of_ble_eq_true rfl) (Nat.le_of_ble_eq_true rfl) (Nat.le_of_ble_eq_true rfl) (fun v σ2 hq => ?_) (fun x σ2 hq => ?_)
    · obtain ⟨mr2, h1, rfl, h3⟩ := hq
      cases h1
      refine go_athrow rfl dX0_must_12 (Nat.le_of_ble_eq_true rfl) (Nat.le_of_ble_eq_true rfl) ?_
      rw [if_neg (by rw [hp]; decide)]
      exact ⟨mr2, rfl, rfl, h3⟩
    · obtain ⟨mr2, h1, -⟩ := hq
      cases h1
theorem ct_within {v lo hi : Int32} : CT_ l D b yX0_within hX0_within (rm_ 8 2 14) [.long v.toInt64, .long lo.toInt64, .long hi.toInt64] (ty, mi, mr, n) (qt_ (wi_ v lo hi) ty mi mr n) := by
  refine ct_of [some (.long v.toInt64), none, some (.long lo.toInt64), none, some (.long hi.toInt64), none] (by decide) rfl rfl ?_
  refine go_lload_n dX0_within_0 rfl ?_
  refine go_lload_n dX0_within_1 rfl ?_
  refine go_lcmp dX0_within_2 ?_
  refine go_tif_lt (m := nI 0) (n := nI 1) (t1 := 10) (t2 := 11) dX0_within_3 (by decide) dX0_within_6 (by decide) dX0_within_7 (by decide) dX0_within_10 (by decide) rfl ?_
  have e1 : (if lg_cmp v.toInt64 lo.toInt64 < 0 then nI 0 else nI 1) = bo_ (decide (lo ≤ v)) := by
    unfold bo_
    by_cases h : lo ≤ v
    · rw [if_neg (fun q => absurd h (by simpa using i64_lt.mp ((lg_cmp_lt _ _).mp q))), if_pos (by simpa using h)]
    · rw [if_pos ((lg_cmp_lt _ _).mpr (i64_lt.mpr (by simpa using h))), if_neg (by simpa using h)]
  rw [e1]
  refine go_bipush (v := (-4)) dX0_within_11 (by decide) ?_
  refine go_callS sX0_9 (ct_must) dX0_within_13 rfl rfl rfl (Nat.le_of_ble_eq_true rfl) (Nat.le_of_ble_eq_true rfl) (Nat.le_of_ble_eq_true rfl) (Nat.le_of_ble_eq_true rfl) (Nat.le_of_ble_eq_true rfl) (kr_t (fun hn => ?_)) (kt_t (fun z hz o σ2 ht => ?_))
  · have h1 : lo ≤ v := by
      by_cases h : lo ≤ v
      · exact h
      · rw [if_neg (by simpa using h)] at hn
        cases hn
    refine go_lload_n dX0_within_16 rfl ?_
    refine go_lload dX0_within_17 rfl ?_
    refine go_lcmp dX0_within_19 ?_
    refine go_tif_gt (m := nI 0) (n := nI 1) (t1 := 27) (t2 := 28) dX0_within_20 (by decide) dX0_within_23 (by decide) dX0_within_24 (by decide) dX0_within_27 (by decide) rfl ?_
    have e2 : (if 0 < lg_cmp v.toInt64 hi.toInt64 then nI 0 else nI 1) = bo_ (decide (v ≤ hi)) := by
      unfold bo_
      by_cases h : v ≤ hi
      · rw [if_neg (fun q => absurd h (by simpa using i64_lt.mp ((lg_cmp_gt _ _).mp q))), if_pos (by simpa using h)]
      · rw [if_pos ((lg_cmp_gt _ _).mpr (i64_lt.mpr (by simpa using h))), if_neg (by simpa using h)]
    rw [e2]
    refine go_bipush (v := (-6)) dX0_within_28 (by decide) ?_
    refine go_callS sX0_9 (ct_must) dX0_within_30 rfl rfl rfl (Nat.le_of_ble_eq_true rfl) (Nat.le_of_ble_eq_true rfl) (Nat.le_of_ble_eq_true rfl) (Nat.le_of_ble_eq_true rfl) (Nat.le_of_ble_eq_true rfl) (kr_t (fun hn2 => ?_)) (kt_t (fun z hz o σ2 ht => ?_))
    · have h2 : v ≤ hi := by
        by_cases h : v ≤ hi
        · exact h
        · rw [if_neg (by simpa using h)] at hn2
          cases hn2
      refine go_vret rfl dX0_within_33 (Nat.le_of_ble_eq_true rfl) (Nat.le_of_ble_eq_true rfl) ?_
      unfold qt_ wi_
      rw [if_neg (by simpa using h1), if_neg (by simpa using h2)]
      exact ⟨rfl, rfl⟩
    · have h2 : hi < v := by
        by_cases h : v ≤ hi
        · rw [if_pos (by simpa using h)] at hz
          cases hz
        · simpa using h
      rw [if_neg (by simpa using h2)] at hz
      cases hz
      unfold qt_ wi_
      rw [if_neg (by simpa using h1), if_pos h2]
      exact ht
  · have h1 : v < lo := by
      by_cases h : lo ≤ v
      · rw [if_pos (by simpa using h)] at hz
        cases hz
      · simpa using h
    rw [if_neg (by simpa using h1)] at hz
    cases hz
    unfold qt_ wi_
    rw [if_pos h1]
    exact ht
theorem ct_mustBe {k m : Int32} : CT_ l D b yX0_mustBe hX0_mustBe (rm_ 8 1 7) [.int k, .int m] (ty, mi, mr, n) (qt_ (if in_ k (nI 0) (m - nI 1) = true then none else some (-1)) ty mi mr n) := by
  refine ct_of [some (.int k), some (.int m)] (by decide) rfl rfl ?_
  refine go_iload_n dX0_mustBe_0 rfl ?_
  refine go_i2l dX0_mustBe_1 ?_
  refine go_lconst (v := (nI 0).toInt64) dX0_mustBe_2 (by decide) ?_
  refine go_iload_n dX0_mustBe_3 rfl ?_
  refine go_iconst (v := nI 1) dX0_mustBe_4 (by decide) ?_
  refine go_isub dX0_mustBe_5 ?_
  refine go_i2l dX0_mustBe_6 ?_
  refine go_callS sX0_13 (ct_in (d := 0)) dX0_mustBe_7 rfl rfl rfl (Nat.le_of_ble_eq_true rfl) (Nat.le_of_ble_eq_true rfl) (Nat.le_of_ble_eq_true rfl) (Nat.le_of_ble_eq_true rfl) (Nat.le_of_ble_eq_true rfl) (kr_i ?_) kt_i
  refine go_iconst (v := (-1)) dX0_mustBe_10 (by decide) ?_
  refine go_callS sX0_9 (ct_must) dX0_mustBe_11 rfl rfl rfl (Nat.le_of_ble_eq_true rfl) (Nat.le_of_ble_eq_true rfl) (Nat.le_of_ble_eq_true rfl) (Nat.le_of_ble_eq_true rfl) (Nat.le_of_ble_eq_true rfl) (kr_t (fun hn => ?_)) (kt_t (fun z hz o σ2 ht => ?_))
  · refine go_vret rfl dX0_mustBe_14 (Nat.le_of_ble_eq_true rfl) (Nat.le_of_ble_eq_true rfl) ?_
    rw [hn]
    exact ⟨rfl, rfl⟩
  · rw [hz]
    exact ht
theorem ct_mustBeWeeks {k : Int32} : CT_ l D b yX0_mustBeWeeks hX0_mustBeWeeks (rm_ 9 2 14) [.int k] (ty, mi, mr, n) (qt_ (wi_ k (nI 1) (nI 60)) ty mi mr n) := by
  refine ct_of [some (.int k)] (by decide) rfl rfl ?_
  refine go_iload_n dX0_mustBeWeeks_0 rfl ?_
  refine go_i2l dX0_mustBeWeeks_1 ?_
  refine go_lconst (v := (nI 1).toInt64) dX0_mustBeWeeks_2 (by decide) ?_
  refine go_ldc2 q890 dX0_mustBeWeeks_3 ?_
  refine go_topl (show (60 : Int64) = (nI 60).toInt64 by decide) ?_
  refine go_callS sX0_305 (ct_within) dX0_mustBeWeeks_6 rfl rfl rfl (Nat.le_of_ble_eq_true rfl) (Nat.le_of_ble_eq_true rfl) (Nat.le_of_ble_eq_true rfl) (Nat.le_of_ble_eq_true rfl) (Nat.le_of_ble_eq_true rfl) (kr_t (fun hn => ?_)) (kt_t (fun z hz o σ2 ht => ?_))
  · refine go_vret rfl dX0_mustBeWeeks_9 (Nat.le_of_ble_eq_true rfl) (Nat.le_of_ble_eq_true rfl) ?_
    rw [hn]
    exact ⟨rfl, rfl⟩
  · rw [hz]
    exact ht
end MUST
