/-! STATEMENTS TOLD: kinds of letters; what is made of a statement -/
set_option maxRecDepth 100000
def oN_ (r : Option Nat) : Int32 := match r with
  | some k => nI k
  | none => -1
theorem ti_ne {c : Int32} {k : Nat} (hk : k < 2 ^ 31) (h : ¬ c = nI k) : ¬ ((k : Int) = c.toInt) := fun z => h (Int32.toInt_inj.mp (by rw [nI_toInt hk]; exact z.symm))
theorem gof_lt {c : Int32} {k : Nat} (h : gof_ c = some k) : k < 6 ∧ ¬ c = -1 := by
  refine ⟨?_, fun z => by rw [z, show gof_ (-1) = none from rfl] at h; cases h⟩
  unfold gof_ at h
  repeat' split at h
  all_goals first | (cases h; omega) | cases h
theorem rof_lt {c : Int32} {k : Nat} (h : rof_ c = some k) : k < 6 ∧ ¬ c = -1 := by
  refine ⟨?_, fun z => by rw [z, show rof_ (-1) = none from rfl] at h; cases h⟩
  unfold rof_ at h
  repeat' split at h
  all_goals first | (cases h; omega) | cases h
theorem bof_lt {c : Int32} {k : Nat} (h : bof_ c = some k) : k < 4 ∧ ¬ c = -1 := by
  refine ⟨?_, fun z => by rw [z, show bof_ (-1) = none from rfl] at h; cases h⟩
  unfold bof_ at h
  repeat' split at h
  all_goals first | (cases h; omega) | cases h
theorem dgt_le {lt : Nat → Int32} {ln p d p2 : Nat} (h : dgt_ lt ln p = .inl (d, p2)) : p2 = p + 1 ∧ p2 ≤ ln ∧ d ≤ 9 := by
  unfold dgt_ at h
  split at h
  · rename_i hc
    have := isd_lt hc
    obtain ⟨d2, d1, -, d3, -⟩ := isd_nat hc
    cases h
    exact ⟨rfl, by omega, by omega⟩
  · cases h
theorem exp_le {lt : Nat → Int32} {ln p p2 : Nat} {c : Int32} {u : Unit} (hc : ¬ c = -1) (h : exp_ lt ln c p = .inl (u, p2)) : p2 = p + 1 ∧ p2 ≤ ln := by
  unfold exp_ at h
  split at h
  · rename_i h2
    have := hr_lt hc h2
    cases h
    exact ⟨rfl, by omega⟩
  · cases h
theorem one_le {f : Int32 → Option Nat} {lt : Nat → Int32} {ln p k p2 : Nat} (hf : f (-1) = none) (h : one_ f lt ln p = .inl (k, p2)) : p2 = p + 1 ∧ p2 ≤ ln ∧ f (hr_ lt ln p) = some k := by
  unfold one_ at h
  split at h
  · rename_i k2 h2
    cases h
    refine ⟨rfl, ?_, h2⟩
    by_cases h3 : p < ln
    · omega
    · unfold hr_ at h2
      rw [if_neg h3, hf] at h2
      cases h2
  · cases h
theorem one_some {f : Int32 → Option Nat} {lt : Nat → Int32} {ln p k : Nat} (h : f (hr_ lt ln p) = some k) : one_ f lt ln p = .inl (k, p + 1) := by unfold one_; rw [h]
theorem one_none {f : Int32 → Option Nat} {lt : Nat → Int32} {ln p : Nat} (h : f (hr_ lt ln p) = none) : one_ f lt ln p = .inr p := by unfold one_; rw [h]
theorem oN_t (r : Option Nat) (h : ∀ k, r = some k → k < 6) : (if oN_ r < 0 then nI 0 else nI 1) = bo_ r.isSome := by
  cases r with
  | none => rfl
  | some k =>
    show (if nI k < 0 then nI 0 else nI 1) = nI 1
    rw [if_neg (nI_pos (by have := h k rfl; omega))]
theorem num_le {lt : Nat → Int32} {ln p d p2 : Nat} (h : num_ lt ln p = .inl (d, p2)) : p < p2 ∧ p2 ≤ ln ∧ d ≤ 99 := by
  unfold num_ at h
  cases h1 : dgt_ lt ln p with
  | inr e => rw [h1] at h; cases h
  | inl q =>
    obtain ⟨a, p1⟩ := q
    rw [h1] at h
    have h2 := dgt_le h1
    dsimp only [bR_] at h
    split at h
    · rename_i hc
      have := isd_lt hc
      obtain ⟨d2, d1, -, d3, -⟩ := isd_nat hc
      cases h
      exact ⟨by omega, by omega, by omega⟩
    · cases h
      exact ⟨by omega, by omega, by omega⟩
/-- an object that holds a statement that began at p -/
def tos_ (ty : ty_) (mi : mi_) (mr : mr_) (x g : Nat) (f : Nat → Nat) : Prop := ty g = some (.inl 25) ∧ mr g 0 = some (x + 9 + f 1) ∧ f 1 < 6 ∧ mi g 1 = nI (f 0) ∧ mi g 2 = nI (f 2) ∧ mi g 3 = nI (f 3) ∧ mi g 4 = nI (f 4) ∧ mi g 5 = nI (f 5) ∧ x + 62 ≤ g ∧ f 0 ≤ 9 ∧ f 2 ≤ 9
def told_ (ty : ty_) (mi : mi_) (mr : mr_) (x q p : Nat) (t : tk_) : Prop := mi q 0 = nI p ∧ ((t.1 = 0 ∧ ty q = some (.inl 22) ∧ mi q 1 = nI (t.2 0) ∧ t.2 0 ≤ 99) ∨ (t.1 = 3 ∧ ty q = some (.inl 23) ∧ mi q 1 = nI (t.2 0) ∧ t.2 0 ≤ 99) ∨ (t.1 = 1 ∧ ty q = some (.inl 24) ∧ ∃ g, mr q 1 = some g ∧ tos_ ty mi mr x g t.2) ∨ (t.1 = 2 ∧ ty q = some (.inl 26) ∧ mr q 1 = some (x + 2 + t.2 0) ∧ t.2 0 < 6 ∧ mi q 2 = nI (t.2 1) ∧ t.2 1 ≤ 9))
def qT_ (r : R_ tk_) (x R s : Nat) (σ : so_) : Outcome → so_ → Prop := fun o σ2 => match r with
  | .inl (t, p2) => ∃ q : Nat, o = .returned (some (.ref q)) ∧ told_ σ2.1 σ2.2.1 σ2.2.2.1 x q s t ∧ σ2.2.1 R 1 = nI p2 ∧ (∀ a, a < σ.2.2.2 → σ2.1 a = σ.1 a) ∧ (∀ a j, a < σ.2.2.2 → ¬ (a = R ∧ j = 1) → σ2.2.1 a j = σ.2.1 a j ∧ σ2.2.2.1 a j = σ.2.2.1 a j) ∧ σ.2.2.2 ≤ σ2.2.2.2 ∧ ∀ a t, σ2.1 a = some t → a < σ2.2.2.2
  | .inr e => tx_ R (ng_ (1000 + e)) σ o σ2
theorem qT_err {r : R_ tk_} {x R s e : Nat} {σ : so_} {o : Outcome} {σ2 : so_} (h : r = .inr e) (ht : tx_ R (ng_ (1000 + e)) σ o σ2) : qT_ r x R s σ o σ2 := by subst h; exact ht
theorem rd_.ty {ty ty2 : ty_} {mi : mi_} {mr : mr_} {x R n : Nat} {lt : Nat → Int32} {ln p : Nat} (h : rd_ ty mi mr x R lt ln p) (hT : ∀ a, a < n → ty2 a = ty a) (hR : R < n) : rd_ ty2 mi mr x R lt ln p := by
  obtain ⟨h1, h2, h3, h4, h5, h6, h7, h8, h9, h10, h11⟩ := h
  exact ⟨(hT _ hR).trans h1, h2, h3, h4, (hT _ (by omega)).trans h5, h6, (hT _ (by omega)).trans h7, h8, h9, h10, h11⟩
section KTT
variable {l : Launch} {D : dd_} {b : Nat} {M : mc_} {Q : Outcome → so_ → Prop} {cc : ByteArray} {pc : Nat} {ls : List (Option Value)} {rest : List Value} {kc ks : Nat} {x R s : Nat} {σ : so_}
theorem kr_T {r : R_ tk_} (k : ∀ t p2 q σ2, r = .inl (t, p2) → told_ σ2.1 σ2.2.1 σ2.2.2.1 x q s t → σ2.2.1 R 1 = nI p2 → (∀ a, a < σ.2.2.2 → σ2.1 a = σ.1 a) → (∀ a j, a < σ.2.2.2 → ¬ (a = R ∧ j = 1) → σ2.2.1 a j = σ.2.1 a j ∧ σ2.2.2.1 a j = σ.2.2.1 a j) → σ.2.2.2 ≤ σ2.2.2.2 → (∀ a t, σ2.1 a = some t → a < σ2.2.2.2) → G_ l D b M Q cc pc ls (.ref q :: rest) σ2 kc ks) : ∀ (v : Option Value) (σ2 : so_), qT_ r x R s σ (.returned v) σ2 → G_ l D b M Q cc pc ls (v.toList ++ rest) σ2 kc ks := by
  intro v σ2 h
  unfold qT_ at h
  rcases r with ⟨t, p⟩ | e
  · obtain ⟨q, h1, h2, h3, h4, h5, h6, h7⟩ := h
    cases h1
    exact k t p q σ2 rfl h2 h3 h4 h5 h6 h7
  · obtain ⟨a, h1, -⟩ := h
    cases h1
theorem kt_T {r : R_ tk_} (k : ∀ e, r = .inr e → ∀ o σ2, tx_ R (ng_ (1000 + e)) σ o σ2 → Q o σ2) : ∀ (z : Nat) (σ2 : so_), qT_ r x R s σ (.threw z) σ2 → Q (.threw z) σ2 := by
  intro z σ2 h
  unfold qT_ at h
  rcases r with ⟨t, p⟩ | e
  · obtain ⟨q, h1, -⟩ := h
    cases h1
  · exact k e rfl _ _ h
end KTT
section TOLD
variable {l : Launch} {D : dd_} {b : Nat} {ty : ty_} {mi : mi_} {mr : mr_} {n x R q g s : Nat} {lt : Nat → Int32} {ln p : Nat} {c : Int32}
theorem ct_goerOf : CT_ l D b yX19_goerOf hX19_goerOf (rm_ 0 0 0) [.ref R, .int c] (ty, mi, mr, n) (qi_ (oN_ (gof_ c)) (ty, mi, mr, n)) := by
  refine ct_of [some (.ref R), some (.int c)] (by decide) rfl rfl ?_
  refine go_iload_n dX19_goerOf_0 rfl ?_
  unfold gof_
  by_cases h0 : c = nI 97
  · subst h0
    refine go_lookup (off := 59) (tgt := 60) dX19_goerOf_1 (by decide) (by decide) (by decide) ?_
    refine go_iconst (v := nI 0) dX19_goerOf_60 (by decide) ?_
    refine go_iret rfl dX19_goerOf_61 (Nat.le_of_ble_eq_true rfl) (Nat.le_of_ble_eq_true rfl) ?_
    exact ⟨rfl, rfl⟩
  rw [if_neg h0]
  by_cases h1 : c = nI 110
  · subst h1
    refine go_lookup (off := 61) (tgt := 62) dX19_goerOf_1 (by decide) (by decide) (by decide) ?_
    refine go_iconst (v := nI 1) dX19_goerOf_62 (by decide) ?_
    refine go_iret rfl dX19_goerOf_63 (Nat.le_of_ble_eq_true rfl) (Nat.le_of_ble_eq_true rfl) ?_
    exact ⟨rfl, rfl⟩
  rw [if_neg h1]
  by_cases h2 : c = nI 114
  · subst h2
    refine go_lookup (off := 63) (tgt := 64) dX19_goerOf_1 (by decide) (by decide) (by decide) ?_
    refine go_iconst (v := nI 2) dX19_goerOf_64 (by decide) ?_
    refine go_iret rfl dX19_goerOf_65 (Nat.le_of_ble_eq_true rfl) (Nat.le_of_ble_eq_true rfl) ?_
    exact ⟨rfl, rfl⟩
  rw [if_neg h2]
  by_cases h3 : c = nI 104
  · subst h3
    refine go_lookup (off := 65) (tgt := 66) dX19_goerOf_1 (by decide) (by decide) (by decide) ?_
    refine go_iconst (v := nI 3) dX19_goerOf_66 (by decide) ?_
    refine go_iret rfl dX19_goerOf_67 (Nat.le_of_ble_eq_true rfl) (Nat.le_of_ble_eq_true rfl) ?_
    exact ⟨rfl, rfl⟩
  rw [if_neg h3]
  by_cases h4 : c = nI 117
  · subst h4
    refine go_lookup (off := 67) (tgt := 68) dX19_goerOf_1 (by decide) (by decide) (by decide) ?_
    refine go_iconst (v := nI 4) dX19_goerOf_68 (by decide) ?_
    refine go_iret rfl dX19_goerOf_69 (Nat.le_of_ble_eq_true rfl) (Nat.le_of_ble_eq_true rfl) ?_
    exact ⟨rfl, rfl⟩
  rw [if_neg h4]
  by_cases h5 : c = nI 101
  · subst h5
    refine go_lookup (off := 69) (tgt := 70) dX19_goerOf_1 (by decide) (by decide) (by decide) ?_
    refine go_iconst (v := nI 5) dX19_goerOf_70 (by decide) ?_
    refine go_iret rfl dX19_goerOf_71 (Nat.le_of_ble_eq_true rfl) (Nat.le_of_ble_eq_true rfl) ?_
    exact ⟨rfl, rfl⟩
  rw [if_neg h5]
  have e : Op.lookupswitch.offset [(97, 59), (101, 69), (104, 65), (110, 61), (114, 63), (117, 67)] 71 c.toInt = 71 := by
    rw [Op.lookupswitch.offset_cons, if_neg (show ¬ (97 : Int) = c.toInt from ti_ne (k := 97) (by decide) h0), Op.lookupswitch.offset_cons, if_neg (show ¬ (101 : Int) = c.toInt from ti_ne (k := 101) (by decide) h5), Op.lookupswitch.offset_cons, if_neg (show ¬ (104 : Int) = c.toInt from ti_ne (k := 104) (by decide) h3), Op.lookupswitch.offset_cons, if_neg (show ¬ (110 : Int) = c.toInt from ti_ne (k := 110) (by decide) h1), Op.lookupswitch.offset_cons, if_neg (show ¬ (114 : Int) = c.toInt from ti_ne (k := 114) (by decide) h2), Op.lookupswitch.offset_cons, if_neg (show ¬ (117 : Int) = c.toInt from ti_ne (k := 117) (by decide) h4)]
    rfl
  refine go_lookup (off := 71) (tgt := 72) dX19_goerOf_1 (by decide) (e) (by decide) ?_
  refine go_iconst (v := (-1)) dX19_goerOf_72 (by decide) ?_
  refine go_iret rfl dX19_goerOf_73 (Nat.le_of_ble_eq_true rfl) (Nat.le_of_ble_eq_true rfl) ?_
  exact ⟨rfl, rfl⟩
theorem ct_ruleOf : CT_ l D b yX19_ruleOf hX19_ruleOf (rm_ 0 0 0) [.ref R, .int c] (ty, mi, mr, n) (qi_ (oN_ (rof_ c)) (ty, mi, mr, n)) := by
  refine ct_of [some (.ref R), some (.int c)] (by decide) rfl rfl ?_
  refine go_iload_n dX19_ruleOf_0 rfl ?_
  unfold rof_
  by_cases h0 : c = nI 108
  · subst h0
    refine go_tableIn (off := 91) (tgt := 92) dX19_ruleOf_1 (by decide) (by decide) rfl (by decide) ?_
    refine go_iconst (v := nI 0) dX19_ruleOf_92 (by decide) ?_
    refine go_iret rfl dX19_ruleOf_93 (Nat.le_of_ble_eq_true rfl) (Nat.le_of_ble_eq_true rfl) ?_
    exact ⟨rfl, rfl⟩
  rw [if_neg h0]
  by_cases h1 : c = nI 111
  · subst h1
    refine go_tableIn (off := 93) (tgt := 94) dX19_ruleOf_1 (by decide) (by decide) rfl (by decide) ?_
    refine go_iconst (v := nI 1) dX19_ruleOf_94 (by decide) ?_
    refine go_iret rfl dX19_ruleOf_95 (Nat.le_of_ble_eq_true rfl) (Nat.le_of_ble_eq_true rfl) ?_
    exact ⟨rfl, rfl⟩
  rw [if_neg h1]
  by_cases h2 : c = nI 109
  · subst h2
    refine go_tableIn (off := 95) (tgt := 96) dX19_ruleOf_1 (by decide) (by decide) rfl (by decide) ?_
    refine go_iconst (v := nI 2) dX19_ruleOf_96 (by decide) ?_
    refine go_iret rfl dX19_ruleOf_97 (Nat.le_of_ble_eq_true rfl) (Nat.le_of_ble_eq_true rfl) ?_
    exact ⟨rfl, rfl⟩
  rw [if_neg h2]
  by_cases h3 : c = nI 116
  · subst h3
    refine go_tableIn (off := 97) (tgt := 98) dX19_ruleOf_1 (by decide) (by decide) rfl (by decide) ?_
    refine go_iconst (v := nI 3) dX19_ruleOf_98 (by decide) ?_
    refine go_iret rfl dX19_ruleOf_99 (Nat.le_of_ble_eq_true rfl) (Nat.le_of_ble_eq_true rfl) ?_
    exact ⟨rfl, rfl⟩
  rw [if_neg h3]
  by_cases h4 : c = nI 98
  · subst h4
    refine go_tableIn (off := 99) (tgt := 100) dX19_ruleOf_1 (by decide) (by decide) rfl (by decide) ?_
    refine go_iconst (v := nI 4) dX19_ruleOf_100 (by decide) ?_
    refine go_iret rfl dX19_ruleOf_101 (Nat.le_of_ble_eq_true rfl) (Nat.le_of_ble_eq_true rfl) ?_
    exact ⟨rfl, rfl⟩
  rw [if_neg h4]
  by_cases h5 : c = nI 102
  · subst h5
    refine go_tableIn (off := 101) (tgt := 102) dX19_ruleOf_1 (by decide) (by decide) rfl (by decide) ?_
    refine go_iconst (v := nI 5) dX19_ruleOf_102 (by decide) ?_
    refine go_iret rfl dX19_ruleOf_103 (Nat.le_of_ble_eq_true rfl) (Nat.le_of_ble_eq_true rfl) ?_
    exact ⟨rfl, rfl⟩
  rw [if_neg h5]
  by_cases hr : c.toInt < 98 ∨ 116 < c.toInt
  · refine go_tableOut (tgt := 104) dX19_ruleOf_1 (hr) (by decide) ?_
    refine go_iconst (v := (-1)) dX19_ruleOf_104 (by decide) ?_
    refine go_iret rfl dX19_ruleOf_105 (Nat.le_of_ble_eq_true rfl) (Nat.le_of_ble_eq_true rfl) ?_
    exact ⟨rfl, rfl⟩
  · have hc : ¬ c < 0 := fun z => by
      have := Int32.lt_iff_toInt_lt.mp z
      have e : (0 : Int32).toInt = 0 := rfl
      omega
    obtain ⟨j, hj, hj2⟩ := nI_of hc
    subst hj2
    rw [nI_toInt hj] at hr
    have n0 : j ≠ 108 := fun z => h0 (by rw [z])
    have n1 : j ≠ 111 := fun z => h1 (by rw [z])
    have n2 : j ≠ 109 := fun z => h2 (by rw [z])
    have n3 : j ≠ 116 := fun z => h3 (by rw [z])
    have n4 : j ≠ 98 := fun z => h4 (by rw [z])
    have n5 : j ≠ 102 := fun z => h5 (by rw [z])
    have hat : (#[99, 103, 103, 103, 101, 103, 103, 103, 103, 103, 91, 95, 103, 93, 103, 103, 103, 103, 97] : Array Int)[((nI j).toInt - 98).toNat]? = some 103 := by
      rw [nI_toInt hj]
      have : j = 99 ∨ j = 100 ∨ j = 101 ∨ j = 103 ∨ j = 104 ∨ j = 105 ∨ j = 106 ∨ j = 107 ∨ j = 110 ∨ j = 112 ∨ j = 113 ∨ j = 114 ∨ j = 115 := by omega
      rcases this with rfl | rfl | rfl | rfl | rfl | rfl | rfl | rfl | rfl | rfl | rfl | rfl | rfl <;> rfl
    refine go_tableIn (off := 103) (tgt := 104) dX19_ruleOf_1 (by rw [nI_toInt hj]; omega) (by rw [nI_toInt hj]; omega) hat (by decide) ?_
    refine go_iconst (v := (-1)) dX19_ruleOf_104 (by decide) ?_
    refine go_iret rfl dX19_ruleOf_105 (Nat.le_of_ble_eq_true rfl) (Nat.le_of_ble_eq_true rfl) ?_
    exact ⟨rfl, rfl⟩
theorem ct_told22 {z : Int32} (hT : ty q = some (.inl 22)) : CT_ l D b yX21_init hX21_init (rm_ 1 0 0) [.ref q, .int z] (ty, mi, mr, n) (qv_ (ty, um_ mi q 0 z, mr, n)) := by
  refine ct_of [some (.ref q), some (.int z)] (by decide) rfl rfl ?_
  refine go_aload_n dX21_init_0 rfl ?_
  refine go_obj q541 dX21_init_1 (Nat.le_of_ble_eq_true rfl) (Nat.le_of_ble_eq_true rfl) (Nat.le_of_ble_eq_true rfl) ?_
  refine go_aload_n dX21_init_4 rfl ?_
  refine go_iload_n dX21_init_5 rfl ?_
  refine go_putI fX21_7_22 p22_0 rfl rfl rfl dX21_init_6 (by assumption) ?_
  refine go_vret rfl dX21_init_9 (Nat.le_of_ble_eq_true rfl) (Nat.le_of_ble_eq_true rfl) ?_
  exact ⟨rfl, rfl⟩
theorem ct_told23 {z : Int32} (hT : ty q = some (.inl 23)) : CT_ l D b yX21_init hX21_init (rm_ 1 0 0) [.ref q, .int z] (ty, mi, mr, n) (qv_ (ty, um_ mi q 0 z, mr, n)) := by
  refine ct_of [some (.ref q), some (.int z)] (by decide) rfl rfl ?_
  refine go_aload_n dX21_init_0 rfl ?_
  refine go_obj q541 dX21_init_1 (Nat.le_of_ble_eq_true rfl) (Nat.le_of_ble_eq_true rfl) (Nat.le_of_ble_eq_true rfl) ?_
  refine go_aload_n dX21_init_4 rfl ?_
  refine go_iload_n dX21_init_5 rfl ?_
  refine go_putI fX21_7_23 p23_0 rfl rfl rfl dX21_init_6 (by assumption) ?_
  refine go_vret rfl dX21_init_9 (Nat.le_of_ble_eq_true rfl) (Nat.le_of_ble_eq_true rfl) ?_
  exact ⟨rfl, rfl⟩
theorem ct_told24 {z : Int32} (hT : ty q = some (.inl 24)) : CT_ l D b yX21_init hX21_init (rm_ 1 0 0) [.ref q, .int z] (ty, mi, mr, n) (qv_ (ty, um_ mi q 0 z, mr, n)) := by
  refine ct_of [some (.ref q), some (.int z)] (by decide) rfl rfl ?_
  refine go_aload_n dX21_init_0 rfl ?_
  refine go_obj q541 dX21_init_1 (Nat.le_of_ble_eq_true rfl) (Nat.le_of_ble_eq_true rfl) (Nat.le_of_ble_eq_true rfl) ?_
  refine go_aload_n dX21_init_4 rfl ?_
  refine go_iload_n dX21_init_5 rfl ?_
  refine go_putI fX21_7_24 p24_0 rfl rfl rfl dX21_init_6 (by assumption) ?_
  refine go_vret rfl dX21_init_9 (Nat.le_of_ble_eq_true rfl) (Nat.le_of_ble_eq_true rfl) ?_
  exact ⟨rfl, rfl⟩
theorem ct_told26 {z : Int32} (hT : ty q = some (.inl 26)) : CT_ l D b yX21_init hX21_init (rm_ 1 0 0) [.ref q, .int z] (ty, mi, mr, n) (qv_ (ty, um_ mi q 0 z, mr, n)) := by
  refine ct_of [some (.ref q), some (.int z)] (by decide) rfl rfl ?_
  refine go_aload_n dX21_init_0 rfl ?_
  refine go_obj q541 dX21_init_1 (Nat.le_of_ble_eq_true rfl) (Nat.le_of_ble_eq_true rfl) (Nat.le_of_ble_eq_true rfl) ?_
  refine go_aload_n dX21_init_4 rfl ?_
  refine go_iload_n dX21_init_5 rfl ?_
  refine go_putI fX21_7_26 p26_0 rfl rfl rfl dX21_init_6 (by assumption) ?_
  refine go_vret rfl dX21_init_9 (Nat.le_of_ble_eq_true rfl) (Nat.le_of_ble_eq_true rfl) ?_
  exact ⟨rfl, rfl⟩
theorem ct_numberTold22 {z y : Int32} (hT : ty q = some (.inl 22)) : CT_ l D b yX22_init hX22_init (rm_ 2 0 0) [.ref q, .int z, .int y] (ty, mi, mr, n) (qv_ (ty, um_ (um_ mi q 0 z) q 1 y, mr, n)) := by
  refine ct_of [some (.ref q), some (.int z), some (.int y)] (by decide) rfl rfl ?_
  refine go_aload_n dX22_init_0 rfl ?_
  refine go_iload_n dX22_init_1 rfl ?_
  refine go_callI iX22_3 (ct_told22 hT) dX22_init_2 rfl rfl rfl (Nat.le_of_ble_eq_true rfl) (Nat.le_of_ble_eq_true rfl) (Nat.le_of_ble_eq_true rfl) (Nat.le_of_ble_eq_true rfl) (Nat.le_of_ble_eq_true rfl) (kr_v ?_) kt_v
  refine go_aload_n dX22_init_5 rfl ?_
  refine go_iload_n dX22_init_6 rfl ?_
  refine go_putI fX22_9_22 p22_1 rfl rfl rfl dX22_init_7 (by assumption) ?_
  refine go_vret rfl dX22_init_10 (Nat.le_of_ble_eq_true rfl) (Nat.le_of_ble_eq_true rfl) ?_
  exact ⟨rfl, rfl⟩
theorem ct_numberTold23 {z y : Int32} (hT : ty q = some (.inl 23)) : CT_ l D b yX22_init hX22_init (rm_ 2 0 0) [.ref q, .int z, .int y] (ty, mi, mr, n) (qv_ (ty, um_ (um_ mi q 0 z) q 1 y, mr, n)) := by
  refine ct_of [some (.ref q), some (.int z), some (.int y)] (by decide) rfl rfl ?_
  refine go_aload_n dX22_init_0 rfl ?_
  refine go_iload_n dX22_init_1 rfl ?_
  refine go_callI iX22_3 (ct_told23 hT) dX22_init_2 rfl rfl rfl (Nat.le_of_ble_eq_true rfl) (Nat.le_of_ble_eq_true rfl) (Nat.le_of_ble_eq_true rfl) (Nat.le_of_ble_eq_true rfl) (Nat.le_of_ble_eq_true rfl) (kr_v ?_) kt_v
  refine go_aload_n dX22_init_5 rfl ?_
  refine go_iload_n dX22_init_6 rfl ?_
  refine go_putI fX22_9_23 p23_1 rfl rfl rfl dX22_init_7 (by assumption) ?_
  refine go_vret rfl dX22_init_10 (Nat.le_of_ble_eq_true rfl) (Nat.le_of_ble_eq_true rfl) ?_
  exact ⟨rfl, rfl⟩
theorem ct_weekTold {z y : Int32} (hT : ty q = some (.inl 23)) : CT_ l D b yX23_init hX23_init (rm_ 3 0 0) [.ref q, .int z, .int y] (ty, mi, mr, n) (qv_ (ty, um_ (um_ mi q 0 z) q 1 y, mr, n)) := by
  refine ct_of [some (.ref q), some (.int z), some (.int y)] (by decide) rfl rfl ?_
  refine go_aload_n dX23_init_0 rfl ?_
  refine go_iload_n dX23_init_1 rfl ?_
  refine go_iload_n dX23_init_2 rfl ?_
  refine go_callI iX23_1 (ct_numberTold23 hT) dX23_init_3 rfl rfl rfl (Nat.le_of_ble_eq_true rfl) (Nat.le_of_ble_eq_true rfl) (Nat.le_of_ble_eq_true rfl) (Nat.le_of_ble_eq_true rfl) (Nat.le_of_ble_eq_true rfl) (kr_v ?_) kt_v
  refine go_vret rfl dX23_init_6 (Nat.le_of_ble_eq_true rfl) (Nat.le_of_ble_eq_true rfl) ?_
  exact ⟨rfl, rfl⟩
theorem ct_sortTold {z : Int32} (hT : ty q = some (.inl 24)) : CT_ l D b yX24_init hX24_init (rm_ 2 0 0) [.ref q, .int z, .ref g] (ty, mi, mr, n) (qv_ (ty, um_ mi q 0 z, ur_ mr q 1 (some g), n)) := by
  refine ct_of [some (.ref q), some (.int z), some (.ref g)] (by decide) rfl rfl ?_
  refine go_aload_n dX24_init_0 rfl ?_
  refine go_iload_n dX24_init_1 rfl ?_
  refine go_callI iX24_3 (ct_told24 hT) dX24_init_2 rfl rfl rfl (Nat.le_of_ble_eq_true rfl) (Nat.le_of_ble_eq_true rfl) (Nat.le_of_ble_eq_true rfl) (Nat.le_of_ble_eq_true rfl) (Nat.le_of_ble_eq_true rfl) (kr_v ?_) kt_v
  refine go_aload_n dX24_init_5 rfl ?_
  refine go_aload_n dX24_init_6 rfl ?_
  refine go_putR (x := some _) fX24_9_24 p24_1 rfl rfl rfl rfl dX24_init_7 (by assumption) ?_
  refine go_vret rfl dX24_init_10 (Nat.le_of_ble_eq_true rfl) (Nat.le_of_ble_eq_true rfl) ?_
  exact ⟨rfl, rfl⟩
theorem ct_ruleTold {z y : Int32} (hT : ty q = some (.inl 26)) : CT_ l D b yX26_init hX26_init (rm_ 2 0 0) [.ref q, .int z, .ref g, .int y] (ty, mi, mr, n) (qv_ (ty, um_ (um_ mi q 0 z) q 2 y, ur_ mr q 1 (some g), n)) := by
  refine ct_of [some (.ref q), some (.int z), some (.ref g), some (.int y)] (by decide) rfl rfl ?_
  refine go_aload_n dX26_init_0 rfl ?_
  refine go_iload_n dX26_init_1 rfl ?_
  refine go_callI iX26_3 (ct_told26 hT) dX26_init_2 rfl rfl rfl (Nat.le_of_ble_eq_true rfl) (Nat.le_of_ble_eq_true rfl) (Nat.le_of_ble_eq_true rfl) (Nat.le_of_ble_eq_true rfl) (Nat.le_of_ble_eq_true rfl) (kr_v ?_) kt_v
  refine go_aload_n dX26_init_5 rfl ?_
  refine go_aload_n dX26_init_6 rfl ?_
  refine go_putR (x := some _) fX26_9_26 p26_1 rfl rfl rfl rfl dX26_init_7 (by assumption) ?_
  refine go_aload_n dX26_init_10 rfl ?_
  refine go_iload_n dX26_init_11 rfl ?_
  refine go_putI fX26_15_26 p26_2 rfl rfl rfl dX26_init_12 (by assumption) ?_
  refine go_vret rfl dX26_init_15 (Nat.le_of_ble_eq_true rfl) (Nat.le_of_ble_eq_true rfl) ?_
  exact ⟨rfl, rfl⟩
end TOLD
