/-! LETTERS READ: what is read, no program in sight; then the Reader's small methods -/
set_option maxRecDepth 100000
abbrev R_ (α : Type) : Type := (α × Nat) ⊕ Nat
def bR_ {α β : Type} (r : R_ α) (k : α → Nat → R_ β) : R_ β := match r with
  | .inl (a, p) => k a p
  | .inr e => .inr e
def hr_ (lt : Nat → Int32) (ln p : Nat) : Int32 := if p < ln then lt p else -1
def isd_ (c : Int32) : Bool := in_ c (nI 48) (nI 57)
def dgt_ (lt : Nat → Int32) (ln p : Nat) : R_ Nat := if isd_ (hr_ lt ln p) = true then .inl ((hr_ lt ln p).toNatClampNeg - 48, p + 1) else .inr p
def exp_ (lt : Nat → Int32) (ln : Nat) (c : Int32) (p : Nat) : R_ Unit := if hr_ lt ln p = c then .inl ((), p + 1) else .inr p
def num_ (lt : Nat → Int32) (ln p : Nat) : R_ Nat := bR_ (dgt_ lt ln p) (fun v p1 => if isd_ (hr_ lt ln p1) = true then .inl (10 * v + ((hr_ lt ln p1).toNatClampNeg - 48), p1 + 1) else .inl (v, p1))
def bof_ (c : Int32) : Option Nat := if c = nI 99 then some 0 else if c = nI 115 then some 1 else if c = nI 114 then some 2 else if c = nI 119 then some 3 else none
def gof_ (c : Int32) : Option Nat := if c = nI 97 then some 0 else if c = nI 110 then some 1 else if c = nI 114 then some 2 else if c = nI 104 then some 3 else if c = nI 117 then some 4 else if c = nI 101 then some 5 else none
def rof_ (c : Int32) : Option Nat := if c = nI 108 then some 0 else if c = nI 111 then some 1 else if c = nI 109 then some 2 else if c = nI 116 then some 3 else if c = nI 98 then some 4 else if c = nI 102 then some 5 else none
def one_ (f : Int32 → Option Nat) (lt : Nat → Int32) (ln p : Nat) : R_ Nat := match f (hr_ lt ln p) with
  | some k => .inl (k, p + 1)
  | none => .inr p
/-- a statement: its kind (chairs, sort, rule, week), its fields -/
abbrev tk_ : Type := Nat × (Nat → Nat)
def fd_ (a b c d e f : Nat) : Nat → Nat := fun k => match k with
  | 0 => a
  | 1 => b
  | 2 => c
  | 3 => d
  | 4 => e
  | _ => f
def srt_ (lt : Nat → Int32) (ln p : Nat) : R_ (Nat → Nat) :=
  bR_ (dgt_ lt ln p) fun a p1 => bR_ (one_ gof_ lt ln p1) fun g p2 => bR_ (dgt_ lt ln p2) fun c p3 => bR_ (exp_ lt ln (nI 44) p3) fun _ p4 => bR_ (dgt_ lt ln p4) fun d p5 => bR_ (dgt_ lt ln p5) fun e p6 => bR_ (dgt_ lt ln p6) fun f p7 => .inl (fd_ a g c d e f, p7)
def rul_ (lt : Nat → Int32) (ln p : Nat) : R_ (Nat → Nat) := bR_ (one_ rof_ lt ln p) fun g p1 => bR_ (dgt_ lt ln p1) fun d p2 => .inl (fd_ g d 0 0 0 0, p2)
def nmb_ (lt : Nat → Int32) (ln p : Nat) : R_ (Nat → Nat) := bR_ (num_ lt ln p) fun d p1 => .inl (fd_ d 0 0 0 0 0, p1)
def stm_ (lt : Nat → Int32) (ln p : Nat) : R_ tk_ := bR_ (one_ bof_ lt ln p) fun k p1 => bR_ (if k = 1 then srt_ lt ln p1 else if k = 2 then rul_ lt ln p1 else nmb_ lt ln p1) fun f p2 => bR_ (exp_ lt ln (nI 59) p2) fun _ p3 => .inl ((k, f), p3)
theorem isd_nat {c : Int32} (h : isd_ c = true) : ∃ d, d ≤ 9 ∧ c = nI (48 + d) ∧ c.toNatClampNeg - 48 = d ∧ c - nI 48 = nI d := by
  unfold isd_ in_ at h
  rw [Bool.and_eq_true, decide_eq_true_eq, decide_eq_true_eq] at h
  have h0 : ¬ c < 0 := fun z => by
    have := Int32.le_trans h.1 (Int32.le_of_lt z)
    exact absurd this (by decide)
  obtain ⟨j, h1, h2⟩ := nI_of2 (M := nI 57) (n := 57) rfl h0 h.2
  subst h2
  have h3 := (nI_leI (by omega) (by omega)).mp h.1
  have e : 48 + (j - 48) = j := by omega
  exact ⟨j - 48, by omega, by rw [e], by rw [nI_cl (by omega)], pk_sub h3⟩
theorem hr_lt {lt : Nat → Int32} {ln p : Nat} {c : Int32} (hc : ¬ c = -1) (h : hr_ lt ln p = c) : p < ln := by
  unfold hr_ at h
  by_cases h2 : p < ln
  · exact h2
  · rw [if_neg h2] at h
    exact absurd h.symm hc
theorem isd_lt {lt : Nat → Int32} {ln p : Nat} (h : isd_ (hr_ lt ln p) = true) : p < ln := by
  by_cases h2 : p < ln
  · exact h2
  · unfold hr_ at h
    rw [if_neg h2] at h
    exact absurd h (by decide)
def ng_ (e : Nat) : Int32 := -(nI e)
theorem ng_sub (a p : Nat) : ng_ a - nI p = ng_ (a + p) := by
  unfold ng_
  rw [← nI_add, Int32.neg_add, Int32.sub_eq_add_neg]
/-- it throws; but for (R, 1) what was stays -/
def tx_ (R : Nat) (z : Int32) (σ : so_) (o : Outcome) (σ2 : so_) : Prop := ∃ a : Nat, o = .threw a ∧ (σ2.1 a = some (.inl 18) ∨ σ2.1 a = some (.inl 20)) ∧ σ2.2.1 a 6 = z ∧ (∀ a, a < σ.2.2.2 → σ2.1 a = σ.1 a) ∧ (∀ a j, a < σ.2.2.2 → ¬ (a = R ∧ j = 1) → σ2.2.1 a j = σ.2.1 a j ∧ σ2.2.2.1 a j = σ.2.2.1 a j) ∧ σ.2.2.2 ≤ σ2.2.2.2 ∧ ∀ a t, σ2.1 a = some t → a < σ2.2.2.2
theorem tx_.tr {R : Nat} {z : Int32} {σ σ1 : so_} {o : Outcome} {σ2 : so_} (h : tx_ R z σ1 o σ2) (h1 : ∀ a, a < σ.2.2.2 → σ1.1 a = σ.1 a) (h2 : ∀ a j, a < σ.2.2.2 → ¬ (a = R ∧ j = 1) → σ1.2.1 a j = σ.2.1 a j ∧ σ1.2.2.1 a j = σ.2.2.1 a j) (h3 : σ.2.2.2 ≤ σ1.2.2.2) : tx_ R z σ o σ2 := by
  obtain ⟨a, g1, g2, g3, g4, g5, g6, g7⟩ := h
  exact ⟨a, g1, g2, g3, fun a ha => (g4 a (by omega)).trans (h1 a ha), fun a j ha hj => ⟨(g5 a j (by omega) hj).1.trans (h2 a j ha hj).1, (g5 a j (by omega) hj).2.trans (h2 a j ha hj).2⟩, by omega, g7⟩
theorem um_R {mi : mi_} {R a j : Nat} {z : Int32} (h : ¬ (a = R ∧ j = 1)) : um_ mi R 1 z a j = mi a j := if_neg h
theorem um_um {mi : mi_} {R k : Nat} {y z : Int32} : um_ (um_ mi R k y) R k z = um_ mi R k z := by
  funext a j
  unfold um_
  split <;> rfl
theorem tx_.um {R n : Nat} {z y : Int32} {ty : ty_} {mi : mi_} {mr : mr_} {o : Outcome} {σ2 : so_} (h : tx_ R z (ty, um_ mi R 1 y, mr, n) o σ2) : tx_ R z (ty, mi, mr, n) o σ2 := h.tr (fun _ _ => rfl) (fun a j _ h => ⟨um_R h, rfl⟩) (Nat.le_refl _)
def qf_ (c : Bool) (z : Int32) (R : Nat) (σ : so_) : Outcome → so_ → Prop := fun o σ2 => if c = true then o = .returned none ∧ σ2 = σ else tx_ R z σ o σ2
def qR_ {α : Type} (r : R_ α) (val : α → Option Value) (R : Nat) (ty : ty_) (mi : mi_) (mr : mr_) (n : Nat) : Outcome → so_ → Prop := fun o σ2 => match r with
  | .inl (a, p) => o = .returned (val a) ∧ σ2 = (ty, um_ mi R 1 (nI p), mr, n)
  | .inr e => tx_ R (ng_ (1000 + e)) (ty, mi, mr, n) o σ2
section KR
variable {l : Launch} {D : dd_} {b : Nat} {M : mc_} {Q : Outcome → so_ → Prop} {cc : ByteArray} {pc : Nat} {ls : List (Option Value)} {rest : List Value} {kc ks : Nat} {ty : ty_} {mi : mi_} {mr : mr_} {n R : Nat} {σ : so_}
theorem kr_f {c : Bool} {z : Int32} (k : c = true → G_ l D b M Q cc pc ls rest σ kc ks) : ∀ (v : Option Value) (σ2 : so_), qf_ c z R σ (.returned v) σ2 → G_ l D b M Q cc pc ls (v.toList ++ rest) σ2 kc ks := by
  intro v σ2 h
  unfold qf_ at h
  cases c with
  | true =>
    rw [if_pos rfl] at h
    obtain ⟨h1, rfl⟩ := h
    cases h1
    exact k rfl
  | false =>
    rw [if_neg (by decide)] at h
    obtain ⟨a, h1, -⟩ := h
    cases h1
theorem kt_f {c : Bool} {z : Int32} (k : c = false → ∀ o σ2, tx_ R z σ o σ2 → Q o σ2) : ∀ (x : Nat) (σ2 : so_), qf_ c z R σ (.threw x) σ2 → Q (.threw x) σ2 := by
  intro x σ2 h
  unfold qf_ at h
  cases c with
  | true =>
    rw [if_pos rfl] at h
    cases h.1
  | false =>
    rw [if_neg (by decide)] at h
    exact k rfl _ _ h
theorem kr_R {α : Type} {r : R_ α} {val : α → Option Value} (k : ∀ a p, r = .inl (a, p) → G_ l D b M Q cc pc ls ((val a).toList ++ rest) (ty, um_ mi R 1 (nI p), mr, n) kc ks) : ∀ (v : Option Value) (σ2 : so_), qR_ r val R ty mi mr n (.returned v) σ2 → G_ l D b M Q cc pc ls (v.toList ++ rest) σ2 kc ks := by
  intro v σ2 h
  unfold qR_ at h
  rcases r with ⟨a, p⟩ | e
  · obtain ⟨h1, rfl⟩ := h
    cases h1
    exact k a p rfl
  · obtain ⟨a, h1, -⟩ := h
    cases h1
theorem kt_R {α : Type} {r : R_ α} {val : α → Option Value} (k : ∀ e, r = .inr e → ∀ o σ2, tx_ R (ng_ (1000 + e)) (ty, mi, mr, n) o σ2 → Q o σ2) : ∀ (x : Nat) (σ2 : so_), qR_ r val R ty mi mr n (.threw x) σ2 → Q (.threw x) σ2 := by
  intro x σ2 h
  unfold qR_ at h
  rcases r with ⟨a, p⟩ | e
  · cases h.1
  · exact k e rfl _ _ h
end KR
def vN_ (d : Nat) : Option Value := some (.int (nI d))
def vU_ (_ : Unit) : Option Value := none
def rd_ (ty : ty_) (mi : mi_) (mr : mr_) (x R : Nat) (lt : Nat → Int32) (ln p : Nat) : Prop := ty R = some (.inl 19) ∧ mi R 0 = nI ln ∧ mi R 1 = nI p ∧ mr R 2 = some x ∧ ty x = some (.inl 0) ∧ mr x 8 = some (x + 40) ∧ ty (x + 40) = some (.inr (.char, 80)) ∧ (∀ k, k < ln → mi (x + 40) k = lt k) ∧ ln ≤ 80 ∧ p ≤ 80 ∧ x + 62 ≤ R
theorem rd_.um {ty : ty_} {mi : mi_} {mr : mr_} {x R : Nat} {lt : Nat → Int32} {ln p p2 : Nat} (h : rd_ ty mi mr x R lt ln p) (hp : p2 ≤ 80) : rd_ ty (um_ mi R 1 (nI p2)) mr x R lt ln p2 := by
  obtain ⟨h1, h2, h3, h4, h5, h6, h7, h8, h9, h10, h11⟩ := h
  exact ⟨h1, (um_k (by decide)).trans h2, um_s, h4, h5, h6, h7, fun k hk => (um_a (by omega)).trans (h8 k hk), h9, hp, h11⟩
section READER
variable {l : Launch} {D : dd_} {b : Nat} {ty : ty_} {mi : mi_} {mr : mr_} {n x R : Nat} {lt : Nat → Int32} {ln p : Nat}
theorem ct_here (h : rd_ ty mi mr x R lt ln p) : CT_ l D b yX19_here hX19_here (rm_ 0 0 0) [.ref R] (ty, mi, mr, n) (qi_ (hr_ lt ln p) (ty, mi, mr, n)) := by
  obtain ⟨h1, h2, h3, h4, h5, h6, h7, h8, h9, h10, h11⟩ := h
  refine ct_of [some (.ref R)] (by decide) rfl rfl ?_
  refine go_aload_n dX19_here_0 rfl ?_
  refine go_getI fX19_22_19 dX19_here_1 (by assumption) rfl ?_
  rw [h3]
  refine go_aload_n dX19_here_4 rfl ?_
  refine go_getI fX19_19_19 dX19_here_5 (by assumption) rfl ?_
  rw [h2]
  refine go_icmp_ge (tgt := 26) dX19_here_8 (by decide) (fun h => ?_) (fun h => ?_)
  · have hp : ¬ p < ln := fun z => absurd h (nI_ge z (by omega))
    refine go_iconst (v := (-1)) dX19_here_26 (by decide) ?_
    refine go_iret rfl dX19_here_27 (Nat.le_of_ble_eq_true rfl) (Nat.le_of_ble_eq_true rfl) ?_
    refine ⟨?_, rfl⟩
    unfold hr_
    rw [if_neg hp]
  · have hp : p < ln := by
      by_cases h9 : p < ln
      · exact h9
      · exact absurd (nI_le (by omega) (by omega)) h
    refine go_aload_n dX19_here_11 rfl ?_
    refine go_getR fX19_1_19 dX19_here_12 (by assumption) rfl (by assumption) ?_
    refine go_getR fX19_25_0 dX19_here_15 (by assumption) rfl (by assumption) ?_
    refine go_aload_n dX19_here_18 rfl ?_
    refine go_getI fX19_22_19 dX19_here_19 (by assumption) rfl ?_
    rw [h3]
    refine go_cald dX19_here_22 (by assumption) ⟨rfl, by omega, by decide⟩ ?_
    refine go_goto (tgt := 27) dX19_here_23 (by decide) ?_
    refine go_iret rfl dX19_here_27 (Nat.le_of_ble_eq_true rfl) (Nat.le_of_ble_eq_true rfl) ?_
    refine ⟨?_, rfl⟩
    unfold hr_
    rw [if_pos hp, h8 p hp]
theorem ct_mustStand {c : Bool} (h : rd_ ty mi mr x R lt ln p) : CT_ l D b yX19_mustStand hX19_mustStand (rm_ 7 1 7) [.ref R, .int (bo_ c)] (ty, mi, mr, n) (qf_ c (ng_ (1000 + p)) R (ty, mi, mr, n)) := by
  obtain ⟨h1, h2, h3, h4, h5, h6, h7, h8, h9, h10, h11⟩ := h
  refine ct_of [some (.ref R), some (.int (bo_ c))] (by decide) rfl rfl ?_
  refine go_iload_n dX19_mustStand_0 rfl ?_
  unfold qf_
  refine go_if_ne (tgt := 20) dX19_mustStand_1 (by decide) (fun h => ?_) (fun h => ?_)
  · have hp : c = true := by
      cases c with
      | true => rfl
      | false => exact absurd rfl h
    refine go_vret rfl dX19_mustStand_20 (Nat.le_of_ble_eq_true rfl) (Nat.le_of_ble_eq_true rfl) ?_
    rw [if_pos hp]
    exact ⟨rfl, rfl⟩
  · have hp := bo_0.mp h
    refine go_facts (fun hz hl hb => ?_)
    refine go_new (c := 20) rfl q502 q99 dX19_mustStand_4 (Nat.le_of_ble_eq_true rfl) (Nat.le_of_ble_eq_true rfl) ?_
    have hR : R < n := (hl _ _ h1).2
    have hT : ut_ ty n (.inl 20) n = some (.inl 20) := ut_s
    have hT2 : ut_ ty n (.inl 20) R = some (.inl 19) := (ut_a (by omega)).trans h1
    refine go_dup dX19_mustStand_7 rfl ?_
    refine go_sipush (v := (-1000)) dX19_mustStand_8 (by decide) ?_
    refine go_aload_n dX19_mustStand_11 rfl ?_
    refine go_getI fX19_22_19 dX19_mustStand_12 (by assumption) rfl ?_
    rw [h3]
    refine go_isub dX19_mustStand_15 ?_
    refine go_callI iX19_31 (ct_fault hT (hz n 4 (Nat.le_refl _)).2) dX19_mustStand_16 rfl rfl rfl (Nat.le_of_ble_eq_true rfl) (Nat.le_of_ble_eq_true rfl) (Nat.le_of_ble_eq_true rfl) (Nat.le_of_ble_eq_true rfl) (Nat.le_of_ble_eq_true rfl) (fun v σ2 hq => ?_) (fun x σ2 hq => ?_)
    · obtain ⟨mr2, g1, rfl, g3⟩ := hq
      cases g1
      refine go_athrow rfl dX19_mustStand_19 (Nat.le_of_ble_eq_true rfl) (Nat.le_of_ble_eq_true rfl) ?_
      rw [if_neg (by rw [hp]; decide)]
      refine ⟨n, rfl, Or.inr hT, um_s.trans ?_, fun a ha => ut_a (Nat.ne_of_lt ha), fun a j ha _ => ⟨um_a (Nat.ne_of_lt ha), g3 a j (Nat.ne_of_lt ha)⟩, Nat.le_succ _, fun a t ht => ?_⟩
      · show (-1000 : Int32) - nI p = ng_ (1000 + p)
        rw [← ng_sub]
        rfl
      · by_cases h2 : a = n
        · subst h2; exact Nat.lt_succ_self _
        · have ht : ut_ ty n (.inl 20) a = some t := ht
          rw [ut_a h2] at ht
          exact Nat.lt_succ_of_lt (hl a t ht).2
    · obtain ⟨mr2, g1, -⟩ := hq
      cases g1
theorem ct_digit (h : rd_ ty mi mr x R lt ln p) : CT_ l D b yX19_digit hX19_digit (rm_ 8 1 7) [.ref R] (ty, mi, mr, n) (qR_ (dgt_ lt ln p) vN_ R ty mi mr n) := by
  have h0 := h
  obtain ⟨h1, h2, h3, h4, h5, h6, h7, h8, h9, h10, h11⟩ := h
  refine ct_of [some (.ref R)] (by decide) rfl rfl ?_
  refine go_aload_n dX19_digit_0 rfl ?_
  refine go_aload_n dX19_digit_1 rfl ?_
  refine go_callV vX19_34_19 (ct_here h0) dX19_digit_2 (by assumption) rfl rfl rfl rfl rfl (Nat.le_of_ble_eq_true rfl) (Nat.le_of_ble_eq_true rfl) (Nat.le_of_ble_eq_true rfl) (Nat.le_of_ble_eq_true rfl) (Nat.le_of_ble_eq_true rfl) (kr_i ?_) kt_i
  refine go_i2l dX19_digit_5 ?_
  refine go_ldc2 q530 dX19_digit_6 ?_
  refine go_topl (show (48 : Int64) = (nI 48).toInt64 by decide) ?_
  refine go_ldc2 q531 dX19_digit_9 ?_
  refine go_topl (show (57 : Int64) = (nI 57).toInt64 by decide) ?_
  refine go_callS sX19_46 (ct_in (d := 0)) dX19_digit_12 rfl rfl rfl (Nat.le_of_ble_eq_true rfl) (Nat.le_of_ble_eq_true rfl) (Nat.le_of_ble_eq_true rfl) (Nat.le_of_ble_eq_true rfl) (Nat.le_of_ble_eq_true rfl) (kr_i ?_) kt_i
  refine go_callV vX19_38_19 (ct_mustStand h0 (c := isd_ (hr_ lt ln p))) dX19_digit_15 (by assumption) rfl rfl rfl rfl rfl (Nat.le_of_ble_eq_true rfl) (Nat.le_of_ble_eq_true rfl) (Nat.le_of_ble_eq_true rfl) (Nat.le_of_ble_eq_true rfl) (Nat.le_of_ble_eq_true rfl) (kr_f (fun hc => ?_)) (kt_f (fun hc o σ2 ht => ?_))
  · have hp := isd_lt hc
    obtain ⟨d, d1, d2, d3, d4⟩ := isd_nat hc
    have e1 : dgt_ lt ln p = .inl (d, p + 1) := by
      unfold dgt_
      rw [if_pos hc, d3]
    have e2 : mi (x + 40) p = nI (48 + d) := by
      rw [h8 p hp]
      unfold hr_ at d2
      rw [if_pos hp] at d2
      exact d2
    refine go_aload_n dX19_digit_18 rfl ?_
    refine go_dup dX19_digit_19 rfl ?_
    refine go_getI fX19_22_19 dX19_digit_20 (by assumption) rfl ?_
    rw [h3]
    refine go_iconst (v := nI 1) dX19_digit_23 (by decide) ?_
    refine go_iadd dX19_digit_24 ?_
    rw [nI_add]
    refine go_putI fX19_22_19 p19_1 rfl rfl rfl dX19_digit_25 (by assumption) ?_
    refine go_aload_n dX19_digit_28 rfl ?_
    refine go_getR fX19_1_19 dX19_digit_29 (by assumption) rfl (by assumption) ?_
    refine go_getR fX19_25_0 dX19_digit_32 (by assumption) rfl (by assumption) ?_
    refine go_aload_n dX19_digit_35 rfl ?_
    refine go_getI fX19_22_19 dX19_digit_36 (by assumption) rfl ?_
    rw [um_s]
    refine go_iconst (v := nI 1) dX19_digit_39 (by decide) ?_
    refine go_isub dX19_digit_40 ?_
    rw [pd_1]
    refine go_cald dX19_digit_41 (by assumption) ⟨rfl, by omega, by decide⟩ ?_
    rw [um_a (by omega), e2]
    refine go_bipush (v := nI 48) dX19_digit_42 (by decide) ?_
    refine go_isub dX19_digit_44 ?_
    rw [pk_sub (by omega), Nat.add_sub_cancel_left]
    refine go_iret rfl dX19_digit_45 (Nat.le_of_ble_eq_true rfl) (Nat.le_of_ble_eq_true rfl) ?_
    rw [e1]
    exact ⟨rfl, rfl⟩
  · have e1 : dgt_ lt ln p = .inr p := by
      unfold dgt_
      rw [if_neg (by rw [hc]; decide)]
    rw [e1]
    exact ht
theorem ct_take {c : Int32} (h : rd_ ty mi mr x R lt ln p) : CT_ l D b yX19_take hX19_take (rm_ 8 1 7) [.ref R, .int c] (ty, mi, mr, n) (qR_ (exp_ lt ln c p) vU_ R ty mi mr n) := by
  have h0 := h
  obtain ⟨h1, h2, h3, h4, h5, h6, h7, h8, h9, h10, h11⟩ := h
  refine ct_of [some (.ref R), some (.int c)] (by decide) rfl rfl ?_
  refine go_aload_n dX19_take_0 rfl ?_
  refine go_aload_n dX19_take_1 rfl ?_
  refine go_callV vX19_34_19 (ct_here h0) dX19_take_2 (by assumption) rfl rfl rfl rfl rfl (Nat.le_of_ble_eq_true rfl) (Nat.le_of_ble_eq_true rfl) (Nat.le_of_ble_eq_true rfl) (Nat.le_of_ble_eq_true rfl) (Nat.le_of_ble_eq_true rfl) (kr_i ?_) kt_i
  refine go_iload_n dX19_take_5 rfl ?_
  refine go_ticmp_ne (m := nI 0) (n := nI 1) (t1 := 13) (t2 := 14) dX19_take_6 (by decide) dX19_take_9 (by decide) dX19_take_10 (by decide) dX19_take_13 (by decide) rfl ?_
  have e0 : (if ¬ hr_ lt ln p = c then nI 0 else nI 1) = bo_ (decide (hr_ lt ln p = c)) := by
    by_cases h : hr_ lt ln p = c
    · rw [if_neg (fun z => z h), decide_eq_true h]; rfl
    · rw [if_pos h, decide_eq_false h]; rfl
  rw [e0]
  refine go_callV vX19_38_19 (ct_mustStand h0) dX19_take_14 (by assumption) rfl rfl rfl rfl rfl (Nat.le_of_ble_eq_true rfl) (Nat.le_of_ble_eq_true rfl) (Nat.le_of_ble_eq_true rfl) (Nat.le_of_ble_eq_true rfl) (Nat.le_of_ble_eq_true rfl) (kr_f (fun hc => ?_)) (kt_f (fun hc o σ2 ht => ?_))
  · have e1 : exp_ lt ln c p = .inl ((), p + 1) := by
      unfold exp_
      rw [if_pos (of_decide_eq_true hc)]
    refine go_aload_n dX19_take_17 rfl ?_
    refine go_dup dX19_take_18 rfl ?_
    refine go_getI fX19_22_19 dX19_take_19 (by assumption) rfl ?_
    rw [h3]
    refine go_iconst (v := nI 1) dX19_take_22 (by decide) ?_
    refine go_iadd dX19_take_23 ?_
    rw [nI_add]
    refine go_putI fX19_22_19 p19_1 rfl rfl rfl dX19_take_24 (by assumption) ?_
    refine go_vret rfl dX19_take_27 (Nat.le_of_ble_eq_true rfl) (Nat.le_of_ble_eq_true rfl) ?_
    rw [e1]
    exact ⟨rfl, rfl⟩
  · have e1 : exp_ lt ln c p = .inr p := by
      unfold exp_
      rw [if_neg (of_decide_eq_false hc)]
    rw [e1]
    exact ht
theorem ct_number (h : rd_ ty mi mr x R lt ln p) : CT_ l D b yX19_number hX19_number (rm_ 9 2 14) [.ref R] (ty, mi, mr, n) (qR_ (num_ lt ln p) vN_ R ty mi mr n) := by
  have h0 := h
  obtain ⟨h1, h2, h3, h4, h5, h6, h7, h8, h9, h10, h11⟩ := h
  refine ct_of [some (.ref R), none] (by decide) rfl rfl ?_
  refine go_aload_n dX19_number_0 rfl ?_
  refine go_callV vX19_50_19 (ct_digit h0) dX19_number_1 (by assumption) rfl rfl rfl rfl rfl (Nat.le_of_ble_eq_true rfl) (Nat.le_of_ble_eq_true rfl) (Nat.le_of_ble_eq_true rfl) (Nat.le_of_ble_eq_true rfl) (Nat.le_of_ble_eq_true rfl) (kr_R (fun d p1 hd => ?_)) (kt_R (fun e he o σ2 ht => ?_))
  · have hp1 : p1 ≤ 80 := by
      unfold dgt_ at hd
      split at hd
      · rename_i hc
        have := isd_lt hc
        cases hd
        omega
      · cases hd
    have h01 := h0.um hp1
    refine go_istore_n (ls2 := [_, _]) dX19_number_4 rfl rfl ?_
    refine go_aload_n dX19_number_5 rfl ?_
    refine go_callV vX19_34_19 (ct_here h01) dX19_number_6 (by assumption) rfl rfl rfl rfl rfl (Nat.le_of_ble_eq_true rfl) (Nat.le_of_ble_eq_true rfl) (Nat.le_of_ble_eq_true rfl) (Nat.le_of_ble_eq_true rfl) (Nat.le_of_ble_eq_true rfl) (kr_i ?_) kt_i
    refine go_i2l dX19_number_9 ?_
    refine go_ldc2 q530 dX19_number_10 ?_
    refine go_topl (show (48 : Int64) = (nI 48).toInt64 by decide) ?_
    refine go_ldc2 q531 dX19_number_13 ?_
    refine go_topl (show (57 : Int64) = (nI 57).toInt64 by decide) ?_
    refine go_callS sX19_46 (ct_in (d := 0)) dX19_number_16 rfl rfl rfl (Nat.le_of_ble_eq_true rfl) (Nat.le_of_ble_eq_true rfl) (Nat.le_of_ble_eq_true rfl) (Nat.le_of_ble_eq_true rfl) (Nat.le_of_ble_eq_true rfl) (kr_i ?_) kt_i
    have e0 : num_ lt ln p = if isd_ (hr_ lt ln p1) = true then .inl (10 * d + ((hr_ lt ln p1).toNatClampNeg - 48), p1 + 1) else .inl (d, p1) := by
      unfold num_
      rw [hd]
      rfl
    refine go_if_eq (tgt := 34) dX19_number_19 (by decide) (fun hb => ?_) (fun hb => ?_)
    · have hb2 : isd_ (hr_ lt ln p1) = false := bo_0.mp hb
      refine go_iload_n dX19_number_34 rfl ?_
      refine go_iret rfl dX19_number_35 (Nat.le_of_ble_eq_true rfl) (Nat.le_of_ble_eq_true rfl) ?_
      rw [e0, if_neg (by rw [hb2]; decide)]
      exact ⟨rfl, rfl⟩
    · have hb2 : isd_ (hr_ lt ln p1) = true := by
        cases hq : isd_ (hr_ lt ln p1) with
        | true => rfl
        | false => exact absurd (bo_0.mpr hq) hb
      refine go_bipush (v := nI 10) dX19_number_22 (by decide) ?_
      refine go_iload_n dX19_number_24 rfl ?_
      refine go_imul dX19_number_25 ?_
      refine go_aload_n dX19_number_26 rfl ?_
      rw [pk_mul]
      have e1 : dgt_ lt ln p1 = .inl ((hr_ lt ln p1).toNatClampNeg - 48, p1 + 1) := by
        unfold dgt_
        rw [if_pos hb2]
      refine go_callV vX19_50_19 (ct_digit h01) dX19_number_27 (by assumption) rfl rfl rfl rfl rfl (Nat.le_of_ble_eq_true rfl) (Nat.le_of_ble_eq_true rfl) (Nat.le_of_ble_eq_true rfl) (Nat.le_of_ble_eq_true rfl) (Nat.le_of_ble_eq_true rfl) (kr_R (fun d2 p2 hd2 => ?_)) (kt_R (fun e he o σ2 ht => ?_))
      · rw [e1] at hd2
        cases hd2
        rw [um_um]
        refine go_iadd dX19_number_30 ?_
        rw [nI_add]
        refine go_goto (tgt := 35) dX19_number_31 (by decide) ?_
        refine go_iret rfl dX19_number_35 (Nat.le_of_ble_eq_true rfl) (Nat.le_of_ble_eq_true rfl) ?_
        rw [e0, if_pos hb2]
        exact ⟨rfl, rfl⟩
      · rw [e1] at he
        cases he
  · have e0 : num_ lt ln p = .inr e := by
      unfold num_
      rw [he]
      rfl
    rw [e0]
    exact ht
end READER
