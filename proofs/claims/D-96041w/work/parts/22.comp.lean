/-! HOW THE COMPONENT HOLDS A TOWN: x is the address of the whole, t of a town -/
def ts_ (ty : ty_) (mr : mr_) (t : Nat) : Prop := ty t = some (.inl 15) ∧ mr t 2 = some (t + 1) ∧ mr t 4 = some (t + 2) ∧ mr t 5 = some (t + 3) ∧ mr t 6 = some (t + 4) ∧ mr t 8 = some (t + 5) ∧ mr t 12 = some (t + 6) ∧ mr t 13 = some (t + 7) ∧ ty (t + 1) = some (.inr (.object "GoodHalfEmpty$Sort", 5)) ∧ ty (t + 2) = some (.inr (.object "GoodHalfEmpty$Rule", 6)) ∧ ty (t + 3) = some (.inr (.int, 6)) ∧ ty (t + 4) = some (.inr (.int, 6)) ∧ ty (t + 5) = some (.inr (.int, 8)) ∧ ty (t + 6) = some (.inr (.boolean, 5)) ∧ ty (t + 7) = some (.inr (.int, 6))
/-- the kinds of rules and of goers, one object a kind -/
def ks_ (ty : ty_) (x : Nat) : Prop := ∀ k, k < 6 → ty (x + 2 + k) = some (.inl (2 + k)) ∧ ty (x + 9 + k) = some (.inl (9 + k))
def sq_ (ty : ty_) (mi : mi_) (mr : mr_) (x q : Nat) (v : tv_) (s : Nat) : Prop := ty q = some (.inl 25) ∧ mr q 0 = some (x + 9 + kd_ v s) ∧ mi q 1 = v (10 + 6 * s) ∧ mi q 2 = v (10 + 6 * s + 2) ∧ mi q 3 = v (10 + 6 * s + 3) ∧ mi q 4 = v (10 + 6 * s + 4) ∧ mi q 5 = v (10 + 6 * s + 5) ∧ x + 62 ≤ q
def tr_ (ty : ty_) (mi : mi_) (mr : mr_) (x t : Nat) (v : tv_) : Prop := mi t 0 = v 2 ∧ mi t 1 = v 0 ∧ mi t 3 = v 1 ∧ mi t 7 = v 4 ∧ mi t 9 = v 3 ∧ mi t 10 = v 5 ∧ (∀ s, s < sN v → ∃ q, mr (t + 1) s = some q ∧ sq_ ty mi mr x q v s) ∧ (∀ r, r < rN v → mr (t + 2) r = some (x + 2 + rk_ v r) ∧ mi (t + 3) r = v (40 + 3 * r + 1) ∧ mi (t + 4) r = v (40 + 3 * r + 2)) ∧ ∀ k, k < 8 → mi (t + 5) k = v (60 + k)
section TOWN1
variable {l : Launch} {D : dd_} {b : Nat} {ty : ty_} {mi : mi_} {mr : mr_} {n x t : Nat} {v : tv_}
theorem ct_ago {k : Nat} (hs : ts_ ty mr t) (hr : tr_ ty mi mr x t v) (hv : wf_ v) (hk : 1 ≤ k) (hk8 : k ≤ 8) : CT_ l D b yX15_ago hX15_ago (rm_ 0 0 0) [.ref t, .int (nI k)] (ty, mi, mr, n) (qi_ (ag_ v k) (ty, mi, mr, n)) := by
  obtain ⟨a1, a2, a3, a4, a5, a6, a7, a8, a9, a10, a11, a12, a13, a14, a15⟩ := hs
  obtain ⟨b1, b2, b3, b4, b5, b6, bS, bR, bM⟩ := hr
  have hw : mi t 7 = nI (wN v) := b4.trans hv.2.2.2.2.1
  have hw8 := hv.2.2.2.2.2.1
  refine ct_of [some (.ref t), some (.int (nI k))] (by decide) rfl rfl ?_
  refine go_iload_n dX15_ago_0 rfl ?_
  refine go_aload_n dX15_ago_1 rfl ?_
  refine go_getI fX15_50_15 dX15_ago_2 (by assumption) rfl ?_
  refine go_icmp_gt (tgt := 19) dX15_ago_5 (by decide) (fun h => ?_) (fun h => ?_)
  · rw [hw] at h
    have h2 : wN v < k := (nI_ltI (by omega) (by omega)).mp h
    refine go_aload_n dX15_ago_19 rfl ?_
    refine go_getI fX15_9_15 dX15_ago_20 (by assumption) rfl ?_
    refine go_iret rfl dX15_ago_23 (Nat.le_of_ble_eq_true rfl) (Nat.le_of_ble_eq_true rfl) ?_
    exact ⟨by rw [b1, ag_, if_neg (by omega)], rfl⟩
  · rw [hw] at h
    have h2 : ¬ wN v < k := fun z => h ((nI_ltI (by omega) (by omega)).mpr z)
    refine go_aload_n dX15_ago_8 rfl ?_
    refine go_getR fX15_34_15 dX15_ago_9 (by assumption) rfl (by assumption) ?_
    refine go_iload_n dX15_ago_12 rfl ?_
    refine go_iconst (v := nI 1) dX15_ago_13 (by decide) ?_
    refine go_isub dX15_ago_14 ?_
    refine go_iald dX15_ago_15 (by assumption) ⟨pk_sub hk, by omega, by decide⟩ ?_
    refine go_goto (tgt := 23) dX15_ago_16 (by decide) ?_
    refine go_iret rfl dX15_ago_23 (Nat.le_of_ble_eq_true rfl) (Nat.le_of_ble_eq_true rfl) ?_
    exact ⟨by rw [bM (k - 1) (by omega), ag_, if_pos (by omega)], rfl⟩
theorem go_people (hs : ts_ ty mr t) (hr : tr_ ty mi mr x t v) (hv : wf_ v) {M : mc_} {Q : Outcome → so_ → Prop} (hM : M.1 = "GoodHalfEmpty$Town") (hM3 : M.2.2.1 = 3) (hQ : G_ l D b M Q cX15_people 30 [some (.ref t), some (.int (pe_ v)), some (.int (nI (sN v)))] [] (ty, mi, mr, n) 0 0) : ∀ (i s : Nat), s + i = sN v → G_ l D b M Q cX15_people 4 [some (.ref t), some (.int (sm_ (fun s => v (10 + 6 * s)) s)), some (.int (nI s))] [] (ty, mi, mr, n) 0 0 := by
  obtain ⟨a1, a2, a3, a4, a5, a6, a7, a8, a9, a10, a11, a12, a13, a14, a15⟩ := hs
  obtain ⟨b1, b2, b3, b4, b5, b6, bS, bR, bM⟩ := hr
  have hn : mi t 1 = nI (sN v) := b2.trans hv.1
  have hn4 := hv.2.1
  obtain ⟨M1, M2, M3, M4⟩ := M
  dsimp only at hM hM3
  subst hM; subst hM3
  intro i
  induction i with
  | zero =>
    intro s hsi
    refine go_iload_n dX15_people_4 rfl ?_
    refine go_aload_n dX15_people_5 rfl ?_
    refine go_getI fX15_44_15 dX15_people_6 (by assumption) rfl ?_
    refine go_icmp_ge (tgt := 30) dX15_people_9 (by decide) (fun h => ?_) (fun h => ?_)
    · have : s = sN v := by omega
      subst this
      exact hQ
    · exact absurd (by rw [hn]; exact nI_le (by omega) (by omega)) h
  | succ i ih =>
    intro s hsi
    obtain ⟨q, hq, c1, c2, c3, c4⟩ := bS s (by omega)
    refine go_iload_n dX15_people_4 rfl ?_
    refine go_aload_n dX15_people_5 rfl ?_
    refine go_getI fX15_44_15 dX15_people_6 (by assumption) rfl ?_
    refine go_icmp_ge (tgt := 30) dX15_people_9 (by decide) (fun h => ?_) (fun h => ?_)
    · rw [hn] at h
      exact absurd h (nI_ge (by omega) (by omega))
    · refine go_iload_n dX15_people_12 rfl ?_
      refine go_aload_n dX15_people_13 rfl ?_
      refine go_getR fX15_17_15 dX15_people_14 (by assumption) rfl (by assumption) ?_
      refine go_iload_n dX15_people_17 rfl ?_
      refine go_aald dX15_people_18 (by assumption) ⟨rfl, by omega, by decide⟩ (by assumption) ?_
      refine go_getI fX15_65_25 dX15_people_19 (by assumption) rfl ?_
      refine go_iadd dX15_people_22 ?_
      refine go_istore_n (ls2 := [_, _, _]) dX15_people_23 rfl rfl ?_
      refine go_iinc (ls2 := [_, _, _]) dX15_people_24 rfl (nI_inc _) rfl rfl ?_
      refine go_goto (tgt := 4) dX15_people_27 (by decide) ?_
      have e : sm_ (fun s => v (10 + 6 * s)) s + mi q 1 = sm_ (fun s => v (10 + 6 * s)) (s + 1) := by rw [c3]; rfl
      rw [e]
      exact ih (s + 1) (by omega)
theorem ct_people (hs : ts_ ty mr t) (hr : tr_ ty mi mr x t v) (hv : wf_ v) : CT_ l D b yX15_people hX15_people (rm_ 0 0 0) [.ref t] (ty, mi, mr, n) (qi_ (pe_ v) (ty, mi, mr, n)) := by
  refine ct_of [some (.ref t), none, none] (by decide) rfl rfl ?_
  refine go_iconst (v := nI 0) dX15_people_0 (by decide) ?_
  refine go_istore_n (ls2 := [_, _, _]) dX15_people_1 rfl rfl ?_
  refine go_iconst (v := nI 0) dX15_people_2 (by decide) ?_
  refine go_istore_n (ls2 := [_, _, _]) dX15_people_3 rfl rfl ?_
  refine go_people hs hr hv rfl rfl ?_ (sN v) 0 (by omega)
  refine go_iload_n dX15_people_30 rfl ?_
  refine go_iret rfl dX15_people_31 (Nat.le_of_ble_eq_true rfl) (Nat.le_of_ble_eq_true rfl) ?_
  exact ⟨rfl, rfl⟩
end TOWN1
