/-! SEEDS; THE ROW JUDGED; the component's state when parts of it change -/
set_option maxRecDepth 100000
def ff_ (x n : Nat) (mi mi2 : mi_) (mr mr2 : mr_) : Prop := ∀ a j, a < n → (a < x ∨ x + 46 ≤ a) → mi2 a j = mi a j ∧ mr2 a j = mr a j
theorem ff_.rf {x n : Nat} {mi : mi_} {mr : mr_} : ff_ x n mi mi mr mr := fun _ _ _ _ => ⟨rfl, rfl⟩
theorem ff_.tr {x n n2 : Nat} {m1 m2 m3 : mi_} {r1 r2 r3 : mr_} (h1 : ff_ x n m1 m2 r1 r2) (h2 : ff_ x n2 m2 m3 r2 r3) (hn : n ≤ n2) : ff_ x n m1 m3 r1 r3 := fun a j g1 g2 => ⟨((h2 a j (by omega) g2).1).trans (h1 a j g1 g2).1, ((h2 a j (by omega) g2).2).trans (h1 a j g1 g2).2⟩
theorem sk_ff {x n : Nat} {mi mi2 : mi_} {mr mr2 : mr_} (h : sk_ x n mi mi2) (hr : sr_ x n mr mr2) : ff_ x n mi mi2 mr mr2 := fun a j h1 h2 => ⟨h a j h1 (by unfold sc_; omega), hr a j h1 (by omega) (by omega)⟩
/-- state -/
def cq_ (x n : Nat) (ty : ty_) (mi : mi_) (mr : mr_) (r0 : Int32) (S2 : cS_) : Int32 → mi_ → mr_ → Prop := fun r mi2 mr2 => r = r0 ∧ ci_ ty mi2 mr2 n x S2 ∧ ff_ x n mi mi2 mr mr2
theorem ci_.fr {ty : ty_} {mi mi2 : mi_} {mr : mr_} {n x : Nat} {S S2 : cS_} (h : ci_ ty mi mr n x S) (hm : ∀ a j, a < n → x + 15 ≤ a → a ≠ x + 39 → a ≠ x + 40 → a ≠ x + 41 → mi2 a j = mi a j) (e1 : S2.1 = S.1) (e2 : S2.2.1 = S.2.1) (e3 : S2.2.2.1 = S.2.2.1) (g5 : mi2 x 5 = mi x 5) (g7 : mi2 x 7 = nI S2.2.2.2.2.1) (l7 : S2.2.2.2.2.1 ≤ 12) (k7 : ∀ k, k < S2.2.2.2.2.1 → mi2 (x + 39) k = S2.2.2.2.1 k) (g9 : mi2 x 9 = nI S2.2.2.2.2.2.2.1) (l9 : S2.2.2.2.2.2.2.1 ≤ 80) (k9 : ∀ k, k < S2.2.2.2.2.2.2.1 → mi2 (x + 40) k = S2.2.2.2.2.2.1 k) (k10 : ∀ k, k < 7 → mi2 (x + 41) k = S2.2.2.2.2.2.2.2 k) : ci_ ty mi2 mr n x S2 := by
  obtain ⟨h1, h2, h3, h4, h5, h6, h7, h8, h9, h10, h11, h12, h13, h14, h15, h16⟩ := h
  refine ⟨h1, h2, h3, ?_, by rw [e1]; exact h5, h6, by rw [g5, e2]; exact h7, fun z => ?_, h9, g7, l7, k7, g9, l9, k9, k10⟩
  · rw [e1]
    exact h4.up (by omega) h2 h3 (fun _ _ => rfl) (fun j hj => hm _ j (by omega) (by omega) (by omega) (by omega) (by omega)) (fun a j g1 g2 => hm a j (by omega) (by omega) (by omega) (by omega) (by omega)) (fun a j g1 g2 => hm a j g2 (by omega) (by omega) (by omega) (by omega)) (fun _ => rfl) (fun _ => rfl) (fun _ _ _ _ => rfl)
  · rw [e2] at z
    rw [e3]
    exact ⟨(h8 z).1.up (by omega) h2 h3 (fun _ _ => rfl) (fun j hj => hm _ j (by omega) (by omega) (by omega) (by omega) (by omega)) (fun a j g1 g2 => hm a j (by omega) (by omega) (by omega) (by omega) (by omega)) (fun a j g1 g2 => hm a j g2 (by omega) (by omega) (by omega) (by omega)) (fun _ => rfl) (fun _ => rfl) (fun _ _ _ _ => rfl), (h8 z).2⟩
/-- the state with another row -/
def s_row (S : cS_) (rw : Nat → Int32) (rn : Nat) : cS_ := (S.1, S.2.1, S.2.2.1, rw, rn, S.2.2.2.2.2)
def s_let (S : cS_) (lt : Nat → Int32) (ln : Nat) : cS_ := (S.1, S.2.1, S.2.2.1, S.2.2.2.1, S.2.2.2.2.1, lt, ln, S.2.2.2.2.2.2.2)
def s_ref (S : cS_) (rf : Nat → Int32) : cS_ := (S.1, S.2.1, S.2.2.1, S.2.2.2.1, S.2.2.2.2.1, S.2.2.2.2.2.1, S.2.2.2.2.2.2.1, rf)
def s_town (S : cS_) (v : tv_) : cS_ := (v, S.2)
def s_img (S : cS_) (v : tv_) : cS_ := (S.1, true, v, S.2.2.2)
theorem ci_.row {ty : ty_} {mi mi2 : mi_} {mr : mr_} {n x : Nat} {S : cS_} {rw' : Nat → Int32} {rn : Nat} (h : ci_ ty mi mr n x S) (hm : ∀ a j, a < n → ¬ (a = x ∧ j = 7) → a ≠ x + 39 → mi2 a j = mi a j) (g7 : mi2 x 7 = nI rn) (l7 : rn ≤ 12) (k7 : ∀ k, k < rn → mi2 (x + 39) k = rw' k) : ci_ ty mi2 mr n x (s_row S rw' rn) := by
  have hn := h.2.1
  refine h.fr (fun a j h1 h2 h3 h4 h5 => hm a j h1 (by omega) h3) rfl rfl rfl (hm _ _ (by omega) (by omega) (by omega)) g7 l7 k7 ?_ h.2.2.2.2.2.2.2.2.2.2.2.2.2.1 (fun k hk => ?_) (fun k hk => ?_)
  · rw [hm _ _ (by omega) (by omega) (by omega)]
    exact h.2.2.2.2.2.2.2.2.2.2.2.2.1
  · rw [hm _ _ (by omega) (by omega) (by omega)]
    exact h.2.2.2.2.2.2.2.2.2.2.2.2.2.2.1 k hk
  · rw [hm _ _ (by omega) (by omega) (by omega)]
    exact h.2.2.2.2.2.2.2.2.2.2.2.2.2.2.2 k hk
theorem ci_.let {ty : ty_} {mi mi2 : mi_} {mr : mr_} {n x : Nat} {S : cS_} {lt : Nat → Int32} {ln : Nat} (h : ci_ ty mi mr n x S) (hm : ∀ a j, a < n → ¬ (a = x ∧ j = 9) → a ≠ x + 40 → mi2 a j = mi a j) (g9 : mi2 x 9 = nI ln) (l9 : ln ≤ 80) (k9 : ∀ k, k < ln → mi2 (x + 40) k = lt k) : ci_ ty mi2 mr n x (s_let S lt ln) := by
  have hn := h.2.1
  refine h.fr (fun a j h1 h2 h3 h4 h5 => hm a j h1 (by omega) h4) rfl rfl rfl (hm _ _ (by omega) (by omega) (by omega)) ?_ h.2.2.2.2.2.2.2.2.2.2.1 (fun k hk => ?_) g9 l9 k9 (fun k hk => ?_)
  · rw [hm _ _ (by omega) (by omega) (by omega)]
    exact h.2.2.2.2.2.2.2.2.2.1
  · rw [hm _ _ (by omega) (by omega) (by omega)]
    exact h.2.2.2.2.2.2.2.2.2.2.2.1 k hk
  · rw [hm _ _ (by omega) (by omega) (by omega)]
    exact h.2.2.2.2.2.2.2.2.2.2.2.2.2.2.2 k hk
theorem ci_.ref {ty : ty_} {mi mi2 : mi_} {mr : mr_} {n x : Nat} {S : cS_} {rf : Nat → Int32} (h : ci_ ty mi mr n x S) (hm : ∀ a j, a < n → a ≠ x + 41 → mi2 a j = mi a j) (k10 : ∀ k, k < 7 → mi2 (x + 41) k = rf k) : ci_ ty mi2 mr n x (s_ref S rf) := by
  have hn := h.2.1
  refine h.fr (fun a j h1 h2 h3 h4 h5 => hm a j h1 h5) rfl rfl rfl (hm _ _ (by omega) (by omega)) ?_ h.2.2.2.2.2.2.2.2.2.2.1 (fun k hk => ?_) ?_ h.2.2.2.2.2.2.2.2.2.2.2.2.2.1 (fun k hk => ?_) k10
  · rw [hm _ _ (by omega) (by omega)]
    exact h.2.2.2.2.2.2.2.2.2.1
  · rw [hm _ _ (by omega) (by omega)]
    exact h.2.2.2.2.2.2.2.2.2.2.2.1 k hk
  · rw [hm _ _ (by omega) (by omega)]
    exact h.2.2.2.2.2.2.2.2.2.2.2.2.1
  · rw [hm _ _ (by omega) (by omega)]
    exact h.2.2.2.2.2.2.2.2.2.2.2.2.2.2.1 k hk
theorem go_ls {l : Launch} {D : dd_} {b : Nat} {M : mc_} {Q : Outcome → so_ → Prop} {cc : ByteArray} {pc : Nat} {ls ls2 : List (Option Value)} {st : List Value} {σ : so_} {kc ks : Nat} (h : ls = ls2) (k : G_ l D b M Q cc pc ls2 st σ kc ks) : G_ l D b M Q cc pc ls st σ kc ks := h ▸ k
section JUDGE
variable {l : Launch} {D : dd_} {b : Nat} {ty : ty_} {mi : mi_} {mr : mr_} {n x : Nat} {S : cS_}
def sf_ (v : tv_) (z : Int32) (i : Nat) : Int32 := pr_ (sd_ v (zq_ z (i * wN v)) (wN v))
theorem ct_bySeeds {k : Nat} {z : Int32} (hc : ci_ ty mi mr n x S) (h60 : k ≤ 60) : CT_ l D b yX0_bySeeds hX0_bySeeds (rm_ 8 0 0) [.ref x, .int (nI k), .int z] (ty, mi, mr, n) (qk_ (kq_ x n mi mr (sm_ (sf_ S.1 z) k)) ty n) := by
  have a1 := hc.1.1
  have hv := hc.2.2.2.2.1
  have hn := hc.2.1
  have hw8 := hv.2.2.2.2.2.1
  have hz : ¬ pe_ S.1 + nI 1 = 0 := by
    obtain ⟨m, h1, h2⟩ := pe_nat hv
    rw [h2, nI_add]
    exact nI_ne0 (by omega) (by omega)
  refine ct_of [some (.ref x), some (.int (nI k)), some (.int z), none, none, none, none, none] (by decide) rfl rfl ?_
  refine go_iload_n dX0_bySeeds_0 rfl ?_
  refine go_istore_n (ls2 := [_, _, _, _, _, _, _, _]) dX0_bySeeds_1 rfl rfl ?_
  refine go_iconst (v := nI 0) dX0_bySeeds_2 (by decide) ?_
  refine go_istore (ls2 := [_, _, _, _, _, _, _, _]) dX0_bySeeds_3 rfl rfl ?_
  refine go_iconst (v := nI 0) dX0_bySeeds_5 (by decide) ?_
  refine go_istore (ls2 := [_, _, _, _, _, _, _, _]) dX0_bySeeds_6 rfl rfl ?_
  have e0 : z = zq_ z (0 * wN S.1) := by rw [Nat.zero_mul]; rfl
  refine go_ls (ls2 := [some (.ref x), some (.int (nI k)), some (.int z), some (.int (zq_ z (0 * wN S.1))), some (.int (nI 0)), some (.int (nI 0)), none, none]) (by rw [← e0]) ?_
  refine go_forI (α := mi_ × mr_ × Option Value × Option Value) k (fun i c => [some (.ref x), some (.int (nI k)), some (.int z), some (.int (zq_ z (i * wN S.1))), some (.int (sm_ (sf_ S.1 z) i)), some (.int (nI i)), c.2.2.1, c.2.2.2]) (fun i c => (ty, c.1, c.2.1, n)) (fun i c => sk_ x n mi c.1 ∧ sr_ x n mr c.2.1) 0 (mi, mr, none, none) (by omega) ⟨sk_.rf, sr_.rf⟩ (fun i c _ hi hI ih => ?_) (fun c hI => ?_)
  · obtain ⟨m0, r0, o1, o2⟩ := c
    obtain ⟨i1, i2⟩ := hI
    dsimp only at i1 i2 ⊢
    have hc1 := hc.sk i1 i2
    refine go_iload dX0_bySeeds_8 rfl ?_
    refine go_iload_n dX0_bySeeds_10 rfl ?_
    refine go_icmp_ge (tgt := 90) dX0_bySeeds_11 (by decide) (fun h0_ => absurd h0_ (nI_ge (by omega) (by omega))) (fun _ => ?_)
    refine go_aload_n dX0_bySeeds_14 rfl ?_
    refine go_callV vX0_142_0 (ct_openMind hc1) dX0_bySeeds_15 (by assumption) rfl rfl rfl rfl rfl (Nat.le_of_ble_eq_true rfl) (Nat.le_of_ble_eq_true rfl) (Nat.le_of_ble_eq_true rfl) (Nat.le_of_ble_eq_true rfl) (Nat.le_of_ble_eq_true rfl) (kr_z (fun mi2 mr2 hp => ?_)) kt_z
    obtain ⟨p1, p2, p3⟩ := hp
    have a2 : ty (x + 23) = some (.inl 15) := p3.2.1.1
    have a3 : mr2 (x + 23) 8 = some (x + 28) := p3.2.1.2.2.2.2.2.1
    have a4 : ty (x + 28) = some (.inr (.int, 8)) := p3.2.1.2.2.2.2.2.2.2.2.2.2.2.2.1
    have hw4 : mi2 (x + 23) 7 = nI (wN S.1) := p3.1.2.2.2.1.trans hv.2.2.2.2.1
    generalize hzi : zq_ z (i * wN S.1) = zi
    refine go_astore (ls2 := [_, _, _, _, _, _, _, _]) dX0_bySeeds_18 rfl rfl ?_
    refine go_iconst (v := nI 0) dX0_bySeeds_20 (by decide) ?_
    refine go_istore (ls2 := [_, _, _, _, _, _, _, _]) dX0_bySeeds_21 rfl rfl ?_
    have hT : ∀ K m, (∀ a j, a ≠ x + 28 → m a j = mi2 a j) → (∀ j, j < K → m (x + 28) j = zv_ S.1 (zq_ zi (j + 1))) → (∀ j, K ≤ j → m (x + 28) j = mi2 (x + 28) j) → tr_ ty m mr2 x (x + 23) (sd_ S.1 zi K) := by
      intro K m g1 g2 g3
      refine tr_me p3.1 hv (by omega) g1 (fun j hj => ?_) (fun j hj => sd_lo hj)
      unfold sd_
      by_cases h : j < K
      · rw [if_pos (by omega), g2 j h, Nat.add_sub_cancel_left]
      · rw [if_neg (by omega), g3 j (by omega)]
        exact p3.1.2.2.2.2.2.2.2.2 j hj
    refine go_forI (α := mi_) (wN S.1) (fun q _ => [some (.ref x), some (.int (nI k)), some (.int z), some (.int (zq_ zi q)), some (.int (sm_ (sf_ S.1 z) i)), some (.int (nI i)), some (.ref (x + 23)), some (.int (nI q))]) (fun q m => (ty, m, mr2, n)) (fun q m => (∀ a j, a ≠ x + 28 → m a j = mi2 a j) ∧ (∀ j, j < q → m (x + 28) j = zv_ S.1 (zq_ zi (j + 1))) ∧ ∀ j, q ≤ j → m (x + 28) j = mi2 (x + 28) j) 0 mi2 (by omega) ⟨fun _ _ _ => rfl, fun j h => absurd h (Nat.not_lt_zero _), fun _ _ => rfl⟩ (fun q m _ hq hI ih2 => ?_) (fun m hI => ?_)
    · obtain ⟨q1, q2, q3⟩ := hI
      refine go_iload dX0_bySeeds_23 rfl ?_
      refine go_aload dX0_bySeeds_25 rfl ?_
      refine go_getI fX0_262_15 dX0_bySeeds_27 (by assumption) rfl ?_
      rw [q1 _ _ (by omega), hw4]
      refine go_icmp_ge (tgt := 74) dX0_bySeeds_30 (by decide) (fun h0_ => absurd h0_ (nI_ge (by omega) (by omega))) (fun _ => ?_)
      refine go_iload_n dX0_bySeeds_33 rfl ?_
      refine go_ldcw q935 dX0_bySeeds_34 ?_
      refine go_imul dX0_bySeeds_37 ?_
      refine go_ldcw q936 dX0_bySeeds_38 ?_
      refine go_iadd dX0_bySeeds_41 ?_
      refine go_istore_n (ls2 := [_, _, _, _, _, _, _, _]) dX0_bySeeds_42 rfl rfl ?_
      refine go_aload dX0_bySeeds_43 rfl ?_
      refine go_getR fX0_267_15 dX0_bySeeds_45 (by assumption) rfl (by assumption) ?_
      refine go_iload dX0_bySeeds_48 rfl ?_
      refine go_iload_n dX0_bySeeds_50 rfl ?_
      refine go_ldcw q937 dX0_bySeeds_51 ?_
      refine go_iand dX0_bySeeds_54 ?_
      refine go_sipush (v := nI 256) dX0_bySeeds_55 (by decide) ?_
      refine go_idiv dX0_bySeeds_58 (by decide) ?_
      refine go_aload dX0_bySeeds_59 rfl ?_
      refine go_callV vX0_271_15 (ct_people (v := sd_ S.1 zi q) p3.2.1 (hT q m q1 q2 q3) (sd_wf hv zi)) dX0_bySeeds_61 (by assumption) rfl rfl rfl rfl rfl (Nat.le_of_ble_eq_true rfl) (Nat.le_of_ble_eq_true rfl) (Nat.le_of_ble_eq_true rfl) (Nat.le_of_ble_eq_true rfl) (Nat.le_of_ble_eq_true rfl) (kr_i ?_) kt_i
      rw [pe_of (fun j hj => sd_lo hj) hv]
      refine go_iconst (v := nI 1) dX0_bySeeds_64 (by decide) ?_
      refine go_iadd dX0_bySeeds_65 ?_
      refine go_irem dX0_bySeeds_66 hz ?_
      refine go_iast dX0_bySeeds_67 (by assumption) ⟨rfl, by omega, by decide⟩ ?_
      refine go_iinc (ls2 := [_, _, _, _, _, _, _, _]) dX0_bySeeds_68 rfl (nI_inc _) rfl rfl ?_
      refine go_goto (tgt := 23) dX0_bySeeds_71 (by decide) ?_
      refine ih2 _ ⟨fun a j h => (um_a h).trans (q1 a j h), fun j hj => ?_, fun j hj => (um_k (by omega)).trans (q3 j (by omega))⟩
      by_cases h : j = q
      · subst h
        exact um_s
      · exact (um_k h).trans (q2 j (by omega))
    · obtain ⟨q1, q2, q3⟩ := hI
      refine go_iload dX0_bySeeds_23 rfl ?_
      refine go_aload dX0_bySeeds_25 rfl ?_
      refine go_getI fX0_262_15 dX0_bySeeds_27 (by assumption) rfl ?_
      rw [q1 _ _ (by omega), hw4]
      refine go_icmp_ge (tgt := 74) dX0_bySeeds_30 (by decide) (fun _ => ?_) (fun h0_ => absurd (nI_le (by omega) (by omega)) h0_)
      refine go_iload dX0_bySeeds_74 rfl ?_
      refine go_aload dX0_bySeeds_76 rfl ?_
      refine go_callV vX0_146_15 (ct_week p3.2.2.1 p3.2.1 (hT _ m q1 q2 q3) (sd_wf hv zi) (by omega)) dX0_bySeeds_78 (by assumption) rfl rfl rfl rfl rfl (Nat.le_of_ble_eq_true rfl) (Nat.le_of_ble_eq_true rfl) (Nat.le_of_ble_eq_true rfl) (Nat.le_of_ble_eq_true rfl) (Nat.le_of_ble_eq_true rfl) (kr_p (fun r mi2 hp => ?_)) kt_p
      obtain ⟨e1, e2, e3, -⟩ := hp
      subst e1
      refine go_iadd dX0_bySeeds_81 ?_
      refine go_istore (ls2 := [_, _, _, _, _, _, _, _]) dX0_bySeeds_82 rfl rfl ?_
      refine go_iinc (ls2 := [_, _, _, _, _, _, _, _]) dX0_bySeeds_84 rfl (nI_inc _) rfl rfl ?_
      refine go_goto (tgt := 8) dX0_bySeeds_87 (by decide) ?_
      have e5 : zq_ zi (wN S.1) = zq_ z ((i + 1) * wN S.1) := by
        rw [← hzi, zq_add, Nat.succ_mul]
      have e6 : sm_ (sf_ S.1 z) i + pr_ (sd_ S.1 zi (wN S.1)) = sm_ (sf_ S.1 z) (i + 1) := by
        rw [← hzi]
        rfl
      rw [e5, e6]
      refine ih (mi2, mr2, some (.ref (x + 23)), some (.int _)) ⟨fun a j h1 h2 => ?_, i2.tr p2⟩
      have h3 : a < x + 23 ∨ x + 31 ≤ a := by unfold sc_ at h2; omega
      exact (e3 a j (by omega)).trans ((q1 a j (by omega)).trans ((p1 a j (by omega)).trans (i1 a j h1 h2)))
  · obtain ⟨m0, r0, o1, o2⟩ := c
    refine go_iload dX0_bySeeds_8 rfl ?_
    refine go_iload_n dX0_bySeeds_10 rfl ?_
    refine go_icmp_ge (tgt := 90) dX0_bySeeds_11 (by decide) (fun _ => ?_) (fun h0_ => absurd (nI_le (by omega) (by omega)) h0_)
    refine go_iload dX0_bySeeds_90 rfl ?_
    refine go_iret rfl dX0_bySeeds_92 (Nat.le_of_ble_eq_true rfl) (Nat.le_of_ble_eq_true rfl) ?_
    exact ⟨_, _, _, rfl, rfl, rfl, hI.1, hI.2⟩
theorem ct_judgeRow (hc : ci_ ty mi mr n x S) : CT_ l D b yX0_judgeRow hX0_judgeRow (rm_ 8 0 0) [.ref x] (ty, mi, mr, n) (qk_ (cq_ x n ty mi mr (jr_ S.1 S.2.2.2.1 S.2.2.2.2.1 0) (s_row S S.2.2.2.1 0)) ty n) := by
  have a1 := hc.1.1
  have hv := hc.2.2.2.2.1
  have hn := hc.2.1
  have a39 : mr x 6 = some (x + 39) := hc.1.2.2.2.2.2.2.2.2.2.2.2.2.2.2.1
  have t39 : ty (x + 39) = some (.inr (.byte, 12)) := hc.1.2.2.2.2.2.2.2.2.2.2.2.2.2.2.2.1
  have r12 := hc.2.2.2.2.2.2.2.2.2.2.1
  have hrow := hc.2.2.2.2.2.2.2.2.2.2.2.1
  have hc1 : ci_ ty (um_ mi x 7 (nI 0)) mr n x (s_row S S.2.2.2.1 0) := hc.row (fun a j h1 h2 h3 => by
    by_cases h : a = x
    · subst h; exact um_k (by omega)
    · exact um_a h) um_s (by omega) (fun k hk => absurd hk (Nat.not_lt_zero _))
  refine ct_of [some (.ref x), none, none, none] (by decide) rfl rfl ?_
  refine go_aload_n dX0_judgeRow_0 rfl ?_
  refine go_getI fX0_274_0 dX0_judgeRow_1 (by assumption) rfl ?_
  rw [hc.2.2.2.2.2.2.2.2.2.1]
  refine go_istore_n (ls2 := [_, _, _, _]) dX0_judgeRow_4 rfl rfl ?_
  refine go_aload_n dX0_judgeRow_5 rfl ?_
  refine go_iconst (v := nI 0) dX0_judgeRow_6 (by decide) ?_
  refine go_putI fX0_274_0 p0_7 rfl rfl rfl dX0_judgeRow_7 (by assumption) ?_
  refine go_aload_n dX0_judgeRow_10 rfl ?_
  refine go_callV vX0_142_0 (ct_openMind hc1) dX0_judgeRow_11 (by assumption) rfl rfl rfl rfl rfl (Nat.le_of_ble_eq_true rfl) (Nat.le_of_ble_eq_true rfl) (Nat.le_of_ble_eq_true rfl) (Nat.le_of_ble_eq_true rfl) (Nat.le_of_ble_eq_true rfl) (kr_z (fun mA mr2 hp => ?_)) kt_z
  obtain ⟨p1, p2, p3⟩ := hp
  have p3 : md_ ty mA mr2 x (wn_ S.1 0) := p3
  
  have a2 : ty (x + 23) = some (.inl 15) := p3.2.1.1
  have a3 : mr2 x 6 = some (x + 39) := (p2 _ _ (by omega) (by omega) (by omega)).trans a39
  have b39 : ∀ k, k < S.2.2.2.2.1 → mA (x + 39) k = S.2.2.2.1 k := fun k hk => by
    rw [p1 _ _ (by omega), um_a (by omega)]
    exact hrow k hk
  refine go_astore_n (ls2 := [_, _, _, _]) dX0_judgeRow_14 rfl rfl ?_
  refine go_iconst (v := nI 0) dX0_judgeRow_15 (by decide) ?_
  refine go_istore_n (ls2 := [_, _, _, _]) dX0_judgeRow_16 rfl rfl ?_
  have fin : ∀ m, fm_ mA m (x + 23) (x + 31) → ci_ ty m mr2 n x (s_row S S.2.2.2.1 0) ∧ ff_ x n mi m mr mr2 := by
    intro m hm
    have h1 : sk_ x n (um_ mi x 7 (nI 0)) m := (sk_mind p1).tr (sk_mind hm)
    refine ⟨hc1.sk h1 p2, fun a j h2 h3 => ⟨?_, p2 a j h2 (by omega) (by omega)⟩⟩
    rw [h1 a j h2 (by unfold sc_; omega), um_a (by omega)]
  refine go_forI (α := mi_) S.2.2.2.2.1 (fun k _ => [some (.ref x), some (.int (nI S.2.2.2.2.1)), some (.ref (x + 23)), some (.int (nI k))]) (fun k m => (ty, m, mr2, n)) (fun k m => md_ ty m mr2 x (wn_ S.1 k) ∧ fm_ mA m (x + 23) (x + 31) ∧ jr_ S.1 S.2.2.2.1 (S.2.2.2.2.1 - k) k = jr_ S.1 S.2.2.2.1 S.2.2.2.2.1 0) 0 mA (by omega) ⟨p3, fun _ _ _ => rfl, rfl⟩ (fun k m _ hk hI ih => ?_) (fun m hI => ?_)
  · obtain ⟨q1, q2, q3⟩ := hI
    have e9 : S.2.2.2.2.1 - k = (S.2.2.2.2.1 - (k + 1)) + 1 := by omega
    rw [e9] at q3
    have q3 : (if pa_ S.1 k = S.2.2.2.1 k then jr_ S.1 S.2.2.2.1 (S.2.2.2.2.1 - (k + 1)) (k + 1) else nI k) = jr_ S.1 S.2.2.2.1 S.2.2.2.2.1 0 := q3
    refine go_iload_n dX0_judgeRow_17 rfl ?_
    refine go_iload_n dX0_judgeRow_18 rfl ?_
    refine go_icmp_ge (tgt := 43) dX0_judgeRow_19 (by decide) (fun h0_ => absurd h0_ (nI_ge (by omega) (by omega))) (fun _ => ?_)
    refine go_aload_n dX0_judgeRow_22 rfl ?_
    refine go_callV vX0_146_15 (ct_week q1.2.2.1 q1.2.1 q1.1 (wn_wf hv k) (by omega)) dX0_judgeRow_23 (by assumption) rfl rfl rfl rfl rfl (Nat.le_of_ble_eq_true rfl) (Nat.le_of_ble_eq_true rfl) (Nat.le_of_ble_eq_true rfl) (Nat.le_of_ble_eq_true rfl) (Nat.le_of_ble_eq_true rfl) (kr_p (fun r mi2 hp => ?_)) kt_p
    obtain ⟨e1, e2, e3, -⟩ := hp
    subst e1
    have f2 : fm_ mA mi2 (x + 23) (x + 31) := fun a j h => (e3 a j (by omega)).trans (q2 a j h)
    refine go_aload_n dX0_judgeRow_26 rfl ?_
    refine go_getR fX0_83_0 dX0_judgeRow_27 (by assumption) rfl (by assumption) ?_
    refine go_iload_n dX0_judgeRow_30 rfl ?_
    refine go_bald dX0_judgeRow_31 (by assumption) ⟨rfl, by omega, by decide⟩ ?_
    rw [f2 _ _ (by omega), b39 k hk]
    refine go_icmp_eq (tgt := 37) dX0_judgeRow_32 (by decide) (fun h => ?_) (fun h => ?_)
    · refine go_iinc (ls2 := [_, _, _, _]) dX0_judgeRow_37 rfl (nI_inc _) rfl rfl ?_
      refine go_goto (tgt := 17) dX0_judgeRow_40 (by decide) ?_
      rw [if_pos (show pa_ S.1 k = _ from h)] at q3
      exact ih _ ⟨⟨e2, q1.2⟩, f2, q3⟩
    · refine go_iload_n dX0_judgeRow_35 rfl ?_
      refine go_iret rfl dX0_judgeRow_36 (Nat.le_of_ble_eq_true rfl) (Nat.le_of_ble_eq_true rfl) ?_
      rw [if_neg (show ¬ pa_ S.1 k = _ from h)] at q3
      exact ⟨_, _, _, rfl, rfl, q3, fin _ f2⟩
  · obtain ⟨q1, q2, q3⟩ := hI
    refine go_iload_n dX0_judgeRow_17 rfl ?_
    refine go_iload_n dX0_judgeRow_18 rfl ?_
    refine go_icmp_ge (tgt := 43) dX0_judgeRow_19 (by decide) (fun _ => ?_) (fun h0_ => absurd (nI_le (by omega) (by omega)) h0_)
    refine go_bipush (v := (-9)) dX0_judgeRow_43 (by decide) ?_
    refine go_iret rfl dX0_judgeRow_45 (Nat.le_of_ble_eq_true rfl) (Nat.le_of_ble_eq_true rfl) ?_
    rw [Nat.sub_self] at q3
    exact ⟨_, _, _, rfl, rfl, q3, fin _ q2⟩
end JUDGE
