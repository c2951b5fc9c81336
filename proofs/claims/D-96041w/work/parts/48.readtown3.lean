/-! A TOWN READ: its start and its letters -/
set_option maxRecDepth 100000
section READTOWN3
variable {l : Launch} {D : dd_} {b : Nat} {ty : ty_} {mi : mi_} {mr : mr_} {n x : Nat} {S : cS_}
theorem ct_readTown (hc : ci_ ty mi mr n x S) : CT_ l D b yX0_readTown hX0_readTown (rm_ 11 1000 7000) [.ref x] (ty, mi, mr, n) (ao_ x (ty, mi, mr, n) (rdt_ S)) := by
  have hx := hc.2.1
  have hlt := hc.2.2.1
  have hc0 := hc.1
  obtain ⟨c1, c2, c3, c4, c5, c6, c7, c8, c9, c10, c11, c12, c13, c14, c15, c16, c17, c18, -⟩ := hc0
  have l9 := hc.2.2.2.2.2.2.2.2.2.2.2.2.1
  have l80 := hc.2.2.2.2.2.2.2.2.2.2.2.2.2.1
  have l40 := hc.2.2.2.2.2.2.2.2.2.2.2.2.2.2.1
  refine ct_of [some (.ref x), none, none, none, none] (by decide) rfl rfl ?_
  refine go_facts (fun hz hl hb => ?_)
  refine go_new (c := 19) rfl q470 q98 dX0_readTown_0 (Nat.le_of_ble_eq_true rfl) (Nat.le_of_ble_eq_true rfl) ?_
  have hT19 : ut_ ty n (.inl 19) n = some (.inl 19) := ut_s
  have hTx : ut_ ty n (.inl 19) x = some (.inl 0) := (ut_a (by omega)).trans c1
  refine go_dup dX0_readTown_3 rfl ?_
  refine go_aload_n dX0_readTown_4 rfl ?_
  refine go_callI iX0_109 (ct_readerInit hT19 hTx) dX0_readTown_5 rfl rfl rfl (Nat.le_of_ble_eq_true rfl) (Nat.le_of_ble_eq_true rfl) (Nat.le_of_ble_eq_true rfl) (Nat.le_of_ble_eq_true rfl) (Nat.le_of_ble_eq_true rfl) (kr_v ?_) kt_v
  rw [l9]
  refine go_astore_n (ls2 := [_, _, _, _, _]) dX0_readTown_8 rfl rfl ?_
  refine go_aload_n dX0_readTown_9 rfl ?_
  refine go_iconst (v := nI 0) dX0_readTown_10 (by decide) ?_
  refine go_putI fX0_112_0 p0_9 rfl rfl rfl dX0_readTown_11 (by assumption) ?_
  refine go_bipush (v := nI 80) dX0_readTown_14 (by decide) ?_
  refine go_newq (N := 80) (Cn := "GoodHalfEmpty$Told") (by decide) (by decide) q488 dX0_readTown_16 rfl (by decide) (Nat.le_of_ble_eq_true rfl) (Nat.le_of_ble_eq_true rfl) ?_
  refine go_astore_n (ls2 := [_, _, _, _, _]) dX0_readTown_19 rfl rfl ?_
  refine go_iconst (v := nI 0) dX0_readTown_20 (by decide) ?_
  refine go_istore_n (ls2 := [_, _, _, _, _]) dX0_readTown_21 rfl rfl ?_
  have hT : ∀ a, a < n → ut_ (ut_ ty n (.inl 19)) (n + 1) (.inr (.object "GoodHalfEmpty$Told", 80)) a = ty a := fun a h => (ut_a (by omega)).trans (ut_a (by omega))
  have hTn : ut_ (ut_ ty n (.inl 19)) (n + 1) (.inr (.object "GoodHalfEmpty$Told", 80)) n = some (.inl 19) := (ut_a (by omega)).trans ut_s
  have hTm : ut_ (ut_ ty n (.inl 19)) (n + 1) (.inr (.object "GoodHalfEmpty$Told", 80)) (n + 1) = some (.inr (.object "GoodHalfEmpty$Told", 80)) := ut_s
  have hTlt : ∀ a u, ut_ (ut_ ty n (.inl 19)) (n + 1) (.inr (.object "GoodHalfEmpty$Told", 80)) a = some u → a < n + 2 := fun a u h => by
    by_cases h2 : a = n + 1
    · omega
    · rw [ut_a h2] at h
      by_cases h3 : a = n
      · omega
      · rw [ut_a h3] at h
        have := hlt a u h
        omega
  generalize ut_ (ut_ ty n (.inl 19)) (n + 1) (.inr (.object "GoodHalfEmpty$Told", 80)) = ty2 at hT hTn hTm hTlt ⊢
  have d1 : ∀ a j, a < n → ¬ (a = x ∧ j = 9) → um_ (um_ mi n 0 (nI S.2.2.2.2.2.2.1)) x 9 (nI 0) a j = mi a j := fun a j h1 h2 => (if_neg h2).trans (um_a (by omega))
  have d2 : um_ (um_ mi n 0 (nI S.2.2.2.2.2.2.1)) x 9 (nI 0) x 9 = nI 0 := um_s
  have d3 : um_ (um_ mi n 0 (nI S.2.2.2.2.2.2.1)) x 9 (nI 0) n 0 = nI S.2.2.2.2.2.2.1 := (um_a (by omega)).trans um_s
  have d4 : um_ (um_ mi n 0 (nI S.2.2.2.2.2.2.1)) x 9 (nI 0) n 1 = nI 0 := (um_a (by omega)).trans ((um_k (by decide)).trans (hz n 1 (Nat.le_refl _)).1)
  generalize um_ (um_ mi n 0 (nI S.2.2.2.2.2.2.1)) x 9 (nI 0) = m1 at d1 d2 d3 d4 ⊢
  have d5 : ∀ a j, a < n → ur_ mr n 2 (some x) a j = mr a j := fun a j h => ur_a (by omega)
  have d6 : ur_ mr n 2 (some x) n 2 = some x := ur_s
  generalize ur_ mr n 2 (some x) = r1 at d5 d6 ⊢
  generalize hln : S.2.2.2.2.2.2.1 = ln at d3 l80 l40
  generalize hltt : S.2.2.2.2.2.1 = lt at l40
  refine go_widen (kc2 := 2 + 11 * 0) (ks2 := 83 + 71 * 0) (Nat.le_of_ble_eq_true rfl) (Nat.le_of_ble_eq_true rfl) ?_
  refine go_loopK (α := Nat × so_) (fun c => 80 - c.1) (fun c => [some (.ref x), some (.ref n), some (.ref (n + 1)), some (.int (nI c.1)), none]) (fun c => c.2) (fun c => 2 + 11 * c.1) (fun c => 83 + 71 * c.1) (fun c => c.1 < 80 ∧ rti_ ty mi mr n x lt ln c.1 c.2 ∧ (∀ j, c.2.2.2.1 x j = mr x j) ∧ pz_ lt ln (81 - c.1) (ps_ lt ln c.1) c.1 = pz_ lt ln 81 0 0) ?_ (0, (ty2, m1, r1, n + 2)) ⟨by omega, ⟨Nat.zero_le _, ⟨hTn, d3, d4, d6, (hT _ (by omega)).trans c1, (d5 _ _ (by omega)).trans c17, (hT _ (by omega)).trans c18, fun k hk => (d1 _ _ (by omega) (by omega)).trans (l40 k hk), l80, Nat.zero_le _, hx⟩, ⟨(d5 _ _ (by omega)).trans c3, (hT _ (by omega)).trans c4, fun k hk => (d5 _ _ (by omega)).trans (c5 k hk), (d5 _ _ (by omega)).trans c6, (hT _ (by omega)).trans c7, fun k hk => (d5 _ _ (by omega)).trans (c8 k hk)⟩, hTm, fun j hj => absurd hj (Nat.not_lt_zero _), hT, fun a j h1 h2 => ⟨d1 a j h1 h2, d5 a j h1⟩, d2, Nat.le_refl _, hTlt⟩, fun j => d5 _ _ (by omega), rfl⟩
  rintro ⟨i, ty3, m3, r3, n3⟩ ⟨hi80, hI, h8, hpz⟩ ih
  have hI0 := hI
  obtain ⟨i1, i2, i3, i4, i5, i6, i7, i8, i9, i10⟩ := hI
  dsimp only at hi80 h8 hpz i1 i2 i3 i4 i5 i6 i7 i8 i9 i10 ⊢
  have hRn : n < n3 := by omega
  have i21 := i2.1
  have e81 : 81 - i = (80 - i) + 1 := by omega
  rw [e81] at hpz
  refine go_aload_n dX0_readTown_22 rfl ?_
  refine go_iload_n dX0_readTown_23 rfl ?_
  refine go_aload_n dX0_readTown_24 rfl ?_
  refine go_callV vX0_118_19 (ct_statement i2 i3) dX0_readTown_25 (by assumption) rfl rfl rfl rfl rfl (Nat.le_of_ble_eq_true rfl) (Nat.le_of_ble_eq_true rfl) (Nat.le_of_ble_eq_true rfl) (show 2 + 11 * i + 11 ≤ 1000 by omega) (show 83 + 71 * i + 71 ≤ 7000 by omega) (kr_T (fun t p2 q σ2 hr ht k1 k2 k3 k4 k5 => ?_)) (kt_T (fun e he o σ2 ht => ?_))
  · obtain ⟨ty4, m4, r4, n4⟩ := σ2
    dsimp only at ht k1 k2 k3 k4 k5
    have hle := stm_le hr
    have hps := ps_s hr
    have hq4 : ty4 (n + 1) = some (.inr (.object "GoodHalfEmpty$Told", 80)) := (k2 _ (by omega)).trans i4
    obtain ⟨c, hcc, hqc⟩ := told_c ht
    obtain ⟨qv, hcl, hcast⟩ := go_toldcast (q := q) hcc
    have hR4 : ty4 n = some (.inl 19) := (k2 _ hRn).trans i21
    refine go_aast (cv := c) dX0_readTown_28 hq4 ⟨rfl, by omega, by decide⟩ hqc hcl hcast ?_
    refine go_iinc (ls2 := [_, _, _, _, _]) dX0_readTown_29 rfl (nI_inc _) rfl rfl ?_
    refine go_aload_n dX0_readTown_32 rfl ?_
    refine go_getI fX0_122_19 dX0_readTown_33 (by assumption) rfl ?_
    rw [k1]
    refine go_aload_n dX0_readTown_36 rfl ?_
    refine go_getI fX0_125_19 dX0_readTown_37 (by assumption) rfl ?_
    rw [(k3 n 0 hRn (by omega)).1, i2.2.1]
    have hra : ∀ a j, a ≠ n + 1 → ur_ r4 (n + 1) i (some q) a j = r4 a j := fun a j h => ur_a h
    have hrb : ∀ j, j ≠ i → ur_ r4 (n + 1) i (some q) (n + 1) j = r4 (n + 1) j := fun j h => ur_k h
    have hrc : ur_ r4 (n + 1) i (some q) (n + 1) i = some q := ur_s
    generalize ur_ r4 (n + 1) i (some q) = r5 at hra hrb hrc ⊢
    have tup : ∀ {q s t}, told_ ty4 m4 r4 x q s t → told_ ty4 m4 r5 x q s t := fun h => h.up (fun a c g1 g2 g3 => ⟨g3, fun j => ⟨rfl, hra a j (fun z => by rw [z, hq4] at g3; cases g3)⟩⟩)
    have rd4 : rd_ ty4 m4 r4 x n lt ln p2 := i2.fr k2 k3 hRn k1 (by omega)
    have NI : rti_ ty mi mr n x lt ln (i + 1) (ty4, m4, r5, n4) := by
      refine ⟨by rw [hps]; omega, ?_, ?_, hq4, fun j hj => ?_, fun a ha => (k2 a (by show a < n3; omega)).trans (i6 a ha), fun a j ha hj => ⟨(k3 a j (by show a < n3; omega) (by omega)).1.trans (i7 a j ha hj).1, (hra a j (by omega)).trans ((k3 a j (by show a < n3; omega) (by omega)).2.trans (i7 a j ha hj).2)⟩, (k3 x 9 (by show x < n3; omega) (by omega)).1.trans i8, Nat.le_trans i9 k4, k5⟩
      · rw [hps]
        obtain ⟨y1, y2, y3, y4, y5, y6, y7, y8, y9, y10, y11⟩ := rd4
        exact ⟨y1, y2, y3, (hra _ _ (by omega)).trans y4, y5, (hra _ _ (by omega)).trans y6, y7, y8, y9, y10, y11⟩
      · obtain ⟨y1, y2, y3, y4, y5, y6⟩ := i3
        exact ⟨(hra _ _ (by omega)).trans ((k3 _ _ (by show x < n3; omega) (by omega)).2.trans y1), (k2 _ (by show x + 1 < n3; omega)).trans y2, fun k hk => (hra _ _ (by omega)).trans ((k3 _ _ (by show x + 1 < n3; omega) (by omega)).2.trans (y3 k hk)), (hra _ _ (by omega)).trans ((k3 _ _ (by show x < n3; omega) (by omega)).2.trans y4), (k2 _ (by show x + 8 < n3; omega)).trans y5, fun k hk => (hra _ _ (by omega)).trans ((k3 _ _ (by show x + 8 < n3; omega) (by omega)).2.trans (y6 k hk))⟩
      · by_cases h : j = i
        · subst h
          exact ⟨q, t, hrc, by rw [hps]; exact hr, tup ht⟩
        · obtain ⟨q2, t2, y1, y2, y3⟩ := i5 j (by omega)
          refine ⟨q2, t2, (hrb j h).trans ((k3 _ _ (by show n + 1 < n3; omega) (by omega)).2.trans y1), y2, tup (y3.up (fun a c g1 g2 g3 => ?_))⟩
          have ha := i10 _ _ g3
          have han : a ≠ n := fun z => by rw [z, i21] at g3; cases g3; omega
          exact ⟨(k2 a ha).trans g3, fun j => k3 a j ha (by omega)⟩
    have N8 : ∀ j, r5 x j = mr x j := fun j => (hra _ _ (by omega)).trans ((k3 _ _ (by show x < n3; omega) (by omega)).2.trans (h8 j))
    rw [pz_s hr] at hpz
    refine go_icmp_lt (tgt := 22) dX0_readTown_40 (by decide) (fun h => ?_) (fun h => ?_)
    · have h2 : p2 < ln := (nI_ltI (by omega) (by omega)).mp h
      rw [if_pos h2] at hpz
      refine go_widen (kc2 := 2 + 11 * (i + 1)) (ks2 := 83 + 71 * (i + 1)) (show 2 + 11 * i + 11 ≤ 2 + 11 * (i + 1) by omega) (show 83 + 71 * i + 71 ≤ 83 + 71 * (i + 1) by omega) ?_
      refine ih (i + 1, (ty4, m4, r5, n4)) ⟨?_, NI, N8, ?_⟩ ?_
      · show i + 1 < 80
        have := NI.1
        rw [hps] at this
        omega
      · dsimp only
        rw [show 81 - (i + 1) = 80 - i by omega, hps]
        exact hpz
      · show 80 - (i + 1) < 80 - i
        omega
    · have h2 : ¬ p2 < ln := fun z => h (nI_lt z (by omega))
      rw [if_neg h2] at hpz
      refine go_widen (kc2 := 900) (ks2 := 6000) (show 2 + 11 * i + 11 ≤ 900 by omega) (show 83 + 71 * i + 71 ≤ 6000 by omega) ?_
      subst hln hltt
      exact rt_B hc NI N8 (by omega) hpz.symm
  · rw [pz_e he] at hpz
    have e1 : rdt_ S = (.inr (1000 + e), s_let S S.2.2.2.2.2.1 0) := by
      unfold rdt_
      rw [hltt, hln, ← hpz]
    rw [e1]
    obtain ⟨a, g1, g2, g3, g4, g5, g6, g7⟩ := ht
    dsimp only at g4 g5 g6
    obtain ⟨y1, y2⟩ := hc.lt0 (ty2 := σ2.1) (mi2 := σ2.2.1) (mr2 := σ2.2.2.1) (n2 := σ2.2.2.2) (fun a ha => (g4 a (by omega)).trans (i6 a ha)) (fun a j ha hj => ⟨(g5 a j (by omega) (by omega)).1.trans (i7 a j ha hj).1, (g5 a j (by omega) (by omega)).2.trans (i7 a j ha hj).2⟩) ((g5 x 9 (by omega) (by omega)).1.trans i8) (fun j => (g5 x j (by omega) (by omega)).2.trans (h8 j)) (by omega) g7
    exact ⟨y1, y2, a, g1, g2, g3⟩
end READTOWN3
