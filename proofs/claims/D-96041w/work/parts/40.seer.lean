/-! ONE WHO SEES; A SORT MADE -/
set_option maxRecDepth 100000
def fz_ (x : Nat) (σ σ2 : so_) : Prop := (∀ a, a < σ.2.2.2 → σ2.1 a = σ.1 a) ∧ ff_ x σ.2.2.2 σ.2.1 σ2.2.1 σ.2.2.1 σ2.2.2.1 ∧ σ.2.2.2 ≤ σ2.2.2.2
theorem fz_.rf {x : Nat} {σ : so_} : fz_ x σ σ := ⟨fun _ _ => rfl, ff_.rf, Nat.le_refl _⟩
theorem fz_.tr {x : Nat} {σ σ2 σ3 : so_} (h1 : fz_ x σ σ2) (h2 : fz_ x σ2 σ3) : fz_ x σ σ3 := ⟨fun a h => (h2.1 a (Nat.lt_of_lt_of_le h h1.2.2)).trans (h1.1 a h), h1.2.1.tr h2.2.1 h1.2.2, Nat.le_trans h1.2.2 h2.2.2⟩
def co_ (x : Nat) (σ : so_) (r0 : Int32) (S2 : cS_) : Int32 → so_ → Prop := fun r σ2 => r = r0 ∧ ci_ σ2.1 σ2.2.1 σ2.2.2.1 σ2.2.2.2 x S2 ∧ fz_ x σ σ2
def qs_ (P : Int32 → so_ → Prop) : Outcome → so_ → Prop := fun o σ2 => ∃ r : Int32, o = .returned (some (.int r)) ∧ P r σ2
section KS
variable {l : Launch} {D : dd_} {b : Nat} {M : mc_} {Q : Outcome → so_ → Prop} {cc : ByteArray} {pc : Nat} {ls : List (Option Value)} {rest : List Value} {kc ks : Nat}
theorem kr_s {P : Int32 → so_ → Prop} (k : ∀ (r : Int32) (σ2 : so_), P r σ2 → G_ l D b M Q cc pc ls (.int r :: rest) σ2 kc ks) : ∀ (v : Option Value) (σ2 : so_), qs_ P (.returned v) σ2 → G_ l D b M Q cc pc ls (v.toList ++ rest) σ2 kc ks := by
  rintro v σ2 ⟨r, h1, h3⟩
  cases h1
  exact k r σ2 h3
theorem kt_s {P : Int32 → so_ → Prop} : ∀ (x : Nat) (σ2 : so_), qs_ P (.threw x) σ2 → Q (.threw x) σ2 := by
  rintro x σ2 ⟨r, h1, -⟩
  cases h1
end KS
def sw_ (v : tv_) (few full home : Int32) : tv_ := fun j => if j = 0 then nI (sN v + 1) else if j = 10 + 6 * sN v then nI 1 else if j = 10 + 6 * sN v + 1 then nI 5 else if j = 10 + 6 * sN v + 2 then nI 0 else if j = 10 + 6 * sN v + 3 then few else if j = 10 + 6 * sN v + 4 then full else if j = 10 + 6 * sN v + 5 then home else v j
section SW
variable {v : tv_} {f1 f2 f3 : Int32}
theorem sw_0 : sw_ v f1 f2 f3 0 = nI (sN v + 1) := if_pos rfl
theorem sw_a0 : sw_ v f1 f2 f3 (10 + 6 * sN v) = nI 1 := by unfold sw_; rw [if_neg (by omega), if_pos rfl]
theorem sw_a1 : sw_ v f1 f2 f3 (10 + 6 * sN v + 1) = nI 5 := by unfold sw_; rw [if_neg (by omega), if_neg (by omega), if_pos rfl]
theorem sw_a2 : sw_ v f1 f2 f3 (10 + 6 * sN v + 2) = nI 0 := by unfold sw_; rw [if_neg (by omega), if_neg (by omega), if_neg (by omega), if_pos rfl]
theorem sw_a3 : sw_ v f1 f2 f3 (10 + 6 * sN v + 3) = f1 := by unfold sw_; rw [if_neg (by omega), if_neg (by omega), if_neg (by omega), if_neg (by omega), if_pos rfl]
theorem sw_a4 : sw_ v f1 f2 f3 (10 + 6 * sN v + 4) = f2 := by unfold sw_; rw [if_neg (by omega), if_neg (by omega), if_neg (by omega), if_neg (by omega), if_neg (by omega), if_pos rfl]
theorem sw_a5 : sw_ v f1 f2 f3 (10 + 6 * sN v + 5) = f3 := by unfold sw_; rw [if_neg (by omega), if_neg (by omega), if_neg (by omega), if_neg (by omega), if_neg (by omega), if_neg (by omega), if_pos rfl]
theorem sw_ne {j : Nat} (h0 : j ≠ 0) (h : j < 10 + 6 * sN v ∨ 10 + 6 * sN v + 6 ≤ j) : sw_ v f1 f2 f3 j = v j := by unfold sw_; rw [if_neg (by omega), if_neg (by omega), if_neg (by omega), if_neg (by omega), if_neg (by omega), if_neg (by omega), if_neg (by omega)]
theorem sw_sN (h : sN v ≤ 4) : sN (sw_ v f1 f2 f3) = sN v + 1 := by unfold sN; rw [sw_0, nI_cl (by have := h; omega)]; rfl
theorem sw_wf (hv : wf_ v) (h : sN v < 4) : wf_ (sw_ v f1 f2 f3) := by
  obtain ⟨a1, a2, a3, a4, a5, a6, a7, a8, a9, a10⟩ := hv
  have es : sN (sw_ v f1 f2 f3) = sN v + 1 := sw_sN a2
  have er : rN (sw_ v f1 f2 f3) = rN v := rN_of (sw_ne (by decide) (by omega))
  have ew : wN (sw_ v f1 f2 f3) = wN v := wN_of (sw_ne (by decide) (by omega))
  refine ⟨by rw [es, sw_0], by rw [es]; omega, by rw [er, sw_ne (by decide) (by omega)]; exact a3, by rw [er]; exact a4, by rw [ew, sw_ne (by decide) (by omega)]; exact a5, by rw [ew]; exact a6, by rw [sw_ne (by decide) (by omega)]; exact a7, ?_, ?_, ?_⟩
  · rw [es]
    intro s hs
    by_cases h2 : s = sN v
    · subst h2
      have ek : kd_ (sw_ v f1 f2 f3) (sN v) = 5 := by unfold kd_; rw [sw_a1]; rfl
      have ef : fg_ (sw_ v f1 f2 f3) (sN v) = 0 := by unfold fg_; rw [sw_a2]; rfl
      exact ⟨⟨1, by omega, by omega, sw_a0⟩, by rw [ek]; exact sw_a1, by rw [ek]; omega, by rw [ef]; exact sw_a2, by rw [ef]; omega, by rw [ek]; omega⟩
    · exact so_ok_of (Nat.le_of_eq er.symm) (fun j g1 g2 => sw_ne (by omega) (by omega)) (a8 s (by omega))
  · rw [er]
    exact fun r hr => ru_ok_of (sw_ne (by omega) (by omega)) (sw_ne (by omega) (by omega)) (a9 r hr)
  · rw [ew]
    intro k hk
    rw [sw_ne (by omega) (by omega)]
    exact a10 k hk
end SW
section SEER
variable {l : Launch} {D : dd_} {b : Nat} {ty : ty_} {mi : mi_} {mr : mr_} {n x : Nat} {S : cS_}
def so1_ (q g : Nat) (mi : mi_) (mr : mr_) (i1 i2 i3 i4 i5 : Int32) : mi_ → mr_ → Prop := fun mi2 mr2 => (∀ a j, a ≠ q → mi2 a j = mi a j ∧ mr2 a j = mr a j) ∧ mr2 q 0 = some g ∧ mi2 q 1 = i1 ∧ mi2 q 2 = i2 ∧ mi2 q 3 = i3 ∧ mi2 q 4 = i4 ∧ mi2 q 5 = i5
theorem ct_sortInit {q g : Nat} {i1 i2 i3 i4 i5 : Int32} (hT : ty q = some (.inl 25)) : CT_ l D b yX25_init hX25_init (rm_ 2 0 0) [.ref q, .ref g, .int i1, .int i2, .int i3, .int i4, .int i5] (ty, mi, mr, n) (qw2_ (so1_ q g mi mr i1 i2 i3 i4 i5) ty n) := by
  refine ct_of [some (.ref q), some (.ref g), some (.int i1), some (.int i2), some (.int i3), some (.int i4), some (.int i5)] (by decide) rfl rfl ?_
  refine go_aload_n dX25_init_0 rfl ?_
  refine go_obj q580 dX25_init_1 (Nat.le_of_ble_eq_true rfl) (Nat.le_of_ble_eq_true rfl) (Nat.le_of_ble_eq_true rfl) ?_
  refine go_aload_n dX25_init_4 rfl ?_
  refine go_aload_n dX25_init_5 rfl ?_
  refine go_putR (x := some _) fX25_7_25 p25_0 rfl rfl rfl rfl dX25_init_6 (by assumption) ?_
  refine go_aload_n dX25_init_9 rfl ?_
  refine go_iload_n dX25_init_10 rfl ?_
  refine go_putI fX25_13_25 p25_1 rfl rfl rfl dX25_init_11 (by assumption) ?_
  refine go_aload_n dX25_init_14 rfl ?_
  refine go_iload_n dX25_init_15 rfl ?_
  refine go_putI fX25_17_25 p25_2 rfl rfl rfl dX25_init_16 (by assumption) ?_
  refine go_aload_n dX25_init_19 rfl ?_
  refine go_iload dX25_init_20 rfl ?_
  refine go_putI fX25_20_25 p25_3 rfl rfl rfl dX25_init_22 (by assumption) ?_
  refine go_aload_n dX25_init_25 rfl ?_
  refine go_iload dX25_init_26 rfl ?_
  refine go_putI fX25_23_25 p25_4 rfl rfl rfl dX25_init_28 (by assumption) ?_
  refine go_aload_n dX25_init_31 rfl ?_
  refine go_iload dX25_init_32 rfl ?_
  refine go_putI fX25_26_25 p25_5 rfl rfl rfl dX25_init_34 (by assumption) ?_
  refine go_vret rfl dX25_init_37 (Nat.le_of_ble_eq_true rfl) (Nat.le_of_ble_eq_true rfl) ?_
  refine ⟨_, _, rfl, rfl, fun a j h => ⟨?_, ur_a h⟩, ur_s, ?_, ?_, ?_, ?_, um_s⟩
  · rw [um_a h, um_a h, um_a h, um_a h, um_a h]
  · rw [um_k (by decide), um_k (by decide), um_k (by decide), um_k (by decide), um_s]
  · rw [um_k (by decide), um_k (by decide), um_k (by decide), um_s]
  · rw [um_k (by decide), um_k (by decide), um_s]
  · rw [um_k (by decide), um_s]
theorem ct_gainsOfSeer {k : Nat} {f1 f2 f3 : Int32} (hc : ci_ ty mi mr n x S) (h60 : k ≤ 60) (h4 : sN S.1 < 4) : CT_ l D b yX0_gainsOfSeer hX0_gainsOfSeer (rm_ 9 1 6) [.ref x, .int (nI k), .int f1, .int f2, .int f3] (ty, mi, mr, n) (qs_ (co_ x (ty, mi, mr, n) (sm_ (ga_ (sw_ S.1 f1 f2 f3) (sN S.1)) k) S)) := by
  have a1 := hc.1.1
  have hv := hc.2.2.2.2.1
  have hn := hc.2.1
  have hlt := hc.2.2.1
  have c0 := hc.1
  obtain ⟨c1, c2, c3, c4, c5, c6, c7, c8, c9, c10, c11, c12, c13, c14, c15, c16, c17, c18, c19, c20, c21, c22, c23, c24, c25, c26, c27, c28⟩ := c0
  refine ct_of [some (.ref x), some (.int (nI k)), some (.int f1), some (.int f2), some (.int f3), none] (by decide) rfl rfl ?_
  refine go_aload_n dX0_gainsOfSeer_0 rfl ?_
  refine go_callV vX0_142_0 (ct_openMind hc) dX0_gainsOfSeer_1 (by assumption) rfl rfl rfl rfl rfl (Nat.le_of_ble_eq_true rfl) (Nat.le_of_ble_eq_true rfl) (Nat.le_of_ble_eq_true rfl) (Nat.le_of_ble_eq_true rfl) (Nat.le_of_ble_eq_true rfl) (kr_z (fun mA mr2 hp => ?_)) kt_z
  obtain ⟨p1, p2, p3⟩ := hp
  have a2 : ty (x + 23) = some (.inl 15) := p3.2.1.1
  have a3 : mr2 (x + 23) 2 = some (x + 24) := p3.2.1.2.1
  have a4 : ty (x + 24) = some (.inr (.object "GoodHalfEmpty$Sort", 5)) := p3.2.1.2.2.2.2.2.2.2.2.1
  have a5 : mr2 x 1 = some (x + 8) := (p2 _ _ (by omega) (by omega) (by omega)).trans c6
  have a6 : mr2 (x + 8) 5 = some (x + 14) := (p2 _ _ (by omega) (by omega) (by omega)).trans (c8 5 (by omega))
  have e1 : mA (x + 23) 1 = nI (sN S.1) := p3.1.2.1.trans hv.1
  refine go_astore (ls2 := [_, _, _, _, _, _]) dX0_gainsOfSeer_4 rfl rfl ?_
  refine go_aload dX0_gainsOfSeer_6 rfl ?_
  refine go_getR fX0_180_15 dX0_gainsOfSeer_8 (by assumption) rfl (by assumption) ?_
  refine go_aload dX0_gainsOfSeer_11 rfl ?_
  refine go_getI fX0_177_15 dX0_gainsOfSeer_13 (by assumption) rfl ?_
  rw [e1]
  refine go_new (c := 25) rfl q1104 q104 dX0_gainsOfSeer_16 (Nat.le_of_ble_eq_true rfl) (Nat.le_of_ble_eq_true rfl) ?_
  have hT : ∀ a, a < n → ut_ ty n (.inl 25) a = ty a := fun a h => ut_a (by omega)
  have hTn : ut_ ty n (.inl 25) n = some (.inl 25) := ut_s
  have hTlt : ∀ a u, ut_ ty n (.inl 25) a = some u → a < n + 1 := fun a u h => by
    by_cases h2 : a = n
    · omega
    · rw [ut_a h2] at h
      have := hlt a u h
      omega
  generalize ut_ ty n (.inl 25) = ty2 at hT hTn hTlt ⊢
  have b1 : ty2 x = some (.inl 0) := (hT _ (by omega)).trans a1
  have b2 : ty2 (x + 23) = some (.inl 15) := (hT _ (by omega)).trans a2
  have b3 : ty2 (x + 24) = some (.inr (.object "GoodHalfEmpty$Sort", 5)) := (hT _ (by omega)).trans a4
  have b4 : ty2 (x + 8) = some (.inr (.object "GoodHalfEmpty$Goer", 6)) := (hT _ (by omega)).trans c7
  refine go_dup dX0_gainsOfSeer_19 rfl ?_
  refine go_aload_n dX0_gainsOfSeer_20 rfl ?_
  refine go_getR fX0_66_0 dX0_gainsOfSeer_21 (by assumption) rfl (by assumption) ?_
  refine go_iconst (v := nI 5) dX0_gainsOfSeer_24 (by decide) ?_
  refine go_aald dX0_gainsOfSeer_25 (by assumption) ⟨rfl, by omega, by decide⟩ (by assumption) ?_
  refine go_iconst (v := nI 1) dX0_gainsOfSeer_26 (by decide) ?_
  refine go_iconst (v := nI 0) dX0_gainsOfSeer_27 (by decide) ?_
  refine go_iload_n dX0_gainsOfSeer_28 rfl ?_
  refine go_iload_n dX0_gainsOfSeer_29 rfl ?_
  refine go_iload dX0_gainsOfSeer_30 rfl ?_
  refine go_callI iX0_242 (ct_sortInit hTn) dX0_gainsOfSeer_32 rfl rfl rfl (Nat.le_of_ble_eq_true rfl) (Nat.le_of_ble_eq_true rfl) (Nat.le_of_ble_eq_true rfl) (Nat.le_of_ble_eq_true rfl) (Nat.le_of_ble_eq_true rfl) (kr_w2 (fun mB mr3 hp => ?_)) kt_w2
  obtain ⟨s0, s1, s2, s3, s4, s5, s6⟩ := hp
  refine go_aast dX0_gainsOfSeer_35 b3 ⟨rfl, by omega, by decide⟩ hTn rfl (Or.inl rfl) ?_
  refine go_aload dX0_gainsOfSeer_36 rfl ?_
  refine go_dup dX0_gainsOfSeer_38 rfl ?_
  refine go_getI fX0_177_15 dX0_gainsOfSeer_39 (by assumption) rfl ?_
  rw [(s0 _ _ (by omega)).1, e1]
  refine go_iconst (v := nI 1) dX0_gainsOfSeer_42 (by decide) ?_
  refine go_iadd dX0_gainsOfSeer_43 ?_
  rw [nI_add]
  refine go_putI fX0_177_15 p15_1 rfl rfl rfl dX0_gainsOfSeer_44 (by assumption) ?_
  refine go_aload_n dX0_gainsOfSeer_47 rfl ?_
  refine go_aload dX0_gainsOfSeer_48 rfl ?_
  refine go_aload dX0_gainsOfSeer_50 rfl ?_
  refine go_getI fX0_177_15 dX0_gainsOfSeer_52 (by assumption) rfl ?_
  rw [um_s]
  refine go_iconst (v := nI 1) dX0_gainsOfSeer_55 (by decide) ?_
  refine go_isub dX0_gainsOfSeer_56 ?_
  rw [pd_1]
  refine go_iload_n dX0_gainsOfSeer_57 rfl ?_
  have d1 : ∀ a j, a < n → ¬ (a = x + 24 ∧ j = sN S.1) → ur_ mr3 (x + 24) (sN S.1) (some n) a j = mr2 a j := fun a j h1 h2 => (if_neg (by omega)).trans (s0 a j (by omega)).2
  have d2 : ur_ mr3 (x + 24) (sN S.1) (some n) (x + 24) (sN S.1) = some n := ur_s
  have d3 : ur_ mr3 (x + 24) (sN S.1) (some n) n 0 = some (x + 14) := (ur_a (by omega)).trans s1
  generalize ur_ mr3 (x + 24) (sN S.1) (some n) = mr4 at d1 d2 d3 ⊢
  have d4 : ∀ a j, a < n → ¬ (a = x + 23 ∧ j = 1) → um_ mB (x + 23) 1 (nI (sN S.1 + 1)) a j = mA a j := fun a j h1 h2 => (if_neg (by omega)).trans (s0 a j (by omega)).1
  have d5 : um_ mB (x + 23) 1 (nI (sN S.1 + 1)) (x + 23) 1 = nI (sN S.1 + 1) := um_s
  have d6 : ∀ j, um_ mB (x + 23) 1 (nI (sN S.1 + 1)) n j = mB n j := fun j => um_a (by omega)
  generalize um_ mB (x + 23) 1 (nI (sN S.1 + 1)) = mC at d4 d5 d6 ⊢
  have hlt2 : ∀ a u, ty a = some u → a < n := hlt
  have g1 : tr_ ty2 mC mr4 x (x + 23) (sw_ S.1 f1 f2 f3) := by
    obtain ⟨t1, t2, t3, t4, t5, t6, tS, tR, tM⟩ := p3.1
    refine ⟨by rw [d4 _ _ (by omega) (by omega), sw_ne (by decide) (by omega)]; exact t1, by rw [d5, sw_0], by rw [d4 _ _ (by omega) (by omega), sw_ne (by decide) (by omega)]; exact t3, by rw [d4 _ _ (by omega) (by omega), sw_ne (by decide) (by omega)]; exact t4, by rw [d4 _ _ (by omega) (by omega), sw_ne (by decide) (by omega)]; exact t5, by rw [d4 _ _ (by omega) (by omega), sw_ne (by decide) (by omega)]; exact t6, ?_, ?_, ?_⟩
    · rw [sw_sN (by omega)]
      intro s hs
      by_cases h2 : s = sN S.1
      · subst h2
        have ek : kd_ (sw_ S.1 f1 f2 f3) (sN S.1) = 5 := by unfold kd_; rw [sw_a1]; rfl
        exact ⟨n, d2, hTn, by rw [ek]; exact d3, by rw [d6, sw_a0]; exact s2, by rw [d6, sw_a2]; exact s3, by rw [d6, sw_a3]; exact s4, by rw [d6, sw_a4]; exact s5, by rw [d6, sw_a5]; exact s6, hn⟩
      · obtain ⟨q, q1, y1, y2, y3, y4, y5, y6, y7, y8⟩ := tS s (by omega)
        have hq := hlt _ _ y1
        have eq : ∀ j, mC q j = mA q j := fun j => d4 q j hq (by omega)
        have ek : kd_ (sw_ S.1 f1 f2 f3) s = kd_ S.1 s := by unfold kd_; rw [sw_ne (by omega) (by omega)]
        exact ⟨q, by rw [d1 _ _ (by omega) (by omega)]; exact q1, by rw [hT _ hq]; exact y1, by rw [d1 _ _ hq (by omega), ek]; exact y2, by rw [eq, sw_ne (by omega) (by omega)]; exact y3, by rw [eq, sw_ne (by omega) (by omega)]; exact y4, by rw [eq, sw_ne (by omega) (by omega)]; exact y5, by rw [eq, sw_ne (by omega) (by omega)]; exact y6, by rw [eq, sw_ne (by omega) (by omega)]; exact y7, y8⟩
    · rw [rN_of (sw_ne (by decide) (by omega))]
      intro r hr
      obtain ⟨y1, y2, y3⟩ := tR r hr
      have ek : rk_ (sw_ S.1 f1 f2 f3) r = rk_ S.1 r := by unfold rk_; rw [sw_ne (by omega) (by omega)]
      exact ⟨by rw [d1 _ _ (by omega) (by omega), ek]; exact y1, by rw [d4 _ _ (by omega) (by omega), sw_ne (by omega) (by omega)]; exact y2, by rw [d4 _ _ (by omega) (by omega), sw_ne (by omega) (by omega)]; exact y3⟩
    · intro j hj
      rw [d4 _ _ (by omega) (by omega), sw_ne (by omega) (by omega)]
      exact tM j hj
  have g2 : ts_ ty2 mr4 (x + 23) := p3.2.1.up (fun a h1 h2 => hT a (by omega)) (fun j => d1 _ j (by omega) (by omega))
  have g3 : ks_ ty2 x := fun j hj => ⟨by rw [hT _ (by omega)]; exact (c2 j hj).1, by rw [hT _ (by omega)]; exact (c2 j hj).2⟩
  have g4 : ar_ ty2 mr4 (x + 23) := by
    refine ⟨fun i hi y hy => ?_, fun i hi y hy => ?_⟩
    · by_cases h2 : i = sN S.1
      · subst h2
        rw [show x + 23 + 1 = x + 24 from rfl, d2] at hy
        cases hy
        exact hTn
      · rw [d1 _ _ (by omega) (by omega)] at hy
        have := p3.2.2.2.1 i hi y hy
        rw [hT _ (hlt _ _ this)]
        exact this
    · rw [d1 _ _ (by omega) (by omega)] at hy
      obtain ⟨kk, h1, h2⟩ := p3.2.2.2.2 i hi y hy
      exact ⟨kk, h1, by rw [hT _ (hlt _ _ h2)]; exact h2⟩
  refine go_callV vX0_245_0 (ct_gainsOf b1 ⟨g1, g2, g3, g4⟩ (sw_wf hv h4) (by rw [sw_sN (by omega)]; omega) h60) dX0_gainsOfSeer_58 (by assumption) rfl rfl rfl rfl rfl (Nat.le_of_ble_eq_true rfl) (Nat.le_of_ble_eq_true rfl) (Nat.le_of_ble_eq_true rfl) (Nat.le_of_ble_eq_true rfl) (Nat.le_of_ble_eq_true rfl) (kr_p (fun r mi2 hp => ?_)) kt_p
  obtain ⟨y1, y2⟩ := hp
  subst y1
  refine go_iret rfl dX0_gainsOfSeer_61 (Nat.le_of_ble_eq_true rfl) (Nat.le_of_ble_eq_true rfl) ?_
  have z1 : sk_ x n mi mi2 := fun a j h1 h2 => by
    have h3 : a < x + 23 ∨ x + 31 ≤ a := by unfold sc_ at h2; omega
    rw [y2 a j (by omega), d4 a j h1 (by omega)]
    exact p1 a j (by omega)
  have z2 : sr_ x n mr mr4 := fun a j h1 h2 h3 => (d1 a j h1 (by omega)).trans (p2 a j h1 h2 h3)
  exact ⟨_, rfl, rfl, hc.up hT z1 z2 (Nat.le_succ _) hTlt, hT, sk_ff z1 z2, Nat.le_succ _⟩
end SEER
