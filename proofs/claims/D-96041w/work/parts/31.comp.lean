/-! THE COMPONENT: how it holds its state; what is scratch -/
set_option maxRecDepth 100000
/-- the town; is there an image; the image; the row told, how many; the letters, how many; what was refused -/
abbrev cS_ : Type := tv_ × Bool × tv_ × (Nat → Int32) × Nat × (Nat → Int32) × Nat × (Nat → Int32)
def cs_ (ty : ty_) (mr : mr_) (x : Nat) : Prop := ty x = some (.inl 0) ∧ ks_ ty x ∧ mr x 0 = some (x + 1) ∧ ty (x + 1) = some (.inr (.object "GoodHalfEmpty$Rule", 6)) ∧ (∀ k, k < 6 → mr (x + 1) k = some (x + 2 + k)) ∧ mr x 1 = some (x + 8) ∧ ty (x + 8) = some (.inr (.object "GoodHalfEmpty$Goer", 6)) ∧ (∀ k, k < 6 → mr (x + 8) k = some (x + 9 + k)) ∧ mr x 2 = some (x + 15) ∧ mr x 3 = some (x + 23) ∧ mr x 4 = some (x + 31) ∧ ts_ ty mr (x + 15) ∧ ts_ ty mr (x + 23) ∧ ts_ ty mr (x + 31) ∧ mr x 6 = some (x + 39) ∧ ty (x + 39) = some (.inr (.byte, 12)) ∧ mr x 8 = some (x + 40) ∧ ty (x + 40) = some (.inr (.char, 80)) ∧ mr x 10 = some (x + 41) ∧ ty (x + 41) = some (.inr (.int, 7)) ∧ mr x 15 = some (x + 42) ∧ ty (x + 42) = some (.inr (.int, 80)) ∧ mr x 16 = some (x + 43) ∧ ty (x + 43) = some (.inr (.int, 4)) ∧ mr x 17 = some (x + 44) ∧ ty (x + 44) = some (.inr (.int, 4)) ∧ mr x 23 = some (x + 45) ∧ ty (x + 45) = some (.inr (.int, 36))
def ci_ (ty : ty_) (mi : mi_) (mr : mr_) (n x : Nat) (S : cS_) : Prop := cs_ ty mr x ∧ x + 62 ≤ n ∧ (∀ a t, ty a = some t → a < n) ∧ tr_ ty mi mr x (x + 15) S.1 ∧ wf_ S.1 ∧ ar_ ty mr (x + 15) ∧ mi x 5 = bo_ S.2.1 ∧ (S.2.1 = true → tr_ ty mi mr x (x + 31) S.2.2.1 ∧ wf_ S.2.2.1) ∧ ar_ ty mr (x + 31) ∧ mi x 7 = nI S.2.2.2.2.1 ∧ S.2.2.2.2.1 ≤ 12 ∧ (∀ k, k < S.2.2.2.2.1 → mi (x + 39) k = S.2.2.2.1 k) ∧ mi x 9 = nI S.2.2.2.2.2.2.1 ∧ S.2.2.2.2.2.2.1 ≤ 80 ∧ (∀ k, k < S.2.2.2.2.2.2.1 → mi (x + 40) k = S.2.2.2.2.2.1 k) ∧ (∀ k, k < 7 → mi (x + 41) k = S.2.2.2.2.2.2.2 k)
/-- what may change without the state's changing: the mind, rows of numbers in passing -/
def sc_ (x a j : Nat) : Prop := (x + 23 ≤ a ∧ a < x + 31) ∨ (x + 42 ≤ a ∧ a < x + 46) ∨ (a = x ∧ 11 ≤ j) ∨ (a = x + 15 ∧ j = 11) ∨ a = x + 21 ∨ a = x + 22
def sk_ (x n : Nat) (mi mi2 : mi_) : Prop := ∀ a j, a < n → ¬ sc_ x a j → mi2 a j = mi a j
def sr_ (x n : Nat) (mr mr2 : mr_) : Prop := ∀ a j, a < n → a ≠ x + 24 → a ≠ x + 25 → mr2 a j = mr a j
theorem sk_.rf {x n : Nat} {mi : mi_} : sk_ x n mi mi := fun _ _ _ _ => rfl
theorem sr_.rf {x n : Nat} {mr : mr_} : sr_ x n mr mr := fun _ _ _ _ _ => rfl
theorem sk_.tr {x n : Nat} {m1 m2 m3 : mi_} (h1 : sk_ x n m1 m2) (h2 : sk_ x n m2 m3) : sk_ x n m1 m3 := fun a j h3 h4 => (h2 a j h3 h4).trans (h1 a j h3 h4)
theorem sr_.tr {x n : Nat} {m1 m2 m3 : mr_} (h1 : sr_ x n m1 m2) (h2 : sr_ x n m2 m3) : sr_ x n m1 m3 := fun a j h3 h4 h5 => (h2 a j h3 h4 h5).trans (h1 a j h3 h4 h5)
theorem sk_.le {x n n2 : Nat} {m1 m2 : mi_} (h : sk_ x n2 m1 m2) (hn : n ≤ n2) : sk_ x n m1 m2 := fun a j h1 h2 => h a j (by omega) h2
theorem sr_.le {x n n2 : Nat} {m1 m2 : mr_} (h : sr_ x n2 m1 m2) (hn : n ≤ n2) : sr_ x n m1 m2 := fun a j h1 h2 h3 => h a j (by omega) h2 h3
theorem ts_.up {ty ty2 : ty_} {mr mr2 : mr_} {t : Nat} (h : ts_ ty mr t) (hT : ∀ a, t ≤ a → a < t + 8 → ty2 a = ty a) (hr : ∀ j, mr2 t j = mr t j) : ts_ ty2 mr2 t := by
  obtain ⟨a1, a2, a3, a4, a5, a6, a7, a8, a9, a10, a11, a12, a13, a14, a15⟩ := h
  exact ⟨by rw [hT _ (by omega) (by omega)]; exact a1, by rw [hr]; exact a2, by rw [hr]; exact a3, by rw [hr]; exact a4, by rw [hr]; exact a5, by rw [hr]; exact a6, by rw [hr]; exact a7, by rw [hr]; exact a8, by rw [hT _ (by omega) (by omega)]; exact a9, by rw [hT _ (by omega) (by omega)]; exact a10, by rw [hT _ (by omega) (by omega)]; exact a11, by rw [hT _ (by omega) (by omega)]; exact a12, by rw [hT _ (by omega) (by omega)]; exact a13, by rw [hT _ (by omega) (by omega)]; exact a14, by rw [hT _ (by omega) (by omega)]; exact a15⟩
theorem cs_.up {ty ty2 : ty_} {mr mr2 : mr_} {x n : Nat} (h : cs_ ty mr x) (hn : x + 62 ≤ n) (hT : ∀ a, a < n → ty2 a = ty a) (hr : sr_ x n mr mr2) : cs_ ty2 mr2 x := by
  obtain ⟨c1, c2, c3, c4, c5, c6, c7, c8, c9, c10, c11, c12, c13, c14, c15, c16, c17, c18, c19, c20, c21, c22, c23, c24, c25, c26, c27, c28⟩ := h
  have eT : ∀ k, k < 62 → ty2 (x + k) = ty (x + k) := fun k hk => hT _ (by omega)
  have er : ∀ k j, k < 62 → k ≠ 24 → k ≠ 25 → mr2 (x + k) j = mr (x + k) j := fun k j h1 h2 h3 => hr _ j (by omega) (by omega) (by omega)
  have e0 : ∀ j, mr2 x j = mr x j := fun j => hr x j (by omega) (by omega) (by omega)
  refine ⟨by rw [hT _ (by omega)]; exact c1, fun k hk => ⟨by rw [hT _ (by omega)]; exact (c2 k hk).1, by rw [hT _ (by omega)]; exact (c2 k hk).2⟩, by rw [e0]; exact c3, by rw [eT _ (by omega)]; exact c4, fun k hk => by rw [er _ _ (by omega) (by omega) (by omega)]; exact c5 k hk, by rw [e0]; exact c6, by rw [eT _ (by omega)]; exact c7, fun k hk => by rw [er _ _ (by omega) (by omega) (by omega)]; exact c8 k hk, by rw [e0]; exact c9, by rw [e0]; exact c10, by rw [e0]; exact c11, c12.up (fun a h1 h2 => hT a (by omega)) (fun j => er 15 j (by omega) (by omega) (by omega)), c13.up (fun a h1 h2 => hT a (by omega)) (fun j => er 23 j (by omega) (by omega) (by omega)), c14.up (fun a h1 h2 => hT a (by omega)) (fun j => er 31 j (by omega) (by omega) (by omega)), by rw [e0]; exact c15, by rw [eT _ (by omega)]; exact c16, by rw [e0]; exact c17, by rw [eT _ (by omega)]; exact c18, by rw [e0]; exact c19, by rw [eT _ (by omega)]; exact c20, by rw [e0]; exact c21, by rw [eT _ (by omega)]; exact c22, by rw [e0]; exact c23, by rw [eT _ (by omega)]; exact c24, by rw [e0]; exact c25, by rw [eT _ (by omega)]; exact c26, by rw [e0]; exact c27, by rw [eT _ (by omega)]; exact c28⟩
theorem ar_.up {ty ty2 : ty_} {mr mr2 : mr_} {t n : Nat} (h : ar_ ty mr t) (hlt : ∀ a u, ty a = some u → a < n) (hT : ∀ a, a < n → ty2 a = ty a) (h1 : ∀ j, mr2 (t + 1) j = mr (t + 1) j) (h2 : ∀ j, mr2 (t + 2) j = mr (t + 2) j) : ar_ ty2 mr2 t := by
  refine ⟨fun i hi y hy => ?_, fun i hi y hy => ?_⟩
  · rw [h1] at hy
    have := h.1 i hi y hy
    rw [hT _ (hlt _ _ this)]
    exact this
  · rw [h2] at hy
    obtain ⟨k, hk, this⟩ := h.2 i hi y hy
    exact ⟨k, hk, by rw [hT _ (hlt _ _ this)]; exact this⟩
/-- a town's picture, when the store grows and scratch changes -/
theorem tr_.up {ty ty2 : ty_} {mi mi2 : mi_} {mr mr2 : mr_} {x t n : Nat} {v : tv_} (h : tr_ ty mi mr x t v) (hx : t + 8 ≤ x + 62) (hn : x + 62 ≤ n) (hlt : ∀ a u, ty a = some u → a < n) (hT : ∀ a, a < n → ty2 a = ty a) (hm1 : ∀ j, j ≠ 11 → mi2 t j = mi t j) (hm2 : ∀ a j, t + 3 ≤ a → a ≤ t + 5 → mi2 a j = mi a j) (hm3 : ∀ a j, x + 62 ≤ a → a < n → mi2 a j = mi a j) (hr1 : ∀ j, mr2 (t + 1) j = mr (t + 1) j) (hr2 : ∀ j, mr2 (t + 2) j = mr (t + 2) j) (hr3 : ∀ a j, x + 62 ≤ a → a < n → mr2 a j = mr a j) : tr_ ty2 mi2 mr2 x t v := by
  obtain ⟨b1, b2, b3, b4, b5, b6, bS, bR, bM⟩ := h
  refine ⟨by rw [hm1 _ (by decide)]; exact b1, by rw [hm1 _ (by decide)]; exact b2, by rw [hm1 _ (by decide)]; exact b3, by rw [hm1 _ (by decide)]; exact b4, by rw [hm1 _ (by decide)]; exact b5, by rw [hm1 _ (by decide)]; exact b6, ?_, ?_, ?_⟩
  · intro s hs
    obtain ⟨q, q1, c1, c2, c3, c4, c5, c6, c7, c8⟩ := bS s hs
    have hq := hlt _ _ c1
    have e : ∀ j, mi2 q j = mi q j := fun j => hm3 q j c8 hq
    exact ⟨q, by rw [hr1]; exact q1, by rw [hT _ hq]; exact c1, by rw [hr3 _ _ c8 hq]; exact c2, by rw [e]; exact c3, by rw [e]; exact c4, by rw [e]; exact c5, by rw [e]; exact c6, by rw [e]; exact c7, c8⟩
  · intro r hr
    obtain ⟨c1, c2, c3⟩ := bR r hr
    exact ⟨by rw [hr2]; exact c1, by rw [hm2 _ _ (by omega) (by omega)]; exact c2, by rw [hm2 _ _ (by omega) (by omega)]; exact c3⟩
  · intro k hk
    rw [hm2 _ _ (by omega) (by omega)]
    exact bM k hk
theorem ci_.up {ty ty2 : ty_} {mi mi2 : mi_} {mr mr2 : mr_} {n n2 x : Nat} {S : cS_} (h : ci_ ty mi mr n x S) (hT : ∀ a, a < n → ty2 a = ty a) (hm : sk_ x n mi mi2) (hr : sr_ x n mr mr2) (hn : n ≤ n2) (hlt2 : ∀ a t, ty2 a = some t → a < n2) : ci_ ty2 mi2 mr2 n2 x S := by
  obtain ⟨h1, h2, h3, h4, h5, h6, h7, h8, h9, h10, h11, h12, h13, h14, h15, h16⟩ := h
  have e0 : ∀ j, j < 11 → mi2 x j = mi x j := fun j hj => hm x j (by omega) (by unfold sc_; omega)
  refine ⟨h1.up h2 hT hr, by omega, hlt2, ?_, h5, ?_, by rw [e0 _ (by omega)]; exact h7, fun z => ⟨?_, (h8 z).2⟩, ?_, by rw [e0 _ (by omega)]; exact h10, h11, fun k hk => ?_, by rw [e0 _ (by omega)]; exact h13, h14, fun k hk => ?_, fun k hk => ?_⟩
  · exact h4.up (by omega) h2 h3 hT (fun j hj => hm _ j (by omega) (by unfold sc_; omega)) (fun a j g1 g2 => hm a j (by omega) (by unfold sc_; omega)) (fun a j g1 g2 => hm a j g2 (by unfold sc_; omega)) (fun j => hr _ j (by omega) (by omega) (by omega)) (fun j => hr _ j (by omega) (by omega) (by omega)) (fun a j g1 g2 => hr a j g2 (by omega) (by omega))
  · exact h6.up h3 hT (fun j => hr _ j (by omega) (by omega) (by omega)) (fun j => hr _ j (by omega) (by omega) (by omega))
  · exact (h8 z).1.up (by omega) h2 h3 hT (fun j hj => hm _ j (by omega) (by unfold sc_; omega)) (fun a j g1 g2 => hm a j (by omega) (by unfold sc_; omega)) (fun a j g1 g2 => hm a j g2 (by unfold sc_; omega)) (fun j => hr _ j (by omega) (by omega) (by omega)) (fun j => hr _ j (by omega) (by omega) (by omega)) (fun a j g1 g2 => hr a j g2 (by omega) (by omega))
  · exact h9.up h3 hT (fun j => hr _ j (by omega) (by omega) (by omega)) (fun j => hr _ j (by omega) (by omega) (by omega))
  · rw [hm _ _ (by omega) (by unfold sc_; omega)]
    exact h12 k hk
  · rw [hm _ _ (by omega) (by unfold sc_; omega)]
    exact h15 k hk
  · rw [hm _ _ (by omega) (by unfold sc_; omega)]
    exact h16 k hk
theorem ci_.sk {ty : ty_} {mi mi2 : mi_} {mr mr2 : mr_} {n x : Nat} {S : cS_} (h : ci_ ty mi mr n x S) (hm : sk_ x n mi mi2) (hr : sr_ x n mr mr2) : ci_ ty mi2 mr2 n x S := h.up (fun _ _ => rfl) hm hr (Nat.le_refl _) h.2.2.1
theorem sk_mind {x n : Nat} {mi mi2 : mi_} (h : fm_ mi mi2 (x + 23) (x + 31)) : sk_ x n mi mi2 := fun a j _ h2 => h a j (by unfold sc_ at h2; omega)
/-- how it ends that only scratch has changed -/
def qk_ (P : Int32 → mi_ → mr_ → Prop) (ty : ty_) (n : Nat) : Outcome → so_ → Prop := fun o σ2 => ∃ (r : Int32) (mi2 : mi_) (mr2 : mr_), o = .returned (some (.int r)) ∧ σ2 = (ty, mi2, mr2, n) ∧ P r mi2 mr2
def qz_ (a : Nat) (P : mi_ → mr_ → Prop) (ty : ty_) (n : Nat) : Outcome → so_ → Prop := fun o σ2 => ∃ (mi2 : mi_) (mr2 : mr_), o = .returned (some (.ref a)) ∧ σ2 = (ty, mi2, mr2, n) ∧ P mi2 mr2
section KK
variable {l : Launch} {D : dd_} {b : Nat} {M : mc_} {Q : Outcome → so_ → Prop} {cc : ByteArray} {pc : Nat} {ls : List (Option Value)} {rest : List Value} {kc ks : Nat} {ty : ty_} {n : Nat}
theorem kr_k {P : Int32 → mi_ → mr_ → Prop} (k : ∀ (r : Int32) (mi2 : mi_) (mr2 : mr_), P r mi2 mr2 → G_ l D b M Q cc pc ls (.int r :: rest) (ty, mi2, mr2, n) kc ks) : ∀ (v : Option Value) (σ2 : so_), qk_ P ty n (.returned v) σ2 → G_ l D b M Q cc pc ls (v.toList ++ rest) σ2 kc ks := by
  rintro v σ2 ⟨r, mi2, mr2, h1, rfl, h3⟩
  cases h1
  exact k r mi2 mr2 h3
theorem kt_k {P : Int32 → mi_ → mr_ → Prop} : ∀ (x : Nat) (σ2 : so_), qk_ P ty n (.threw x) σ2 → Q (.threw x) σ2 := by
  rintro x σ2 ⟨r, mi2, mr2, h1, -⟩
  cases h1
theorem kr_z {a : Nat} {P : mi_ → mr_ → Prop} (k : ∀ (mi2 : mi_) (mr2 : mr_), P mi2 mr2 → G_ l D b M Q cc pc ls (.ref a :: rest) (ty, mi2, mr2, n) kc ks) : ∀ (v : Option Value) (σ2 : so_), qz_ a P ty n (.returned v) σ2 → G_ l D b M Q cc pc ls (v.toList ++ rest) σ2 kc ks := by
  rintro v σ2 ⟨mi2, mr2, h1, rfl, h3⟩
  cases h1
  exact k mi2 mr2 h3
theorem kt_z {a : Nat} {P : mi_ → mr_ → Prop} : ∀ (x : Nat) (σ2 : so_), qz_ a P ty n (.threw x) σ2 → Q (.threw x) σ2 := by
  rintro x σ2 ⟨mi2, mr2, h1, -⟩
  cases h1
end KK
section MIND
variable {l : Launch} {D : dd_} {b : Nat} {ty : ty_} {mi : mi_} {mr : mr_} {n x : Nat} {S : cS_}
/-- the mind as a copy of the town v -/
def md_ (ty : ty_) (mi : mi_) (mr : mr_) (x : Nat) (v : tv_) : Prop := tr_ ty mi mr x (x + 23) v ∧ ts_ ty mr (x + 23) ∧ ks_ ty x ∧ ar_ ty mr (x + 23)
theorem ct_openMind (hc : ci_ ty mi mr n x S) : CT_ l D b yX0_openMind hX0_openMind (rm_ 2 0 0) [.ref x] (ty, mi, mr, n) (qz_ (x + 23) (fun mi2 mr2 => fm_ mi mi2 (x + 23) (x + 31) ∧ sr_ x n mr mr2 ∧ md_ ty mi2 mr2 x S.1) ty n) := by
  obtain ⟨h1, h2, h3, h4, h5, h6, -⟩ := hc
  have h10 := h1
  obtain ⟨c1, c2, c3, c4, c5, c6, c7, c8, c9, c10, c11, c12, c13, c14, -⟩ := h1
  have a1 := c13.1
  refine ct_of [some (.ref x)] (by decide) rfl rfl ?_
  refine go_aload_n dX0_openMind_0 rfl ?_
  refine go_getR fX0_77_0 dX0_openMind_1 (by assumption) rfl (by assumption) ?_
  refine go_aload_n dX0_openMind_4 rfl ?_
  refine go_getR fX0_73_0 dX0_openMind_5 (by assumption) rfl (by assumption) ?_
  refine go_callV vX0_128_15 (ct_set (x := x) c13 c12 h4 h5 (by omega) (by omega) (by omega) h6) dX0_openMind_8 (by assumption) rfl rfl rfl rfl rfl (Nat.le_of_ble_eq_true rfl) (Nat.le_of_ble_eq_true rfl) (Nat.le_of_ble_eq_true rfl) (Nat.le_of_ble_eq_true rfl) (Nat.le_of_ble_eq_true rfl) (kr_w2 (fun mi2 mr2 hp => ?_)) kt_w2
  obtain ⟨p1, p2, p3, p4⟩ := hp
  have hr2 : sr_ x n mr mr2 := fun a j g1 g2 g3 => p3 a j (by omega) (by omega)
  have e3 : mr2 x 3 = some (x + 23) := by rw [p3 _ _ (by omega) (by omega)]; exact c10
  refine go_aload_n dX0_openMind_11 rfl ?_
  refine go_getR fX0_77_0 dX0_openMind_12 (by assumption) rfl (by assumption) ?_
  refine go_aret rfl dX0_openMind_15 (Nat.le_of_ble_eq_true rfl) (Nat.le_of_ble_eq_true rfl) ?_
  exact ⟨mi2, mr2, rfl, rfl, p2, hr2, p1, (h10.up h2 (fun _ _ => rfl) hr2).2.2.2.2.2.2.2.2.2.2.2.2.1, c2, p4⟩
end MIND
