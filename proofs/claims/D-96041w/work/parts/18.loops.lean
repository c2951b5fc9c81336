/-! LOOPS; ENDS OF CONTRACTS WITH A CHANGED TABLE OF INTS -/
section LOOPS
variable {l : Launch} {D : dd_} {b : Nat} {M : mc_} {Q : Outcome → so_ → Prop} {cc : ByteArray} {pc : Nat} {st : List Value} {kc ks : Nat}
theorem go_loop {α : Type} (μ : α → Nat) (ls : α → List (Option Value)) (σ : α → so_) (I : α → Prop) (step : ∀ a, I a → (∀ c, I c → μ c < μ a → G_ l D b M Q cc pc (ls c) st (σ c) kc ks) → G_ l D b M Q cc pc (ls a) st (σ a) kc ks) (a : α) (h : I a) : G_ l D b M Q cc pc (ls a) st (σ a) kc ks := by
  have key : ∀ (n : Nat) (a : α), μ a < n → I a → G_ l D b M Q cc pc (ls a) st (σ a) kc ks := by
    intro n
    induction n with
    | zero => intro a h; exact absurd h (Nat.not_lt_zero _)
    | succ n ih => intro a h1 h2; exact step a h2 (fun c h3 h4 => ih c (by omega) h3)
  exact key (μ a + 1) a (Nat.lt_succ_self _) h
/-- a counted loop: s from s0 up to N -/
theorem go_for (N : Nat) (ls : Nat → List (Option Value)) (σ : Nat → so_) (s0 : Nat) (h0 : s0 ≤ N) (step : ∀ s, s0 ≤ s → s < N → G_ l D b M Q cc pc (ls (s + 1)) st (σ (s + 1)) kc ks → G_ l D b M Q cc pc (ls s) st (σ s) kc ks) (done : G_ l D b M Q cc pc (ls N) st (σ N) kc ks) : G_ l D b M Q cc pc (ls s0) st (σ s0) kc ks := by
  have key : ∀ (i s : Nat), s + i = N → s0 ≤ s → G_ l D b M Q cc pc (ls s) st (σ s) kc ks := by
    intro i
    induction i with
    | zero =>
      intro s h _
      have : s = N := by omega
      subst this
      exact done
    | succ i ih => intro s h h2; exact step s h2 (by omega) (ih (s + 1) (by omega) (by omega))
  exact key (N - s0) s0 (by omega) (Nat.le_refl _)
/-- the same with an invariant that isn't a function of the counter -/
theorem go_forI {α : Type} (N : Nat) (ls : Nat → α → List (Option Value)) (σ : Nat → α → so_) (I : Nat → α → Prop) (s0 : Nat) (a0 : α) (h0 : s0 ≤ N) (hI : I s0 a0) (step : ∀ s a, s0 ≤ s → s < N → I s a → (∀ c, I (s + 1) c → G_ l D b M Q cc pc (ls (s + 1) c) st (σ (s + 1) c) kc ks) → G_ l D b M Q cc pc (ls s a) st (σ s a) kc ks) (done : ∀ a, I N a → G_ l D b M Q cc pc (ls N a) st (σ N a) kc ks) : G_ l D b M Q cc pc (ls s0 a0) st (σ s0 a0) kc ks := by
  have key : ∀ (i s : Nat) (a : α), s + i = N → s0 ≤ s → I s a → G_ l D b M Q cc pc (ls s a) st (σ s a) kc ks := by
    intro i
    induction i with
    | zero =>
      intro s a h _ h3
      have : s = N := by omega
      subst this
      exact done a h3
    | succ i ih => intro s a h h2 h3; exact step s a h2 (by omega) h3 (fun c h4 => ih (s + 1) c (by omega) (by omega) h4)
  exact key (N - s0) s0 a0 (by omega) (Nat.le_refl _) hI
end LOOPS
def qp_ (P : Int32 → mi_ → Prop) (ty : ty_) (mr : mr_) (n : Nat) : Outcome → so_ → Prop := fun o σ2 => ∃ (r : Int32) (mi2 : mi_), o = .returned (some (.int r)) ∧ σ2 = (ty, mi2, mr, n) ∧ P r mi2
def qw_ (P : mi_ → Prop) (ty : ty_) (mr : mr_) (n : Nat) : Outcome → so_ → Prop := fun o σ2 => ∃ (mi2 : mi_), o = .returned none ∧ σ2 = (ty, mi2, mr, n) ∧ P mi2
def qw2_ (P : mi_ → mr_ → Prop) (ty : ty_) (n : Nat) : Outcome → so_ → Prop := fun o σ2 => ∃ (mi2 : mi_) (mr2 : mr_), o = .returned none ∧ σ2 = (ty, mi2, mr2, n) ∧ P mi2 mr2
section KQ2
variable {l : Launch} {D : dd_} {b : Nat} {M : mc_} {Q : Outcome → so_ → Prop} {cc : ByteArray} {pc : Nat} {ls : List (Option Value)} {rest : List Value} {kc ks : Nat} {ty : ty_} {mr : mr_} {n : Nat}
theorem kr_p {P : Int32 → mi_ → Prop} (k : ∀ (r : Int32) (mi2 : mi_), P r mi2 → G_ l D b M Q cc pc ls (.int r :: rest) (ty, mi2, mr, n) kc ks) : ∀ (v : Option Value) (σ2 : so_), qp_ P ty mr n (.returned v) σ2 → G_ l D b M Q cc pc ls (v.toList ++ rest) σ2 kc ks := by
  rintro v σ2 ⟨r, mi2, h1, rfl, h3⟩
  cases h1
  exact k r mi2 h3
theorem kr_w {P : mi_ → Prop} (k : ∀ (mi2 : mi_), P mi2 → G_ l D b M Q cc pc ls rest (ty, mi2, mr, n) kc ks) : ∀ (v : Option Value) (σ2 : so_), qw_ P ty mr n (.returned v) σ2 → G_ l D b M Q cc pc ls (v.toList ++ rest) σ2 kc ks := by
  rintro v σ2 ⟨mi2, h1, rfl, h3⟩
  cases h1
  exact k mi2 h3
theorem kr_w2 {P : mi_ → mr_ → Prop} (k : ∀ (mi2 : mi_) (mr2 : mr_), P mi2 mr2 → G_ l D b M Q cc pc ls rest (ty, mi2, mr2, n) kc ks) : ∀ (v : Option Value) (σ2 : so_), qw2_ P ty n (.returned v) σ2 → G_ l D b M Q cc pc ls (v.toList ++ rest) σ2 kc ks := by
  rintro v σ2 ⟨mi2, mr2, h1, rfl, h3⟩
  cases h1
  exact k mi2 mr2 h3
theorem kt_p {P : Int32 → mi_ → Prop} : ∀ (x : Nat) (σ2 : so_), qp_ P ty mr n (.threw x) σ2 → Q (.threw x) σ2 := by
  rintro x σ2 ⟨r, mi2, h1, -⟩
  cases h1
theorem kt_w {P : mi_ → Prop} : ∀ (x : Nat) (σ2 : so_), qw_ P ty mr n (.threw x) σ2 → Q (.threw x) σ2 := by
  rintro x σ2 ⟨mi2, h1, -⟩
  cases h1
theorem kt_w2 {P : mi_ → mr_ → Prop} : ∀ (x : Nat) (σ2 : so_), qw2_ P ty n (.threw x) σ2 → Q (.threw x) σ2 := by
  rintro x σ2 ⟨mi2, mr2, h1, -⟩
  cases h1
end KQ2
