/-! A TOWN READ -/
set_option maxRecDepth 100000
def pz_ (lt : Nat → Int32) (ln : Nat) : Nat → Nat → Nat → Nat ⊕ Nat
  | 0, p, _ => .inr p
  | f + 1, p, n => match stm_ lt ln p with
    | .inr e => .inr e
    | .inl (_, p2) => if p2 < ln then pz_ lt ln f p2 (n + 1) else .inl (n + 1)
def ap_ (lt : Nat → Int32) (ln : Nat) : Nat → Nat → tv_ → tv_ ⊕ Nat
  | 0, _, v => .inl v
  | n + 1, p, v => match stm_ lt ln p with
    | .inr _ => .inr p
    | .inl (t, p2) => if okt_ t (sN v) (rN v) = true then ap_ lt ln n p2 (com_ t v) else .inr p
def rdt_ (S : cS_) : (Int32 ⊕ Nat) × cS_ := match pz_ S.2.2.2.2.2.1 S.2.2.2.2.2.2.1 81 0 0 with
  | .inr e => (.inr (1000 + e), s_let S S.2.2.2.2.2.1 0)
  | .inl n => match ap_ S.2.2.2.2.2.1 S.2.2.2.2.2.2.1 n 0 S.1 with
    | .inr p => (.inr (2000 + p), s_let S S.2.2.2.2.2.1 0)
    | .inl v => (.inl (nI n), s_town (s_let S S.2.2.2.2.2.1 0) v)
def ps_ (lt : Nat → Int32) (ln : Nat) : Nat → Nat
  | 0 => 0
  | j + 1 => match stm_ lt ln (ps_ lt ln j) with
    | .inl (_, p2) => p2
    | .inr _ => ps_ lt ln j
theorem stm_le {lt : Nat → Int32} {ln p p2 : Nat} {t : tk_} (h : stm_ lt ln p = .inl (t, p2)) : p < p2 ∧ p2 ≤ ln := by
  unfold stm_ at h
  cases h1 : one_ bof_ lt ln p with
  | inr e => rw [h1] at h; cases h
  | inl q1 =>
  obtain ⟨k, p1⟩ := q1
  rw [h1] at h
  dsimp only [bR_] at h
  have e1 := one_le rfl h1
  have key : ∀ f p9, (if k = 1 then srt_ lt ln p1 else if k = 2 then rul_ lt ln p1 else nmb_ lt ln p1) = .inl (f, p9) → p1 ≤ p9 := by
    intro f p9 h
    split at h
    · unfold srt_ at h
      cases h1 : dgt_ lt ln p1 with
      | inr e => rw [h1] at h; cases h
      | inl q1 =>
      rw [h1] at h
      dsimp only [bR_] at h
      cases h2 : one_ gof_ lt ln q1.2 with
      | inr e => rw [h2] at h; cases h
      | inl q2 =>
      rw [h2] at h
      dsimp only at h
      cases h3 : dgt_ lt ln q2.2 with
      | inr e => rw [h3] at h; cases h
      | inl q3 =>
      rw [h3] at h
      dsimp only at h
      cases h4 : exp_ lt ln (nI 44) q3.2 with
      | inr e => rw [h4] at h; cases h
      | inl q4 =>
      rw [h4] at h
      dsimp only at h
      cases h5 : dgt_ lt ln q4.2 with
      | inr e => rw [h5] at h; cases h
      | inl q5 =>
      rw [h5] at h
      dsimp only at h
      cases h6 : dgt_ lt ln q5.2 with
      | inr e => rw [h6] at h; cases h
      | inl q6 =>
      rw [h6] at h
      dsimp only at h
      cases h7 : dgt_ lt ln q6.2 with
      | inr e => rw [h7] at h; cases h
      | inl q7 =>
      rw [h7] at h
      dsimp only at h
      cases h
      have := (dgt_le h1).1
      have := (one_le rfl h2).1
      have := (dgt_le h3).1
      have := (exp_le (by decide) h4).1
      have := (dgt_le h5).1
      have := (dgt_le h6).1
      have := (dgt_le h7).1
      omega
    · split at h
      · unfold rul_ at h
        cases h1 : one_ rof_ lt ln p1 with
        | inr e => rw [h1] at h; cases h
        | inl q1 =>
        rw [h1] at h
        dsimp only [bR_] at h
        cases h2 : dgt_ lt ln q1.2 with
        | inr e => rw [h2] at h; cases h
        | inl q2 =>
        rw [h2] at h
        dsimp only at h
        cases h
        have := (one_le rfl h1).1
        have := (dgt_le h2).1
        omega
      · unfold nmb_ at h
        cases h1 : num_ lt ln p1 with
        | inr e => rw [h1] at h; cases h
        | inl q1 =>
        rw [h1] at h
        dsimp only [bR_] at h
        cases h
        have := (num_le h1).1
        omega
  cases h2 : (if k = 1 then srt_ lt ln p1 else if k = 2 then rul_ lt ln p1 else nmb_ lt ln p1) with
  | inr e => rw [h2] at h; cases h
  | inl q2 =>
  obtain ⟨f, p9⟩ := q2
  have e2 := key f p9 h2
  rw [h2] at h
  dsimp only at h
  cases h3 : exp_ lt ln (nI 59) p9 with
  | inr e => rw [h3] at h; cases h
  | inl q3 =>
  rw [h3] at h
  dsimp only at h
  cases h
  have := exp_le (by decide) h3
  omega
theorem cs_.up2 {ty ty2 : ty_} {mr mr2 : mr_} {x n : Nat} (h : cs_ ty mr x) (hn : x + 62 ≤ n) (hT : ∀ a, a < n → ty2 a = ty a) (hr : ∀ a j, (a = x ∨ a = x + 1 ∨ a = x + 8 ∨ a = x + 15 ∨ a = x + 23 ∨ a = x + 31) → mr2 a j = mr a j) : cs_ ty2 mr2 x := by
  obtain ⟨c1, c2, c3, c4, c5, c6, c7, c8, c9, c10, c11, c12, c13, c14, c15, c16, c17, c18, c19, c20, c21, c22, c23, c24, c25, c26, c27, c28⟩ := h
  have eT : ∀ k, k < 62 → ty2 (x + k) = ty (x + k) := fun k hk => hT _ (by omega)
  have e0 : ∀ j, mr2 x j = mr x j := fun j => hr x j (by omega)
  refine ⟨by rw [hT _ (by omega)]; exact c1, fun k hk => ⟨by rw [hT _ (by omega)]; exact (c2 k hk).1, by rw [hT _ (by omega)]; exact (c2 k hk).2⟩, by rw [e0]; exact c3, by rw [eT _ (by omega)]; exact c4, fun k hk => by rw [hr _ _ (by omega)]; exact c5 k hk, by rw [e0]; exact c6, by rw [eT _ (by omega)]; exact c7, fun k hk => by rw [hr _ _ (by omega)]; exact c8 k hk, by rw [e0]; exact c9, by rw [e0]; exact c10, by rw [e0]; exact c11, c12.up (fun a h1 h2 => hT a (by omega)) (fun j => hr _ j (by omega)), c13.up (fun a h1 h2 => hT a (by omega)) (fun j => hr _ j (by omega)), c14.up (fun a h1 h2 => hT a (by omega)) (fun j => hr _ j (by omega)), by rw [e0]; exact c15, by rw [eT _ (by omega)]; exact c16, by rw [e0]; exact c17, by rw [eT _ (by omega)]; exact c18, by rw [e0]; exact c19, by rw [eT _ (by omega)]; exact c20, by rw [e0]; exact c21, by rw [eT _ (by omega)]; exact c22, by rw [e0]; exact c23, by rw [eT _ (by omega)]; exact c24, by rw [e0]; exact c25, by rw [eT _ (by omega)]; exact c26, by rw [e0]; exact c27, by rw [eT _ (by omega)]; exact c28⟩
/-- the state with another town -/
theorem ci_.town {ty : ty_} {mi mi2 : mi_} {mr mr2 : mr_} {n x : Nat} {S : cS_} {v2 : tv_} (h : ci_ ty mi mr n x S) (hm : ∀ a j, a < n → ¬ sc_ x a j → (a < x + 15 ∨ x + 23 ≤ a) → mi2 a j = mi a j) (hr : ∀ a j, a < n → a ≠ x + 24 → a ≠ x + 25 → a ≠ x + 16 → a ≠ x + 17 → mr2 a j = mr a j) (ht : tr_ ty mi2 mr2 x (x + 15) v2) (hv : wf_ v2) (ha : ar_ ty mr2 (x + 15)) : ci_ ty mi2 mr2 n x (s_town S v2) := by
  obtain ⟨h1, h2, h3, h4, h5, h6, h7, h8, h9, h10, h11, h12, h13, h14, h15, h16⟩ := h
  have e0 : ∀ j, j < 11 → mi2 x j = mi x j := fun j hj => hm x j (by omega) (by unfold sc_; omega) (by omega)
  refine ⟨h1.up2 h2 (fun _ _ => rfl) (fun a j g => hr a j (by omega) (by omega) (by omega) (by omega) (by omega)), h2, h3, ht, hv, ha, by rw [e0 _ (by omega)]; exact h7, fun z => ⟨?_, (h8 z).2⟩, ?_, by rw [e0 _ (by omega)]; exact h10, h11, fun k hk => ?_, by rw [e0 _ (by omega)]; exact h13, h14, fun k hk => ?_, fun k hk => ?_⟩
  · exact (h8 z).1.up (by omega) h2 h3 (fun _ _ => rfl) (fun j hj => hm _ j (by omega) (by unfold sc_; omega) (by omega)) (fun a j g1 g2 => hm a j (by omega) (by unfold sc_; omega) (by omega)) (fun a j g1 g2 => hm a j g2 (by unfold sc_; omega) (by omega)) (fun j => hr _ j (by omega) (by omega) (by omega) (by omega) (by omega)) (fun j => hr _ j (by omega) (by omega) (by omega) (by omega) (by omega)) (fun a j g1 g2 => hr a j g2 (by omega) (by omega) (by omega) (by omega))
  · exact h9.up h3 (fun _ _ => rfl) (fun j => hr _ j (by omega) (by omega) (by omega) (by omega) (by omega)) (fun j => hr _ j (by omega) (by omega) (by omega) (by omega) (by omega))
  · rw [hm _ _ (by omega) (by unfold sc_; omega) (by omega)]
    exact h12 k hk
  · rw [hm _ _ (by omega) (by unfold sc_; omega) (by omega)]
    exact h15 k hk
  · rw [hm _ _ (by omega) (by unfold sc_; omega) (by omega)]
    exact h16 k hk
def ao_ (x : Nat) (σ : so_) (r : (Int32 ⊕ Nat) × cS_) : Outcome → so_ → Prop := fun o σ2 => ci_ σ2.1 σ2.2.1 σ2.2.2.1 σ2.2.2.2 x r.2 ∧ fz_ x σ σ2 ∧ match r.1 with
  | .inl z => o = .returned (some (.int z))
  | .inr e => ∃ a : Nat, o = .threw a ∧ (σ2.1 a = some (.inl 18) ∨ σ2.1 a = some (.inl 20)) ∧ σ2.2.1 a 6 = ng_ e
theorem go_loopK {l : Launch} {D : dd_} {b : Nat} {M : mc_} {Q : Outcome → so_ → Prop} {cc : ByteArray} {pc : Nat} {st : List Value} {α : Type} (μ : α → Nat) (ls : α → List (Option Value)) (σ : α → so_) (kc ks : α → Nat) (I : α → Prop) (step : ∀ a, I a → (∀ c, I c → μ c < μ a → G_ l D b M Q cc pc (ls c) st (σ c) (kc c) (ks c)) → G_ l D b M Q cc pc (ls a) st (σ a) (kc a) (ks a)) (a : α) (h : I a) : G_ l D b M Q cc pc (ls a) st (σ a) (kc a) (ks a) := by
  have key : ∀ (n : Nat) (a : α), μ a < n → I a → G_ l D b M Q cc pc (ls a) st (σ a) (kc a) (ks a) := by
    intro n
    induction n with
    | zero => intro a h; exact absurd h (Nat.not_lt_zero _)
    | succ n ih => intro a h1 h2; exact step a h2 (fun c h3 h4 => ih c (by omega) h3)
  exact key (μ a + 1) a (Nat.lt_succ_self _) h
section READTOWN
variable {l : Launch} {D : dd_} {b : Nat} {ty : ty_} {mi : mi_} {mr : mr_} {n x R : Nat} {S : cS_}
theorem ct_readerInit (hT : ty R = some (.inl 19)) (hx : ty x = some (.inl 0)) : CT_ l D b yX19_init hX19_init (rm_ 2 0 0) [.ref R, .ref x] (ty, mi, mr, n) (qv_ (ty, um_ mi R 0 (mi x 9), ur_ mr R 2 (some x), n)) := by
  have h1 : ur_ mr R 2 (some x) R 2 = some x := ur_s
  refine ct_of [some (.ref R), some (.ref x)] (by decide) rfl rfl ?_
  refine go_aload_n dX19_init_0 rfl ?_
  refine go_aload_n dX19_init_1 rfl ?_
  refine go_putR (x := some _) fX19_1_19 p19_2 rfl rfl rfl rfl dX19_init_2 (by assumption) ?_
  refine go_aload_n dX19_init_5 rfl ?_
  refine go_obj q475 dX19_init_6 (Nat.le_of_ble_eq_true rfl) (Nat.le_of_ble_eq_true rfl) (Nat.le_of_ble_eq_true rfl) ?_
  refine go_aload_n dX19_init_9 rfl ?_
  refine go_aload_n dX19_init_10 rfl ?_
  refine go_getR fX19_1_19 dX19_init_11 (by assumption) rfl (by assumption) ?_
  refine go_getI fX19_13_0 dX19_init_14 (by assumption) rfl ?_
  refine go_putI fX19_19_19 p19_0 rfl rfl rfl dX19_init_17 (by assumption) ?_
  refine go_vret rfl dX19_init_20 (Nat.le_of_ble_eq_true rfl) (Nat.le_of_ble_eq_true rfl) ?_
  exact ⟨rfl, rfl⟩
theorem go_toldcast {q c : Nat} (hc : c = 22 ∨ c = 23 ∨ c = 24 ∨ c = 26) : ∃ qv : vw_C, CL_[c]? = some qv ∧ (qv.1 = "GoodHalfEmpty$Told" ∨ Cond.castable qv.1 "GoodHalfEmpty$Told" ∈ nw_) := by
  rcases hc with rfl | rfl | rfl | rfl
  · exact ⟨_, rfl, Or.inr (nw_in q1485 rfl)⟩
  · exact ⟨_, rfl, Or.inr (nw_in q1486 rfl)⟩
  · exact ⟨_, rfl, Or.inr (nw_in q1487 rfl)⟩
  · exact ⟨_, rfl, Or.inr (nw_in q1488 rfl)⟩
theorem told_c {q s : Nat} {t : tk_} (h : told_ ty mi mr x q s t) : ∃ c, (c = 22 ∨ c = 23 ∨ c = 24 ∨ c = 26) ∧ ty q = some (.inl c) := by
  obtain ⟨-, ⟨-, h, -⟩ | ⟨-, h, -⟩ | ⟨-, h, -⟩ | ⟨-, h, -⟩⟩ := h
  · exact ⟨22, by omega, h⟩
  · exact ⟨23, by omega, h⟩
  · exact ⟨24, by omega, h⟩
  · exact ⟨26, by omega, h⟩
end READTOWN
