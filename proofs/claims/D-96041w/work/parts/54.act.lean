/-! REFUSALS CAUGHT; the face -/
set_option maxRecDepth 100000
section NOTHROW
variable {l : Launch} {D : dd_} {b : Nat} {M : mc_} {Q : Outcome → so_ → Prop} {cc : ByteArray} {pc : Nat} {ls : List (Option Value)} {st : List Value} {σ : so_} {kc ks : Nat}
theorem go_invN {y : MethodName} {hd : Cond} {rm : Room} {maxL : Nat} {av rest : List Value} {ig : Instr} {Qc : Outcome → so_ → Prop} (hct : CT_ l D b y hd rm av σ Qc) (hcd : hc_ hd y maxL) (hhd : hd ∈ lw_all) (hini : Cond.initialized y.cls ∈ lw_all)
    (hinv : ∀ (p : Program) (e : Env) (s : State) (m : MethodId) (args : Array Value) (below : List Frame) (meth : Method) (c : Code) (H : Heap) (la : Array Slot), cx_ M cc p l s m args meth c → wd_ D b σ s H → iv_ p l e M.2.2.2.2.1 s m args below meth c H (F0 m pc la st) rest y av.toArray)
    (d : decode cc pc = .ok (ig, 3)) (hrest : (rest.map fun v => v.category).sum ≤ 12) (hR1 : rm.frames + 1 ≤ M.2.2.2.2.1.frames) (hR2 : 12 + (maxL + 11) + rm.locals ≤ M.2.2.2.2.1.locals) (hk1 : kc + rm.cells ≤ M.2.2.2.2.1.cells) (hk2 : ks + rm.slots ≤ M.2.2.2.2.1.slots)
    (kr : ∀ (v : Option Value) (σ2 : so_), Qc (.returned v) σ2 → G_ l D b M Q cc (pc + 3) ls (v.toList ++ rest) σ2 (kc + rm.cells) (ks + rm.slots)) (kt : ∀ (x : Nat) (σ2 : so_), Qc (.threw x) σ2 → False) : G_ l D b M Q cc pc ls st σ kc ks := by
  intro p e s m args below meth c H locs la C hw hs hl
  exact w_call hct C.2.2.2.2.2.2.2.2.2 C.2.2.2.2.2.2.1 hcd hhd hini (hinv p e s m args below meth c H la C hw) rfl (hl.1.trans C.2.2.1.symm) (by rw [C.2.1]; exact d) (lv_room12 hrest) hR1 hR2 hk1 hk2 hw hs (fun v σ2 H2 L2 hq hw2 hs2 => kr v σ2 hq p e s m args below meth c H2 L2 la C hw2 hs2 hl) (fun x σ2 L2 T hq hw2 hs2 X => (kt x σ2 hq).elim)
theorem go_callVN {y : MethodName} {hd : Cond} {rm : Room} {maxL n idx a c : Nat} {C : String} {q : vw_C} {As rest : List Value} {Qc : Outcome → so_ → Prop} (h : lV_ M.1 idx C y hd maxL n) (hct : CT_ l D b y hd rm (.ref a :: As) σ Qc) (d : decode cc pc = .ok (.invokevirtual idx, 3)) (hT : σ.1 a = some (.inl c)) (hc : CL_[c]? = some q) (hC : q.1 = C) (hn : As.length = n) (hst : st = As.reverse ++ .ref a :: rest)
    (hrest : (rest.map fun v => v.category).sum ≤ 12) (hR1 : rm.frames + 1 ≤ M.2.2.2.2.1.frames) (hR2 : 12 + (maxL + 11) + rm.locals ≤ M.2.2.2.2.1.locals) (hk1 : kc + rm.cells ≤ M.2.2.2.2.1.cells) (hk2 : ks + rm.slots ≤ M.2.2.2.2.1.slots)
    (kr : ∀ (v : Option Value) (σ2 : so_), Qc (.returned v) σ2 → G_ l D b M Q cc (pc + 3) ls (v.toList ++ rest) σ2 (kc + rm.cells) (ks + rm.slots)) (kt : ∀ (x : Nat) (σ2 : so_), Qc (.threw x) σ2 → False) : G_ l D b M Q cc pc ls st σ kc ks := by
  refine go_invN hct h.1.2.2.2.2 h.1.1 h.1.2.1 (fun p e s m args below meth c0 H la X hw => ?_) d hrest hR1 hR2 hk1 hk2 kr kt
  obtain ⟨cell, r1, r2, r3, -⟩ := recv_ hw hT hc
  exact iv_V X.1 X.2.2.2.2.2.1 X.2.2.2.2.2.2.1 hw.1.2.2.1 h r1 r2 (by rw [← hC]; exact r3) rfl hn hst (by rw [X.2.1]; exact d)
theorem go_callUN {x y : MethodName} {hd : Cond} {rm : Room} {maxL n idx a c : Nat} {C owner : String} {q : vw_C} {As rest : List Value} {Qc : Outcome → so_ → Prop} (h : lU_ M.1 idx C owner x y hd maxL n) (hct : CT_ l D b y hd rm (.ref a :: As) σ Qc) (d : decode cc pc = .ok (.invokevirtual idx, 3)) (hT : σ.1 a = some (.inl c)) (hc : CL_[c]? = some q) (hC : q.1 = C) (hn : As.length = n) (hst : st = As.reverse ++ .ref a :: rest)
    (hrest : (rest.map fun v => v.category).sum ≤ 12) (hR1 : rm.frames + 1 ≤ M.2.2.2.2.1.frames) (hR2 : 12 + (maxL + 11) + rm.locals ≤ M.2.2.2.2.1.locals) (hk1 : kc + rm.cells ≤ M.2.2.2.2.1.cells) (hk2 : ks + rm.slots ≤ M.2.2.2.2.1.slots)
    (kr : ∀ (v : Option Value) (σ2 : so_), Qc (.returned v) σ2 → G_ l D b M Q cc (pc + 3) ls (v.toList ++ rest) σ2 (kc + rm.cells) (ks + rm.slots)) (kt : ∀ (x : Nat) (σ2 : so_), Qc (.threw x) σ2 → False) : G_ l D b M Q cc pc ls st σ kc ks := by
  refine go_invN hct h.1.2.2.2.2 h.1.1 h.1.2.1 (fun p e s m args below meth c0 H la X hw => ?_) d hrest hR1 hR2 hk1 hk2 kr kt
  obtain ⟨cell, r1, r2, r3, -⟩ := recv_ hw hT hc
  exact iv_U X.1 X.2.2.2.2.2.1 X.2.2.2.2.2.2.1 hw.1.2.2.1 h r1 r2 (by rw [← hC]; exact r3) rfl hn hst (by rw [X.2.1]; exact d)
theorem kn_i {r : Int32} : ∀ (x : Nat) (σ2 : so_), qi_ r σ (.threw x) σ2 → False := fun _ _ h => by cases h.1
theorem kn_k {P : Int32 → mi_ → mr_ → Prop} {ty : ty_} {n : Nat} : ∀ (x : Nat) (σ2 : so_), qk_ P ty n (.threw x) σ2 → False := fun _ _ h => by
  obtain ⟨_, _, _, h1, -⟩ := h
  cases h1
end NOTHROW
/-- how far a fault lies -/
theorem stm_e {lt : Nat → Int32} {ln p e : Nat} (hp : p ≤ ln) (h : stm_ lt ln p = .inr e) : e ≤ ln := by
  have de : ∀ {q e : Nat}, dgt_ lt ln q = .inr e → e = q := fun h => by
    unfold dgt_ at h
    split at h
    · cases h
    · cases h; rfl
  have ee : ∀ {q e : Nat} {c : Int32}, exp_ lt ln c q = .inr e → e = q := fun h => by
    unfold exp_ at h
    split at h
    · cases h
    · cases h; rfl
  have oe : ∀ {f : Int32 → Option Nat} {q e : Nat}, one_ f lt ln q = .inr e → e = q := fun h => by
    unfold one_ at h
    split at h
    · cases h
    · cases h; rfl
  have ne : ∀ {q e : Nat}, num_ lt ln q = .inr e → e = q := fun {q e} h => by
    unfold num_ at h
    cases h1 : dgt_ lt ln q with
    | inr e2 => rw [h1] at h; cases h; exact de h1
    | inl w =>
      rw [h1] at h
      dsimp only [bR_] at h
      split at h <;> cases h
  unfold stm_ at h
  cases h1 : one_ bof_ lt ln p with
  | inr e2 => rw [h1] at h; cases h; rw [oe h1]; exact hp
  | inl q1 =>
  obtain ⟨k, p1⟩ := q1
  have e1 := one_le rfl h1
  rw [h1] at h
  dsimp only [bR_] at h
  have key : (∃ e2, (if k = 1 then srt_ lt ln p1 else if k = 2 then rul_ lt ln p1 else nmb_ lt ln p1) = .inr e2 ∧ e2 ≤ ln) ∨ ∃ f p9, (if k = 1 then srt_ lt ln p1 else if k = 2 then rul_ lt ln p1 else nmb_ lt ln p1) = .inl (f, p9) ∧ p9 ≤ ln := by
    split
    · cases hs : srt_ lt ln p1 with
      | inl w => exact Or.inr ⟨w.1, w.2, rfl, srt_le hs⟩
      | inr e2 =>
        refine Or.inl ⟨e2, rfl, ?_⟩
        unfold srt_ at hs
        cases g1 : dgt_ lt ln p1 with
        | inr e3 => rw [g1] at hs; cases hs; rw [de g1]; exact e1.2.1
        | inl q1 =>
        have k1 := dgt_le (d := q1.1) (p2 := q1.2) g1
        rw [g1] at hs
        dsimp only [bR_] at hs
        cases g2 : one_ gof_ lt ln q1.2 with
        | inr e3 => rw [g2] at hs; cases hs; rw [oe g2]; omega
        | inl q2 =>
        have k2 := one_le (k := q2.1) (p2 := q2.2) rfl g2
        rw [g2] at hs
        dsimp only at hs
        cases g3 : dgt_ lt ln q2.2 with
        | inr e3 => rw [g3] at hs; cases hs; rw [de g3]; omega
        | inl q3 =>
        have k3 := dgt_le (d := q3.1) (p2 := q3.2) g3
        rw [g3] at hs
        dsimp only at hs
        cases g4 : exp_ lt ln (nI 44) q3.2 with
        | inr e3 => rw [g4] at hs; cases hs; rw [ee g4]; omega
        | inl q4 =>
        have k4 := exp_le (u := q4.1) (p2 := q4.2) (by decide) g4
        rw [g4] at hs
        dsimp only at hs
        cases g5 : dgt_ lt ln q4.2 with
        | inr e3 => rw [g5] at hs; cases hs; rw [de g5]; omega
        | inl q5 =>
        have k5 := dgt_le (d := q5.1) (p2 := q5.2) g5
        rw [g5] at hs
        dsimp only at hs
        cases g6 : dgt_ lt ln q5.2 with
        | inr e3 => rw [g6] at hs; cases hs; rw [de g6]; omega
        | inl q6 =>
        have k6 := dgt_le (d := q6.1) (p2 := q6.2) g6
        rw [g6] at hs
        dsimp only at hs
        cases g7 : dgt_ lt ln q6.2 with
        | inr e3 => rw [g7] at hs; cases hs; rw [de g7]; omega
        | inl q7 => rw [g7] at hs; cases hs
    · split
      · cases hs : rul_ lt ln p1 with
        | inl w => exact Or.inr ⟨w.1, w.2, rfl, rul_le hs⟩
        | inr e2 =>
          refine Or.inl ⟨e2, rfl, ?_⟩
          unfold rul_ at hs
          cases g1 : one_ rof_ lt ln p1 with
          | inr e3 => rw [g1] at hs; cases hs; rw [oe g1]; exact e1.2.1
          | inl q1 =>
          have k1 := one_le (k := q1.1) (p2 := q1.2) rfl g1
          rw [g1] at hs
          dsimp only [bR_] at hs
          cases g2 : dgt_ lt ln q1.2 with
          | inr e3 => rw [g2] at hs; cases hs; rw [de g2]; omega
          | inl q2 => rw [g2] at hs; cases hs
      · cases hs : nmb_ lt ln p1 with
        | inl w =>
          unfold nmb_ at hs
          cases g1 : num_ lt ln p1 with
          | inr e3 => rw [g1] at hs; cases hs
          | inl q1 =>
            have k1 := num_le (d := q1.1) (p2 := q1.2) g1
            rw [g1] at hs
            cases hs
            exact Or.inr ⟨_, _, rfl, k1.2.1⟩
        | inr e2 =>
          refine Or.inl ⟨e2, rfl, ?_⟩
          unfold nmb_ at hs
          cases g1 : num_ lt ln p1 with
          | inr e3 => rw [g1] at hs; cases hs; rw [ne g1]; exact e1.2.1
          | inl q1 => rw [g1] at hs; cases hs
  rcases key with ⟨e2, k1, k2⟩ | ⟨f, p9, k1, k2⟩
  · rw [k1] at h
    cases h
    exact k2
  · rw [k1] at h
    dsimp only at h
    cases g1 : exp_ lt ln (nI 59) p9 with
    | inr e3 => rw [g1] at h; cases h; rw [ee g1]; exact k2
    | inl q1 => rw [g1] at h; cases h
theorem pz_le {lt : Nat → Int32} {ln : Nat} : ∀ {f p c e : Nat}, p ≤ ln → pz_ lt ln f p c = .inr e → e ≤ ln
  | 0, p, c, e, hp, h => by cases h; exact hp
  | f + 1, p, c, e, hp, h => by
    cases hs : stm_ lt ln p with
    | inr e2 =>
      rw [pz_e hs] at h
      cases h
      exact stm_e hp hs
    | inl w =>
      obtain ⟨t, p2⟩ := w
      rw [pz_s hs] at h
      split at h
      · exact pz_le (stm_le hs).2 h
      · cases h
theorem ap_le {lt : Nat → Int32} {ln : Nat} : ∀ {k p e : Nat} {v : tv_}, p ≤ ln → ap_ lt ln k p v = .inr e → e ≤ ln
  | 0, p, e, v, hp, h => by cases h
  | k + 1, p, e, v, hp, h => by
    cases hs : stm_ lt ln p with
    | inr e2 =>
      unfold ap_ at h
      rw [hs] at h
      cases h
      exact hp
    | inl w =>
      obtain ⟨t, p2⟩ := w
      rw [ap_s hs] at h
      split at h
      · exact ap_le (stm_le hs).2 h
      · cases h
        exact hp
def eok_ (e : Nat) : Prop := e < 7 ∨ (1000 ≤ e ∧ e < 10000)
theorem rdt_e {S S2 : cS_} {e : Nat} (hl : S.2.2.2.2.2.2.1 ≤ 80) (h : rdt_ S = (.inr e, S2)) : eok_ e := by
  unfold rdt_ at h
  unfold eok_
  cases h1 : pz_ S.2.2.2.2.2.1 S.2.2.2.2.2.2.1 81 0 0 with
  | inr e2 =>
    rw [h1] at h
    cases h
    have := pz_le (Nat.zero_le _) h1
    omega
  | inl k =>
    rw [h1] at h
    dsimp only at h
    cases h2 : ap_ S.2.2.2.2.2.1 S.2.2.2.2.2.2.1 k 0 S.1 with
    | inr p =>
      rw [h2] at h
      cases h
      have := ap_le (Nat.zero_le _) h2
      omega
    | inl v => rw [h2] at h; cases h
theorem wt_e {a lo hi : Int32} {S S2 : cS_} {k : rr_} {e : Nat} (hk : ∀ e S2, k = (.inr e, S2) → eok_ e) (h : wt_ a lo hi S k = (.inr e, S2)) : eok_ e := by
  unfold wt_ at h
  split at h
  · cases h; exact Or.inl (by omega)
  · split at h
    · cases h; exact Or.inl (by omega)
    · exact hk e S2 h
theorem mu_e {c : Bool} {e1 : Nat} {S S2 : cS_} {k : rr_} {e : Nat} (h1 : e1 < 7) (hk : ∀ e S2, k = (.inr e, S2) → eok_ e) (h : mu_ c e1 S k = (.inr e, S2)) : eok_ e := by
  unfold mu_ at h
  split at h
  · exact hk e S2 h
  · cases h; exact Or.inl h1
theorem no_e {z : Int32} {S : cS_} : ∀ e S2, ((.inl z, S) : rr_) = (.inr e, S2) → eok_ e := fun e S2 h => by cases h
theorem dop_e {w : Nat} (hw : w < 29) {a c : Int32} {S S2 : cS_} {e : Nat} (hl : S.2.2.2.2.2.2.1 ≤ 80) (h : dop_ w a c S = (.inr e, S2)) : eok_ e := by
  match w, hw, h with
  | 0, _, h => exact wt_e (fun _ _ => mu_e (by omega) no_e) h
  | 1, _, h => exact rdt_e hl h
  | 2, _, h => exact mu_e (by omega) (fun _ _ => mu_e (by omega) no_e) h
  | 3, _, h => exact mu_e (by omega) (fun _ _ => mu_e (by omega) no_e) h
  | 4, _, h => exact wt_e no_e h
  | 5, _, h => exact wt_e no_e h
  | 6, _, h => exact no_e _ _ h
  | 7, _, h => exact no_e _ _ h
  | 8, _, h => exact mu_e (by omega) no_e h
  | 9, _, h => exact mu_e (by omega) no_e h
  | 10, _, h => exact wt_e no_e h
  | 11, _, h => exact wt_e no_e h
  | 12, _, h => exact wt_e no_e h
  | 13, _, h => exact wt_e no_e h
  | 14, _, h => exact no_e _ _ h
  | 15, _, h => exact mu_e (by omega) (fun _ _ => wt_e no_e) h
  | 16, _, h => exact no_e _ _ h
  | 17, _, h => exact mu_e (by omega) no_e h
  | 18, _, h => exact mu_e (by omega) no_e h
  | 19, _, h => exact no_e _ _ h
  | 20, _, h => exact no_e _ _ h
  | 21, _, h => exact no_e _ _ h
  | 22, _, h => exact wt_e no_e h
  | 23, _, h => exact wt_e no_e h
  | 24, _, h => exact wt_e no_e h
  | 25, _, h => exact wt_e (fun _ _ => mu_e (by omega) no_e) h
  | 26, _, h => exact no_e _ _ h
  | 27, _, h => exact no_e _ _ h
  | 28, _, h => exact mu_e (by omega) no_e h
  | k + 29, hw, _ => exact absurd hw (by omega)
/-- what the face answers -/
def rfz_ (e : Nat) (S : cS_) : cS_ := if e < 20 then s_ref S (fu_ S.2.2.2.2.2.2.2 e (S.2.2.2.2.2.2.2 e + nI 1)) else S
def fin_ (far : Bool) (r : rr_) : Int32 × cS_ := match r.1 with
  | .inl z => (z, r.2)
  | .inr e => (if far = true then 1000000000 - ng_ e else ng_ e, rfz_ e r.2)
section ACT
variable {l : Launch} {D : dd_} {b : Nat} {ty : ty_} {mi : mi_} {mr : mr_} {n x : Nat} {S : cS_} {a c : Int32}
theorem ng_le {e : Nat} (h1 : 1000 ≤ e) (h2 : e < 10000) : ng_ e ≤ -20 := by
  unfold ng_
  apply Int32.le_iff_toInt_le.mpr
  rw [Int32.toInt_neg, nI_toInt (by omega), show (-20 : Int32).toInt = -20 from rfl]
  rw [Int.bmod_eq_of_le (by omega) (by omega)]
  omega
theorem ng_7 : ∀ e, e < 7 → ¬ ng_ e ≤ -20 ∧ -(ng_ e) = nI e := by decide +kernel
theorem ct_refuse {e : Nat} (he : eok_ e) (hc : ci_ ty mi mr n x S) : CT_ l D b yX0_refuse hX0_refuse (rm_ 1 0 0) [.ref x, .int (ng_ e)] (ty, mi, mr, n) (qk_ (cq_ x n ty mi mr (ng_ e) (rfz_ e S)) ty n) := by
  have a1 := hc.1.1
  have hx := hc.2.1
  have c19 : mr x 10 = some (x + 41) := hc.1.2.2.2.2.2.2.2.2.2.2.2.2.2.2.2.2.2.2.1
  have c20 : ty (x + 41) = some (.inr (.int, 7)) := hc.1.2.2.2.2.2.2.2.2.2.2.2.2.2.2.2.2.2.2.2.1
  have l41 := hc.2.2.2.2.2.2.2.2.2.2.2.2.2.2.2
  refine ct_of [some (.ref x), some (.int (ng_ e))] (by decide) rfl rfl ?_
  refine go_iload_n dX0_refuse_0 rfl ?_
  refine go_bipush (v := (-20)) dX0_refuse_1 (by decide) ?_
  rcases he with h | h
  · obtain ⟨k1, k2⟩ := ng_7 e h
    refine go_icmp_le (tgt := 17) dX0_refuse_3 (by decide) (fun h0_ => absurd h0_ (k1)) (fun _ => ?_)
    refine go_aload_n dX0_refuse_6 rfl ?_
    refine go_getR fX0_91_0 dX0_refuse_7 (by assumption) rfl (by assumption) ?_
    refine go_iload_n dX0_refuse_10 rfl ?_
    refine go_ineg dX0_refuse_11 ?_
    rw [k2]
    refine go_dup2 dX0_refuse_12 rfl rfl ?_
    refine go_iald dX0_refuse_13 (by assumption) ⟨rfl, by omega, by decide⟩ ?_
    rw [l41 e h]
    refine go_iconst (v := nI 1) dX0_refuse_14 (by decide) ?_
    refine go_iadd dX0_refuse_15 ?_
    refine go_iast dX0_refuse_16 (by assumption) ⟨rfl, by omega, by decide⟩ ?_
    refine go_iload_n dX0_refuse_17 rfl ?_
    refine go_iret rfl dX0_refuse_18 (Nat.le_of_ble_eq_true rfl) (Nat.le_of_ble_eq_true rfl) ?_
    refine ⟨_, _, _, rfl, rfl, rfl, ?_, fun a j h1 h2 => ⟨um_a (by omega), rfl⟩⟩
    unfold rfz_
    rw [if_pos (by omega)]
    refine hc.ref (fun a j h1 h2 => um_a h2) (fun k hk => ?_)
    unfold fu_
    by_cases h2 : k = e
    · subst h2
      rw [um_s, if_pos rfl]
    · rw [um_k h2, if_neg h2]
      exact l41 k hk
  · refine go_icmp_le (tgt := 17) dX0_refuse_3 (by decide) (fun _ => ?_) (fun h0_ => absurd (ng_le h.1 h.2) h0_)
    refine go_iload_n dX0_refuse_17 rfl ?_
    refine go_iret rfl dX0_refuse_18 (Nat.le_of_ble_eq_true rfl) (Nat.le_of_ble_eq_true rfl) ?_
    refine ⟨_, _, _, rfl, rfl, rfl, ?_, ff_.rf⟩
    unfold rfz_
    rw [if_neg (by omega)]
    exact hc
def fo2_ (x : Nat) (σ : so_) (r : Int32 × cS_) : Int32 → so_ → Prop := co_ x σ r.1 r.2
theorem ct_act {w : Nat} (hw : w < 29) (hc : ci_ ty mi mr n x S) : CT_ l D b yX0_act hX0_act (rm_ 14 1000 7000) [.ref x, .int (nI w), .int a, .int c] (ty, mi, mr, n) (qs_ (fo2_ x (ty, mi, mr, n) (fin_ false (dop_ w a c S)))) := by
  have a1 := hc.1.1
  refine ct_ofW [some (.ref x), some (.int (nI w)), some (.int a), some (.int c), none] (by decide) rfl rfl ?_
  refine go_aload_n dX0_act_0 rfl ?_
  refine go_iload_n dX0_act_1 rfl ?_
  refine go_iload_n dX0_act_2 rfl ?_
  refine go_iload_n dX0_act_3 rfl ?_
  have he := fun e S2 => dop_e hw (a := a) (c := c) (S := S) (S2 := S2) (e := e) hc.2.2.2.2.2.2.2.2.2.2.2.2.2.1
  generalize hres : dop_ w a c S = res at he
  refine go_callVH vX0_287_0 (ct_doIt hw hc) dX0_act_4 (by assumption) rfl rfl rfl rfl rfl rfl (by decide) q377 (Nat.le_of_ble_eq_true rfl) (Nat.le_of_ble_eq_true rfl) (Nat.le_of_ble_eq_true rfl) (Nat.le_of_ble_eq_true rfl) (Nat.le_of_ble_eq_true rfl) (kr_a (fun r σ2 h => ?_)) (fun z σ2 h => ?_)
  · rw [hres] at h
    refine go_iret rfl dX0_act_7 (Nat.le_of_ble_eq_true rfl) (Nat.le_of_ble_eq_true rfl) ?_
    obtain ⟨h1, h2, h3⟩ := h
    obtain ⟨r1, S2⟩ := res
    cases r1 with
    | inl z =>
      cases h3
      exact ⟨_, rfl, rfl, h1, h2⟩
    | inr e =>
      obtain ⟨_, h4, -⟩ := h3
      cases h4
  · rw [hres] at h
    obtain ⟨h1, h2, h3⟩ := h
    obtain ⟨r1, S2⟩ := res
    cases r1 with
    | inl z => cases h3
    | inr e =>
      obtain ⟨y, h4, h5, h6⟩ := h3
      cases h4
      refine ⟨h5, ?_⟩
      obtain ⟨ty2, mi2, mr2, n2⟩ := σ2
      dsimp only at h1 h5 h6
      have b1 := h1.1.1
      have rest : G_ l D b (RX0, "act", 5, some .int, rm_ 14 1000 7000, [(0, 7, 8, 290)]) (qs_ (fo2_ x (ty, mi, mr, n) (fin_ false (.inr e, S2)))) cX0_act 16 [some (.ref x), some (.int (nI w)), some (.int a), some (.int c), some (.ref z)] [.int (ng_ e), .ref x] (ty2, mi2, mr2, n2) 1000 7000 := by
        refine go_callVN vX0_295_0 (ct_refuse (he e S2 rfl) h1) dX0_act_16 (by assumption) rfl rfl rfl rfl (Nat.le_of_ble_eq_true rfl) (Nat.le_of_ble_eq_true rfl) (Nat.le_of_ble_eq_true rfl) (Nat.le_of_ble_eq_true rfl) (Nat.le_of_ble_eq_true rfl) (kr_k (fun r m3 r3 hp => ?_)) kn_k
        obtain ⟨rfl, h7, h8⟩ := hp
        refine go_iret rfl dX0_act_19 (Nat.le_of_ble_eq_true rfl) (Nat.le_of_ble_eq_true rfl) ?_
        exact ⟨_, rfl, rfl, h7, h2.tr ⟨fun _ _ => rfl, h8, Nat.le_refl _⟩⟩
      refine go_astore (ls2 := [_, _, _, _, _]) dX0_act_8 rfl rfl ?_
      refine go_aload_n dX0_act_10 rfl ?_
      refine go_aload dX0_act_11 rfl ?_
      rcases h5 with h5 | h5
      · refine go_callUN uX0_292_18 (ct_number18 h5) dX0_act_13 (by assumption) rfl rfl rfl rfl (Nat.le_of_ble_eq_true rfl) (Nat.le_of_ble_eq_true rfl) (Nat.le_of_ble_eq_true rfl) (Nat.le_of_ble_eq_true rfl) (Nat.le_of_ble_eq_true rfl) (kr_i ?_) kn_i
        rw [h6]
        exact rest
      · refine go_callUN uX0_292_20 (ct_number20 h5) dX0_act_13 (by assumption) rfl rfl rfl rfl (Nat.le_of_ble_eq_true rfl) (Nat.le_of_ble_eq_true rfl) (Nat.le_of_ble_eq_true rfl) (Nat.le_of_ble_eq_true rfl) (Nat.le_of_ble_eq_true rfl) (kr_i ?_) kn_i
        rw [h6]
        exact rest
theorem ct_actFar {w : Nat} (hw : w < 29) (hc : ci_ ty mi mr n x S) : CT_ l D b yX0_actFar hX0_actFar (rm_ 14 1000 7000) [.ref x, .int (nI w), .int a, .int c] (ty, mi, mr, n) (qs_ (fo2_ x (ty, mi, mr, n) (fin_ true (dop_ w a c S)))) := by
  have a1 := hc.1.1
  refine ct_ofW [some (.ref x), some (.int (nI w)), some (.int a), some (.int c), none] (by decide) rfl rfl ?_
  refine go_aload_n dX0_actFar_0 rfl ?_
  refine go_iload_n dX0_actFar_1 rfl ?_
  refine go_iload_n dX0_actFar_2 rfl ?_
  refine go_iload_n dX0_actFar_3 rfl ?_
  have he := fun e S2 => dop_e hw (a := a) (c := c) (S := S) (S2 := S2) (e := e) hc.2.2.2.2.2.2.2.2.2.2.2.2.2.1
  generalize hres : dop_ w a c S = res at he
  refine go_callVH vX0_287_0 (ct_doIt hw hc) dX0_actFar_4 (by assumption) rfl rfl rfl rfl rfl rfl (by decide) q377 (Nat.le_of_ble_eq_true rfl) (Nat.le_of_ble_eq_true rfl) (Nat.le_of_ble_eq_true rfl) (Nat.le_of_ble_eq_true rfl) (Nat.le_of_ble_eq_true rfl) (kr_a (fun r σ2 h => ?_)) (fun z σ2 h => ?_)
  · rw [hres] at h
    refine go_iret rfl dX0_actFar_7 (Nat.le_of_ble_eq_true rfl) (Nat.le_of_ble_eq_true rfl) ?_
    obtain ⟨h1, h2, h3⟩ := h
    obtain ⟨r1, S2⟩ := res
    cases r1 with
    | inl z =>
      cases h3
      exact ⟨_, rfl, rfl, h1, h2⟩
    | inr e =>
      obtain ⟨_, h4, -⟩ := h3
      cases h4
  · rw [hres] at h
    obtain ⟨h1, h2, h3⟩ := h
    obtain ⟨r1, S2⟩ := res
    cases r1 with
    | inl z => cases h3
    | inr e =>
      obtain ⟨y, h4, h5, h6⟩ := h3
      cases h4
      refine ⟨h5, ?_⟩
      obtain ⟨ty2, mi2, mr2, n2⟩ := σ2
      dsimp only at h1 h5 h6
      have b1 := h1.1.1
      have rest : G_ l D b (RX0, "actFar", 5, some .int, rm_ 14 1000 7000, [(0, 7, 8, 290)]) (qs_ (fo2_ x (ty, mi, mr, n) (fin_ true (.inr e, S2)))) cX0_actFar 19 [some (.ref x), some (.int (nI w)), some (.int a), some (.int c), some (.ref z)] [.int (ng_ e), .ref x, .int 1000000000] (ty2, mi2, mr2, n2) 1000 7000 := by
        refine go_callVN vX0_295_0 (ct_refuse (he e S2 rfl) h1) dX0_actFar_19 (by assumption) rfl rfl rfl rfl (Nat.le_of_ble_eq_true rfl) (Nat.le_of_ble_eq_true rfl) (Nat.le_of_ble_eq_true rfl) (Nat.le_of_ble_eq_true rfl) (Nat.le_of_ble_eq_true rfl) (kr_k (fun r m3 r3 hp => ?_)) kn_k
        obtain ⟨rfl, h7, h8⟩ := hp
        refine go_isub dX0_actFar_22 ?_
        refine go_iret rfl dX0_actFar_23 (Nat.le_of_ble_eq_true rfl) (Nat.le_of_ble_eq_true rfl) ?_
        exact ⟨_, rfl, rfl, h7, h2.tr ⟨fun _ _ => rfl, h8, Nat.le_refl _⟩⟩
      refine go_astore (ls2 := [_, _, _, _, _]) dX0_actFar_8 rfl rfl ?_
      refine go_ldcw q1043 dX0_actFar_10 ?_
      refine go_aload_n dX0_actFar_13 rfl ?_
      refine go_aload dX0_actFar_14 rfl ?_
      rcases h5 with h5 | h5
      · refine go_callUN uX0_292_18 (ct_number18 h5) dX0_actFar_16 (by assumption) rfl rfl rfl rfl (Nat.le_of_ble_eq_true rfl) (Nat.le_of_ble_eq_true rfl) (Nat.le_of_ble_eq_true rfl) (Nat.le_of_ble_eq_true rfl) (Nat.le_of_ble_eq_true rfl) (kr_i ?_) kn_i
        rw [h6]
        exact rest
      · refine go_callUN uX0_292_20 (ct_number20 h5) dX0_actFar_16 (by assumption) rfl rfl rfl rfl (Nat.le_of_ble_eq_true rfl) (Nat.le_of_ble_eq_true rfl) (Nat.le_of_ble_eq_true rfl) (Nat.le_of_ble_eq_true rfl) (Nat.le_of_ble_eq_true rfl) (kr_i ?_) kn_i
        rw [h6]
        exact rest
end ACT
