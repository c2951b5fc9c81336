/-! A TOWN READ: the walk -/
set_option maxRecDepth 100000
theorem ts_.no {ty : ty_} {mr : mr_} {t a c : Nat} (h : ts_ ty mr t) (h1 : t ≤ a) (h2 : a < t + 8) (hc : 16 ≤ c) (ha : ty a = some (.inl c)) : False := by
  obtain ⟨a1, -, -, -, -, -, -, -, a9, a10, a11, a12, a13, a14, a15⟩ := h
  have : a = t ∨ a = t + 1 ∨ a = t + 2 ∨ a = t + 3 ∨ a = t + 4 ∨ a = t + 5 ∨ a = t + 6 ∨ a = t + 7 := by omega
  rcases this with rfl | rfl | rfl | rfl | rfl | rfl | rfl | rfl
  · rw [a1] at ha; cases ha; omega
  · rw [a9] at ha; cases ha
  · rw [a10] at ha; cases ha
  · rw [a11] at ha; cases ha
  · rw [a12] at ha; cases ha
  · rw [a13] at ha; cases ha
  · rw [a14] at ha; cases ha
  · rw [a15] at ha; cases ha
theorem ap_s {lt : Nat → Int32} {ln k p p2 : Nat} {t : tk_} {v : tv_} (h : stm_ lt ln p = .inl (t, p2)) : ap_ lt ln (k + 1) p v = if okt_ t (sN v) (rN v) = true then ap_ lt ln k p2 (com_ t v) else .inr p := by
  conv => lhs; unfold ap_
  rw [h]
theorem pz_s {lt : Nat → Int32} {ln k p p2 c : Nat} {t : tk_} (h : stm_ lt ln p = .inl (t, p2)) : pz_ lt ln (k + 1) p c = if p2 < ln then pz_ lt ln k p2 (c + 1) else .inl (c + 1) := by
  conv => lhs; unfold pz_
  rw [h]
theorem pz_e {lt : Nat → Int32} {ln k p e c : Nat} (h : stm_ lt ln p = .inr e) : pz_ lt ln (k + 1) p c = .inr e := by
  unfold pz_
  rw [h]
theorem ps_s {lt : Nat → Int32} {ln j p2 : Nat} {t : tk_} (h : stm_ lt ln (ps_ lt ln j) = .inl (t, p2)) : ps_ lt ln (j + 1) = p2 := by
  unfold ps_
  rw [h]
def rti_ (ty : ty_) (mi : mi_) (mr : mr_) (n x : Nat) (lt : Nat → Int32) (ln i : Nat) (σ : so_) : Prop := i ≤ ps_ lt ln i ∧ rd_ σ.1 σ.2.1 σ.2.2.1 x n lt ln (ps_ lt ln i) ∧ rk2_ σ.1 σ.2.2.1 x ∧ σ.1 (n + 1) = some (.inr (.object "GoodHalfEmpty$Told", 80)) ∧ (∀ j, j < i → ∃ q t, σ.2.2.1 (n + 1) j = some q ∧ stm_ lt ln (ps_ lt ln j) = .inl (t, ps_ lt ln (j + 1)) ∧ told_ σ.1 σ.2.1 σ.2.2.1 x q (ps_ lt ln j) t) ∧ (∀ a, a < n → σ.1 a = ty a) ∧ (∀ a j, a < n → ¬ (a = x ∧ j = 9) → σ.2.1 a j = mi a j ∧ σ.2.2.1 a j = mr a j) ∧ σ.2.1 x 9 = nI 0 ∧ n + 2 ≤ σ.2.2.2 ∧ ∀ a t, σ.1 a = some t → a < σ.2.2.2
theorem ci_.lt0 {ty ty2 : ty_} {mi mi2 : mi_} {mr mr2 : mr_} {n n2 x : Nat} {S : cS_} (hc : ci_ ty mi mr n x S) (hT : ∀ a, a < n → ty2 a = ty a) (hm : ∀ a j, a < n → ¬ (a = x ∧ j = 9) → mi2 a j = mi a j ∧ mr2 a j = mr a j) (h9 : mi2 x 9 = nI 0) (hm9 : ∀ j, mr2 x j = mr x j) (hn : n ≤ n2) (hlt : ∀ a t, ty2 a = some t → a < n2) : ci_ ty2 mi2 mr2 n2 x (s_let S S.2.2.2.2.2.1 0) ∧ fz_ x (ty, mi, mr, n) (ty2, mi2, mr2, n2) := by
  have hx := hc.2.1
  have hc1 : ci_ ty (um_ mi x 9 (nI 0)) mr n x (s_let S S.2.2.2.2.2.1 0) := hc.let (fun a j h1 h2 h3 => if_neg (by omega)) um_s (by omega) (fun k hk => absurd hk (Nat.not_lt_zero _))
  have hr : ∀ a j, a < n → mr2 a j = mr a j := fun a j h => by
    by_cases h2 : a = x
    · subst h2; exact hm9 j
    · exact (hm a j h (by omega)).2
  refine ⟨hc1.up hT (fun a j h1 h2 => ?_) (fun a j h1 _ _ => hr a j h1) hn hlt, hT, fun a j h1 h2 => ⟨(hm a j h1 (by omega)).1, hr a j h1⟩, hn⟩
  by_cases h3 : a = x ∧ j = 9
  · rw [h3.1, h3.2, h9, um_s]
  · rw [(hm a j h1 h3).1]
    exact (if_neg h3).symm
section READTOWN2
variable {l : Launch} {D : dd_} {b : Nat} {ty : ty_} {mi : mi_} {mr : mr_} {n x : Nat} {S : cS_}
theorem rt_mr {lt : Nat → Int32} {ln i : Nat} {σ : so_} (h : rti_ ty mi mr n x lt ln i σ) (hx : x + 62 ≤ n) (h8 : ∀ j, σ.2.2.1 x j = mr x j) (hc : ci_ ty mi mr n x S) : ci_ σ.1 σ.2.1 σ.2.2.1 σ.2.2.2 x (s_let S S.2.2.2.2.2.1 0) ∧ fz_ x (ty, mi, mr, n) σ := by
  obtain ⟨h1, h2, h3, h4, h5, h6, h7, h9, h10, h11⟩ := h
  exact hc.lt0 h6 h7 h9 h8 (by omega) h11
theorem rt_B {cnt : Nat} {σ : so_} (hc : ci_ ty mi mr n x S) (hI : rti_ ty mi mr n x S.2.2.2.2.2.1 S.2.2.2.2.2.2.1 cnt σ) (h8 : ∀ j, σ.2.2.1 x j = mr x j) (hcnt : cnt ≤ 80) (hpz : pz_ S.2.2.2.2.2.1 S.2.2.2.2.2.2.1 81 0 0 = .inl cnt) : G_ l D b (RX0, "readTown", 5, some .int, rm_ 11 1000 7000, []) (ao_ x (ty, mi, mr, n) (rdt_ S)) cX0_readTown 43 [some (.ref x), some (.ref n), some (.ref (n + 1)), some (.int (nI cnt)), none] [] σ 900 6000 := by
  have hx := hc.2.1
  obtain ⟨hc1, hz1⟩ := rt_mr hI hx h8 hc
  obtain ⟨i1, i2, i3, i4, i5, i6, i7, i8, i9, i10⟩ := hI
  obtain ⟨ty2, m1, r1, n1⟩ := σ
  dsimp only at i1 i2 i3 i4 i5 i6 i7 i8 i9 i10 h8 hc1
  generalize hlt : S.2.2.2.2.2.1 = lt at *
  generalize hln : S.2.2.2.2.2.2.1 = ln at *
  have hv : wf_ S.1 := hc.2.2.2.2.1
  have hc10 := hc1
  have hc2 := hc1.1
  obtain ⟨c1, c2, c3, c4, c5, c6, c7, c8, c9, c10, c11, c12, c13, c14, -⟩ := hc2
  have c131 := c13.1
  have c121 := c12.1
  refine go_aload_n dX0_readTown_43 rfl ?_
  refine go_getR fX0_77_0 dX0_readTown_44 (by assumption) rfl (by assumption) ?_
  refine go_aload_n dX0_readTown_47 rfl ?_
  refine go_getR fX0_73_0 dX0_readTown_48 (by assumption) rfl (by assumption) ?_
  refine go_callV vX0_128_15 (ct_set (x := x) c13 c12 hc10.2.2.2.1 hv (by omega) (by omega) (by omega) hc10.2.2.2.2.2.1) dX0_readTown_51 (by assumption) rfl rfl rfl rfl rfl (Nat.le_of_ble_eq_true rfl) (Nat.le_of_ble_eq_true rfl) (Nat.le_of_ble_eq_true rfl) (Nat.le_of_ble_eq_true rfl) (Nat.le_of_ble_eq_true rfl) (kr_w2 (fun m2 r2 hp => ?_)) kt_w2
  obtain ⟨p1, p2, p3, p4⟩ := hp
  refine go_iconst (v := nI 0) dX0_readTown_54 (by decide) ?_
  refine go_istore (ls2 := [_, _, _, _, _]) dX0_readTown_55 rfl rfl ?_
  have ts2 : ∀ r, fr2_ r1 r (x + 23) → ts_ ty2 r (x + 23) := fun r h => c13.up (fun _ _ _ => rfl) (fun j => h _ j (by omega) (by omega))
  refine go_forI (α := mi_ × mr_ × tv_) cnt (fun i _ => [some (.ref x), some (.ref n), some (.ref (n + 1)), some (.int (nI cnt)), some (.int (nI i))]) (fun _ c => (ty2, c.1, c.2.1, n1)) (fun i c => md_ ty2 c.1 c.2.1 x c.2.2 ∧ wf_ c.2.2 ∧ fm_ m1 c.1 (x + 23) (x + 31) ∧ fr2_ r1 c.2.1 (x + 23) ∧ ap_ lt ln (cnt - i) (ps_ lt ln i) c.2.2 = ap_ lt ln cnt 0 S.1) 0 (m2, r2, S.1) (by omega) ⟨⟨p1, ts2 _ p3, c2, p4⟩, hv, p2, p3, rfl⟩ (fun i c _ hi hJ ih => ?_) (fun c hJ => ?_)
  · obtain ⟨m3, r3, v⟩ := c
    obtain ⟨j1, j2, j3, j4, j5⟩ := hJ
    dsimp only at j1 j2 j3 j4 j5 ⊢
    obtain ⟨q, t, t1, t2, t3⟩ := i5 i hi
    have hR : n < n1 := by omega
    have t4 : told_ ty2 m3 r3 x q (ps_ lt ln i) t := t3.up (fun a c g1 g2 g3 => by
      have g4 : ¬ (x + 23 ≤ a ∧ a < x + 31) := fun z => c13.no z.1 (by omega) (by omega) g3
      exact ⟨g3, fun j => ⟨j3 a j (by omega), j4 a j (by omega) (by omega)⟩⟩)
    have e5 : cnt - i = (cnt - (i + 1)) + 1 := by omega
    have j6 : (if okt_ t (sN v) (rN v) = true then ap_ lt ln (cnt - (i + 1)) (ps_ lt ln (i + 1)) (com_ t v) else .inr (ps_ lt ln i)) = ap_ lt ln cnt 0 S.1 := by
      rw [← j5, e5, ap_s t2]
    have w1 : r3 (n + 1) i = some q := (j4 _ _ (by omega) (by omega)).trans t1
    have w2 : r3 x 3 = some (x + 23) := (j4 _ _ (by omega) (by omega)).trans c10
    refine go_iload dX0_readTown_57 rfl ?_
    refine go_iload_n dX0_readTown_59 rfl ?_
    refine go_icmp_ge (tgt := 102) dX0_readTown_60 (by decide) (fun h0_ => absurd h0_ (nI_ge (by omega) (by omega))) (fun _ => ?_)
    refine go_aload_n dX0_readTown_63 rfl ?_
    refine go_iload dX0_readTown_64 rfl ?_
    refine go_aald dX0_readTown_66 (by assumption) ⟨rfl, by omega, by decide⟩ (by assumption) ?_
    refine go_aload_n dX0_readTown_67 rfl ?_
    refine go_getR fX0_77_0 dX0_readTown_68 (by assumption) rfl (by assumption) ?_
    have thr : okt_ t (sN v) (rN v) = false → ∀ m4 r4, fm_ m3 m4 (x + 23) (x + 31) → fr2_ r3 r4 (x + 23) → r4 n1 4 = none → G_ l D b (RX0, "readTown", 5, some .int, rm_ 11 1000 7000, []) (ao_ x (ty, mi, mr, n) (rdt_ S)) cX0_readTown 91 [some (.ref x), some (.ref n), some (.ref (n + 1)), some (.int (nI cnt)), some (.int (nI i))] [.int (nI (ps_ lt ln i)), .int (-2000), .ref n1, .ref n1] (ut_ ty2 n1 (.inl 20), m4, r4, n1 + 1) 901 6007 := by
      intro hok m4 r4 f1 f2 f4
      have hT : ut_ ty2 n1 (.inl 20) n1 = some (.inl 20) := ut_s
      refine go_isub dX0_readTown_91 ?_
      refine go_callI iX0_141 (ct_fault hT f4) dX0_readTown_92 rfl rfl rfl (Nat.le_of_ble_eq_true rfl) (Nat.le_of_ble_eq_true rfl) (Nat.le_of_ble_eq_true rfl) (Nat.le_of_ble_eq_true rfl) (Nat.le_of_ble_eq_true rfl) (fun v σ2 hq => ?_) (fun x σ2 hq => ?_)
      · obtain ⟨r5, g1, rfl, g3⟩ := hq
        cases g1
        refine go_athrow rfl dX0_readTown_95 (Nat.le_of_ble_eq_true rfl) (Nat.le_of_ble_eq_true rfl) ?_
        have hx1 : x + 62 ≤ n1 := by omega
        have e1 : rdt_ S = (.inr (2000 + ps_ lt ln i), s_let S S.2.2.2.2.2.1 0) := by
          unfold rdt_
          rw [hlt, hln, hpz]
          dsimp only
          rw [← j6, if_neg (by rw [hok]; decide)]
        rw [e1, hlt]
        have z1 : sk_ x n1 m1 (um_ m4 n1 6 (-2000 - nI (ps_ lt ln i))) := fun a j h1 h2 => by
          have h3 : a < x + 23 ∨ x + 31 ≤ a := by unfold sc_ at h2; omega
          rw [um_a (Nat.ne_of_lt h1), f1 a j (by omega)]
          exact j3 a j (by omega)
        have z2 : sr_ x n1 r1 r5 := fun a j h1 h2 h3 => (g3 a j (Nat.ne_of_lt h1)).trans ((f2 a j h2 h3).trans (j4 a j h2 h3))
        have z3 : ∀ a, a < n1 → ut_ ty2 n1 (.inl 20) a = ty2 a := fun a h => ut_a (Nat.ne_of_lt h)
        have z4 : ∀ a u, ut_ ty2 n1 (.inl 20) a = some u → a < n1 + 1 := fun a u h => by
          by_cases h2 : a = n1
          · omega
          · rw [ut_a h2] at h
            have := i10 a u h
            omega
        refine ⟨hc10.up z3 z1 z2 (Nat.le_succ _) z4, hz1.tr ⟨z3, sk_ff z1 z2, Nat.le_succ _⟩, n1, rfl, Or.inr hT, ?_⟩
        show um_ m4 n1 6 (-2000 - nI (ps_ lt ln i)) n1 6 = _
        rw [um_s, ← ng_sub]
        rfl
      · obtain ⟨r5, g1, -⟩ := hq
        cases g1
    have rest : ∀ r m4 r4, cm_ ty2 m3 r3 x t v r m4 r4 → G_ l D b (RX0, "readTown", 5, some .int, rm_ 11 1000 7000, []) (ao_ x (ty, mi, mr, n) (rdt_ S)) cX0_readTown 74 [some (.ref x), some (.ref n), some (.ref (n + 1)), some (.int (nI cnt)), some (.int (nI i))] [.int r] (ty2, m4, r4, n1) 900 6000 := by
      rintro r m4 r4 ⟨rfl, f1, f2, f3⟩
      refine go_if_ne (tgt := 96) dX0_readTown_74 (by decide) (fun h => ?_) (fun h => ?_)
      · have hok : okt_ t (sN v) (rN v) = true := by
          cases hq : okt_ t (sN v) (rN v) with
          | true => rfl
          | false => exact absurd (bo_0.mpr hq) h
        refine go_iinc (ls2 := [_, _, _, _, _]) dX0_readTown_96 rfl (nI_inc _) rfl rfl ?_
        refine go_goto (tgt := 57) dX0_readTown_99 (by decide) ?_
        refine ih (m4, r4, com_ t v) ⟨f3 hok, com_wf t4 j2 hok, fun a j h => (f1 a j h).trans (j3 a j h), fun a j h1 h2 => (f2 a j h1 h2).trans (j4 a j h1 h2), ?_⟩
        rw [if_pos hok] at j6
        exact j6
      · have hok := bo_0.mp h
        refine go_facts (fun hz hl hb => ?_)
        have f4 := (hz n1 4 (Nat.le_refl _)).2
        have w3 : r4 (n + 1) i = some q := (f2 _ _ (by omega) (by omega)).trans w1
        have t5 : told_ ty2 m4 r4 x q (ps_ lt ln i) t := t4.up (fun a c g1 g2 g3 => by
          have g4 : ¬ (x + 23 ≤ a ∧ a < x + 31) := fun z => c13.no z.1 (by omega) (by omega) g3
          exact ⟨g3, fun j => ⟨f1 a j (by omega), f2 a j (by omega) (by omega)⟩⟩)
        have t6 := t5.1
        refine go_new (c := 20) rfl q697 q99 dX0_readTown_77 (Nat.le_of_ble_eq_true rfl) (Nat.le_of_ble_eq_true rfl) ?_
        have hT1 : ut_ ty2 n1 (.inl 20) (n + 1) = some (.inr (.object "GoodHalfEmpty$Told", 80)) := (ut_a (by omega)).trans i4
        refine go_dup dX0_readTown_80 rfl ?_
        refine go_sipush (v := (-2000)) dX0_readTown_81 (by decide) ?_
        refine go_aload_n dX0_readTown_84 rfl ?_
        refine go_iload dX0_readTown_85 rfl ?_
        refine go_aald dX0_readTown_87 (by assumption) ⟨rfl, by omega, by decide⟩ (by assumption) ?_
        obtain ⟨c, hcc, hqc⟩ := told_c t5
        have hqn : ut_ ty2 n1 (.inl 20) q = some (.inl c) := (ut_a (Nat.ne_of_lt (i10 _ _ hqc))).trans hqc
        rcases hcc with rfl | rfl | rfl | rfl
        · refine go_getI fX0_138_22 dX0_readTown_88 (by assumption) rfl ?_
          rw [t6]
          exact thr hok m4 r4 f1 f2 f4
        · refine go_getI fX0_138_23 dX0_readTown_88 (by assumption) rfl ?_
          rw [t6]
          exact thr hok m4 r4 f1 f2 f4
        · refine go_getI fX0_138_24 dX0_readTown_88 (by assumption) rfl ?_
          rw [t6]
          exact thr hok m4 r4 f1 f2 f4
        · refine go_getI fX0_138_26 dX0_readTown_88 (by assumption) rfl ?_
          rw [t6]
          exact thr hok m4 r4 f1 f2 f4
    have t7 := t4
    obtain ⟨-, ⟨k0, kq, -⟩ | ⟨k0, kq, -⟩ | ⟨k0, kq, -⟩ | ⟨k0, kq, -⟩⟩ := t7
    · refine go_callU uX0_132_22 (ct_comes22 t4 k0 j1 j2) dX0_readTown_71 (by assumption) rfl rfl rfl rfl rfl (Nat.le_of_ble_eq_true rfl) (Nat.le_of_ble_eq_true rfl) (Nat.le_of_ble_eq_true rfl) (Nat.le_of_ble_eq_true rfl) (Nat.le_of_ble_eq_true rfl) (kr_k (fun r mi2 mr2 hp => ?_)) kt_k
      exact rest r mi2 mr2 hp
    · refine go_callU uX0_132_23 (ct_comes23 t4 k0 j1 j2) dX0_readTown_71 (by assumption) rfl rfl rfl rfl rfl (Nat.le_of_ble_eq_true rfl) (Nat.le_of_ble_eq_true rfl) (Nat.le_of_ble_eq_true rfl) (Nat.le_of_ble_eq_true rfl) (Nat.le_of_ble_eq_true rfl) (kr_k (fun r mi2 mr2 hp => ?_)) kt_k
      exact rest r mi2 mr2 hp
    · refine go_callU uX0_132_24 (ct_comes24 t4 k0 j1 j2) dX0_readTown_71 (by assumption) rfl rfl rfl rfl rfl (Nat.le_of_ble_eq_true rfl) (Nat.le_of_ble_eq_true rfl) (Nat.le_of_ble_eq_true rfl) (Nat.le_of_ble_eq_true rfl) (Nat.le_of_ble_eq_true rfl) (kr_k (fun r mi2 mr2 hp => ?_)) kt_k
      exact rest r mi2 mr2 hp
    · refine go_callU uX0_132_26 (ct_comes26 t4 k0 j1 j2) dX0_readTown_71 (by assumption) rfl rfl rfl rfl rfl (Nat.le_of_ble_eq_true rfl) (Nat.le_of_ble_eq_true rfl) (Nat.le_of_ble_eq_true rfl) (Nat.le_of_ble_eq_true rfl) (Nat.le_of_ble_eq_true rfl) (kr_k (fun r mi2 mr2 hp => ?_)) kt_k
      exact rest r mi2 mr2 hp
  · obtain ⟨m3, r3, v⟩ := c
    obtain ⟨j1, j2, j3, j4, j5⟩ := hJ
    dsimp only at j1 j2 j3 j4 j5 ⊢
    have w2 : r3 x 3 = some (x + 23) := (j4 _ _ (by omega) (by omega)).trans c10
    have w3 : r3 x 2 = some (x + 15) := (j4 _ _ (by omega) (by omega)).trans c9
    have ts3 : ts_ ty2 r3 (x + 15) := c12.up (fun _ _ _ => rfl) (fun j => j4 _ j (by omega) (by omega))
    refine go_iload dX0_readTown_57 rfl ?_
    refine go_iload_n dX0_readTown_59 rfl ?_
    refine go_icmp_ge (tgt := 102) dX0_readTown_60 (by decide) (fun _ => ?_) (fun h0_ => absurd (nI_le (by omega) (by omega)) h0_)
    refine go_aload_n dX0_readTown_102 rfl ?_
    refine go_getR fX0_73_0 dX0_readTown_103 (by assumption) rfl (by assumption) ?_
    refine go_aload_n dX0_readTown_106 rfl ?_
    refine go_getR fX0_77_0 dX0_readTown_107 (by assumption) rfl (by assumption) ?_
    refine go_callV vX0_128_15 (ct_set (x := x) ts3 j1.2.1 j1.1 j2 (by omega) (by omega) (by omega) j1.2.2.2) dX0_readTown_110 (by assumption) rfl rfl rfl rfl rfl (Nat.le_of_ble_eq_true rfl) (Nat.le_of_ble_eq_true rfl) (Nat.le_of_ble_eq_true rfl) (Nat.le_of_ble_eq_true rfl) (Nat.le_of_ble_eq_true rfl) (kr_w2 (fun m4 r4 hp => ?_)) kt_w2
    obtain ⟨g1, g2, g3, g4⟩ := hp
    refine go_iload_n dX0_readTown_113 rfl ?_
    refine go_iret rfl dX0_readTown_114 (Nat.le_of_ble_eq_true rfl) (Nat.le_of_ble_eq_true rfl) ?_
    rw [Nat.sub_self] at j5
    have j5 : Sum.inl v = ap_ lt ln cnt 0 S.1 := j5
    have e1 : rdt_ S = (.inl (nI cnt), s_town (s_let S S.2.2.2.2.2.1 0) v) := by
      unfold rdt_
      rw [hlt, hln, hpz]
      dsimp only
      rw [← j5]
    rw [e1, hlt]
    have z1 : ∀ a j, (a < x + 15 ∨ x + 31 ≤ a) → m4 a j = m1 a j := fun a j h => (g2 a j (by omega)).trans (j3 a j (by omega))
    have z2 : ∀ a j, a ≠ x + 24 → a ≠ x + 25 → a ≠ x + 16 → a ≠ x + 17 → r4 a j = r1 a j := fun a j y1 y2 y3 y4 => (g3 a j y3 y4).trans (j4 a j y1 y2)
    refine ⟨hc10.town (fun a j h1 h2 h3 => z1 a j (by unfold sc_ at h2; omega)) (fun a j _ y1 y2 y3 y4 => z2 a j y1 y2 y3 y4) g1 j2 g4, hz1.tr ⟨fun _ _ => rfl, fun a j h1 h2 => ⟨z1 a j (by omega), z2 a j (by omega) (by omega) (by omega) (by omega)⟩, Nat.le_refl _⟩, rfl⟩
end READTOWN2
