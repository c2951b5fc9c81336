/-! THE BEST PENNY, THE BEST CHAIRS -/
set_option maxRecDepth 100000
def tu_ (v : tv_) (k : Nat) (z : Int32) : tv_ := fun j => if j = k then z else v j
theorem tu_s {v : tv_} {k : Nat} {z : Int32} : tu_ v k z k = z := if_pos rfl
theorem tu_n {v : tv_} {k j : Nat} {z : Int32} (h : j ≠ k) : tu_ v k z j = v j := if_neg h
def bq_ (u : Nat → tv_) (g : pF_ → Int32) : Nat → Int32 × Int32
  | 0 => (-9, nI 0)
  | k + 1 => if 0 < (pfin_ (u k)).1 ∧ ((bq_ u g k).1 = -9 ∨ (bq_ u g k).2 < g (pfin_ (u k))) then (nI k, g (pfin_ (u k))) else bq_ u g k
theorem wf_up {v w : tv_} (hv : wf_ v) (h0 : w 0 = v 0) (h1 : w 1 = v 1) (h4 : w 4 = v 4) (h2 : ∃ c, c ≤ 60 ∧ w 2 = nI c) (hw : ∀ j, 10 ≤ j → w j = v j) : wf_ w := by
  obtain ⟨a1, a2, a3, a4, a5, a6, a7, a8, a9, a10⟩ := hv
  have es := sN_of h0
  have er := rN_of h1
  have ew := wN_of h4
  refine ⟨by rw [es, h0]; exact a1, by rw [es]; exact a2, by rw [er, h1]; exact a3, by rw [er]; exact a4, by rw [ew, h4]; exact a5, by rw [ew]; exact a6, h2, ?_, ?_, ?_⟩
  · rw [es]
    exact fun s hs => so_ok_of (Nat.le_of_eq er.symm) (fun j g1 g2 => hw j (by omega)) (a8 s hs)
  · rw [er]
    exact fun r hr => ru_ok_of (hw _ (by omega)) (hw _ (by omega)) (a9 r hr)
  · rw [ew]
    intro k hk
    rw [hw _ (by omega)]
    exact a10 k hk
/-- a town whose numbers (not its sorts, rules, weeks) change -/
theorem tr_t {ty : ty_} {mi mi2 : mi_} {mr : mr_} {x t : Nat} {v w : tv_} (h : tr_ ty mi mr x t v) (hx : t + 8 ≤ x + 62) (hm : ∀ a j, a ≠ t → mi2 a j = mi a j) (h0 : w 0 = v 0) (h1 : w 1 = v 1) (hw : ∀ j, 10 ≤ j → w j = v j) (g1 : mi2 t 0 = w 2) (g2 : mi2 t 1 = w 0) (g3 : mi2 t 3 = w 1) (g4 : mi2 t 7 = w 4) (g5 : mi2 t 9 = w 3) (g6 : mi2 t 10 = w 5) : tr_ ty mi2 mr x t w := by
  obtain ⟨b1, b2, b3, b4, b5, b6, bS, bR, bM⟩ := h
  have es : sN w = sN v := sN_of h0
  have er : rN w = rN v := rN_of h1
  refine ⟨g1, g2, g3, g4, g5, g6, ?_, ?_, ?_⟩
  · rw [es]
    intro s hs
    obtain ⟨q, q1, c1, c2, c3, c4, c5, c6, c7, c8⟩ := bS s hs
    have eq : ∀ j, mi2 q j = mi q j := fun j => hm q j (by omega)
    have ek : kd_ w s = kd_ v s := by unfold kd_; rw [hw _ (by omega)]
    exact ⟨q, q1, c1, by rw [ek]; exact c2, by rw [eq, hw _ (by omega)]; exact c3, by rw [eq, hw _ (by omega)]; exact c4, by rw [eq, hw _ (by omega)]; exact c5, by rw [eq, hw _ (by omega)]; exact c6, by rw [eq, hw _ (by omega)]; exact c7, c8⟩
  · rw [er]
    intro r hr
    obtain ⟨c1, c2, c3⟩ := bR r hr
    have ek : rk_ w r = rk_ v r := by unfold rk_; rw [hw _ (by omega)]
    exact ⟨by rw [ek]; exact c1, by rw [hm _ _ (by omega), hw _ (by omega)]; exact c2, by rw [hm _ _ (by omega), hw _ (by omega)]; exact c3⟩
  · intro k hk
    rw [hm _ _ (by omega), hw _ (by omega)]
    exact bM k hk
theorem cs_.pc {ty : ty_} {mr : mr_} {x : Nat} (h : cs_ ty mr x) : pc_ ty mr x := by
  obtain ⟨c1, c2, c3, c4, c5, c6, c7, c8, c9, c10, c11, c12, c13, c14, c15, c16, c17, c18, c19, c20, c21, c22, c23, c24, c25, c26, c27, c28⟩ := h
  exact ⟨c1, c9, c23, c25, c24, c26, c12⟩
theorem sk_23 {x n : Nat} {m : mi_} {j : Nat} {z : Int32} : sk_ x n m (um_ m (x + 23) j z) := fun a j2 h1 h2 => um_a (by unfold sc_ at h2; omega)
section BEST
variable {l : Launch} {D : dd_} {b : Nat} {ty : ty_} {mi : mi_} {mr : mr_} {n x : Nat} {S : cS_}
theorem ct_bestPenny (hc : ci_ ty mi mr n x S) : CT_ l D b yX0_bestPenny hX0_bestPenny (rm_ 4 0 0) [.ref x] (ty, mi, mr, n) (qk_ (kq_ x n mi mr (bq_ (fun k => tu_ S.1 5 (nI k)) (fun F => F.2.2.1) 10).1) ty n) := by
  have a1 := hc.1.1
  have hv := hc.2.2.2.2.1
  have hn := hc.2.1
  refine ct_of [some (.ref x), none, none, none, none, none] (by decide) rfl rfl ?_
  refine go_bipush (v := (-9)) dX0_bestPenny_0 (by decide) ?_
  refine go_istore_n (ls2 := [_, _, _, _, _, _]) dX0_bestPenny_2 rfl rfl ?_
  refine go_iconst (v := nI 0) dX0_bestPenny_3 (by decide) ?_
  refine go_istore_n (ls2 := [_, _, _, _, _, _]) dX0_bestPenny_4 rfl rfl ?_
  refine go_iconst (v := nI 0) dX0_bestPenny_5 (by decide) ?_
  refine go_istore_n (ls2 := [_, _, _, _, _, _]) dX0_bestPenny_6 rfl rfl ?_
  refine go_forI (α := mi_ × mr_ × Option Value × Option Value) 10 (fun k c => [some (.ref x), some (.int (bq_ (fun k => tu_ S.1 5 (nI k)) (fun F => F.2.2.1) k).1), some (.int (bq_ (fun k => tu_ S.1 5 (nI k)) (fun F => F.2.2.1) k).2), some (.int (nI k)), c.2.2.1, c.2.2.2]) (fun k c => (ty, c.1, c.2.1, n)) (fun k c => sk_ x n mi c.1 ∧ sr_ x n mr c.2.1) 0 (mi, mr, none, none) (by omega) ⟨sk_.rf, sr_.rf⟩ (fun k c _ hk hI ih => ?_) (fun c hI => ?_)
  · obtain ⟨m, r, o4, o5⟩ := c
    obtain ⟨i1, i2⟩ := hI
    dsimp only at i1 i2 ⊢
    have hc1 := hc.sk i1 i2
    refine go_iload_n dX0_bestPenny_7 rfl ?_
    refine go_bipush (v := nI 9) dX0_bestPenny_8 (by decide) ?_
    refine go_icmp_gt (tgt := 90) dX0_bestPenny_10 (by decide) (fun h0_ => absurd h0_ (nI_nlt (by omega) (by omega))) (fun _ => ?_)
    refine go_aload_n dX0_bestPenny_13 rfl ?_
    refine go_callV vX0_142_0 (ct_openMind hc1) dX0_bestPenny_14 (by assumption) rfl rfl rfl rfl rfl (Nat.le_of_ble_eq_true rfl) (Nat.le_of_ble_eq_true rfl) (Nat.le_of_ble_eq_true rfl) (Nat.le_of_ble_eq_true rfl) (Nat.le_of_ble_eq_true rfl) (kr_z (fun mi2 mr2 hp => ?_)) kt_z
    obtain ⟨p1, p2, p3⟩ := hp
    have a2 : ty (x + 23) = some (.inl 15) := p3.2.1.1
    refine go_astore (ls2 := [_, _, _, _, _, _]) dX0_bestPenny_17 rfl rfl ?_
    refine go_aload dX0_bestPenny_19 rfl ?_
    refine go_iload_n dX0_bestPenny_21 rfl ?_
    refine go_putI fX0_236_15 p15_10 rfl rfl rfl dX0_bestPenny_22 (by assumption) ?_
    have hc2 := (hc1.sk (sk_mind p1) p2).sk (sk_23 (j := 10) (z := nI k)) sr_.rf
    generalize hm3 : um_ mi2 (x + 23) 10 (nI k) = m3 at hc2 ⊢
    have e1 : ∀ a j, a ≠ x + 23 → m3 a j = mi2 a j := fun a j h => by rw [← hm3]; exact um_a h
    have e2 : ∀ j, j ≠ 10 → m3 (x + 23) j = mi2 (x + 23) j := fun j h => by rw [← hm3]; exact um_k h
    have e3 : m3 (x + 23) 10 = nI k := by rw [← hm3]; exact um_s
    have f1 : tr_ ty m3 mr2 x (x + 23) (tu_ S.1 5 (nI k)) := tr_t p3.1 (by omega) e1 (tu_n (by decide)) (tu_n (by decide)) (fun j h => tu_n (by omega)) ((e2 _ (by decide)).trans (p3.1.1.trans (tu_n (by decide)).symm)) ((e2 _ (by decide)).trans (p3.1.2.1.trans (tu_n (by decide)).symm)) ((e2 _ (by decide)).trans (p3.1.2.2.1.trans (tu_n (by decide)).symm)) ((e2 _ (by decide)).trans (p3.1.2.2.2.1.trans (tu_n (by decide)).symm)) ((e2 _ (by decide)).trans (p3.1.2.2.2.2.1.trans (tu_n (by decide)).symm)) e3
    have f2 : wf_ (tu_ S.1 5 (nI k)) := wf_up hv (tu_n (by decide)) (tu_n (by decide)) (tu_n (by decide)) (by rw [tu_n (by decide)]; exact hv.2.2.2.2.2.2.1) (fun j h => tu_n (by omega))
    have i3 : sk_ x n mi m3 := i1.tr ((sk_mind p1).tr (by rw [← hm3]; exact sk_23))
    have i4 : sr_ x n mr mr2 := i2.tr p2
    clear hm3
    refine go_aload_n dX0_bestPenny_25 rfl ?_
    refine go_aload dX0_bestPenny_26 rfl ?_
    refine go_callV vX0_239_0 (ct_findPlans hc2.1.pc p3.2.1 hc2.2.2.2.1 hv f1 f2 (tu_n (by decide)) (fun s _ => tu_n (by omega)) (by omega) (by omega)) dX0_bestPenny_28 (by assumption) rfl rfl rfl rfl rfl (Nat.le_of_ble_eq_true rfl) (Nat.le_of_ble_eq_true rfl) (Nat.le_of_ble_eq_true rfl) (Nat.le_of_ble_eq_true rfl) (Nat.le_of_ble_eq_true rfl) (kr_w (fun mi2 hp => ?_)) kt_w
    obtain ⟨⟨g1, g2, g3⟩, g4, g5⟩ := hp
    have i5 : sk_ x n mi mi2 := i3.tr (pfr_sk g5)
    generalize hF : pfin_ (tu_ S.1 5 (nI k)) = F at g1 g2 g3 g4
    have hb : bq_ (fun k => tu_ S.1 5 (nI k)) (fun F => F.2.2.1) (k + 1) = if 0 < F.1 ∧ ((bq_ (fun k => tu_ S.1 5 (nI k)) (fun F => F.2.2.1) k).1 = -9 ∨ (bq_ (fun k => tu_ S.1 5 (nI k)) (fun F => F.2.2.1) k).2 < F.2.2.1) then (nI k, F.2.2.1) else bq_ (fun k => tu_ S.1 5 (nI k)) (fun F => F.2.2.1) k := by rw [← hF]; rfl
    generalize bq_ (fun k => tu_ S.1 5 (nI k)) (fun F => F.2.2.1) (k + 1) = B2 at hb ih
    generalize bq_ (fun k => tu_ S.1 5 (nI k)) (fun F => F.2.2.1) k = B at hb ⊢
    have yes : 0 < F.1 → (B.1 = -9 ∨ B.2 < F.2.2.1) → G_ l D b (yX0_bestPenny.cls, yX0_bestPenny.name, 6, some FieldType.int, rm_ 4 0 0, []) (qk_ (kq_ x n mi mr (bq_ (fun k => tu_ S.1 5 (nI k)) (fun F => F.2.2.1) 10).1) ty n) cX0_bestPenny 52 [some (.ref x), some (.int B.1), some (.int B.2), some (.int (nI k)), some (.ref (x + 23)), o5] [] (ty, mi2, mr2, n) 0 0 := by
      intro h1 h2
      have h3 : ¬ F.1 = 0 := fun z => by rw [z] at h1; exact absurd h1 (by decide)
      rw [if_pos ⟨h1, h2⟩] at hb
      refine go_iconst (v := nI 1) dX0_bestPenny_52 (by decide) ?_
      refine go_goto (tgt := 57) dX0_bestPenny_53 (by decide) ?_
      refine go_istore (ls2 := [_, _, _, _, _, _]) dX0_bestPenny_57 rfl rfl ?_
      refine go_iload dX0_bestPenny_59 rfl ?_
      refine go_if_eq (tgt := 68) dX0_bestPenny_61 (by decide) (fun h0_ => absurd h0_ ((by decide))) (fun _ => ?_)
      refine go_iload_n dX0_bestPenny_64 rfl ?_
      refine go_goto (tgt := 69) dX0_bestPenny_65 (by decide) ?_
      refine go_istore_n (ls2 := [_, _, _, _, _, _]) dX0_bestPenny_69 rfl rfl ?_
      refine go_iload dX0_bestPenny_70 rfl ?_
      refine go_if_eq (tgt := 82) dX0_bestPenny_72 (by decide) (fun h0_ => absurd h0_ ((by decide))) (fun _ => ?_)
      refine go_aload_n dX0_bestPenny_75 rfl ?_
      refine go_getI fX0_227_0 dX0_bestPenny_76 (by assumption) rfl ?_
      rw [(g3 h3).2.1]
      refine go_goto (tgt := 83) dX0_bestPenny_79 (by decide) ?_
      refine go_istore_n (ls2 := [_, _, _, _, _, _]) dX0_bestPenny_83 rfl rfl ?_
      refine go_iinc (ls2 := [_, _, _, _, _, _]) dX0_bestPenny_84 rfl (nI_inc _) rfl rfl ?_
      refine go_goto (tgt := 7) dX0_bestPenny_87 (by decide) ?_
      have := ih (mi2, mr2, some (.ref (x + 23)), some (.int (nI 1))) ⟨i5, i4⟩
      rw [hb] at this
      exact this
    have no : ¬ (0 < F.1 ∧ (B.1 = -9 ∨ B.2 < F.2.2.1)) → G_ l D b (yX0_bestPenny.cls, yX0_bestPenny.name, 6, some FieldType.int, rm_ 4 0 0, []) (qk_ (kq_ x n mi mr (bq_ (fun k => tu_ S.1 5 (nI k)) (fun F => F.2.2.1) 10).1) ty n) cX0_bestPenny 56 [some (.ref x), some (.int B.1), some (.int B.2), some (.int (nI k)), some (.ref (x + 23)), o5] [] (ty, mi2, mr2, n) 0 0 := by
      intro h1
      rw [if_neg h1] at hb
      refine go_iconst (v := nI 0) dX0_bestPenny_56 (by decide) ?_
      refine go_istore (ls2 := [_, _, _, _, _, _]) dX0_bestPenny_57 rfl rfl ?_
      refine go_iload dX0_bestPenny_59 rfl ?_
      refine go_if_eq (tgt := 68) dX0_bestPenny_61 (by decide) (fun _ => ?_) (fun h0_ => absurd (rfl) h0_)
      refine go_iload_n dX0_bestPenny_68 rfl ?_
      refine go_istore_n (ls2 := [_, _, _, _, _, _]) dX0_bestPenny_69 rfl rfl ?_
      refine go_iload dX0_bestPenny_70 rfl ?_
      refine go_if_eq (tgt := 82) dX0_bestPenny_72 (by decide) (fun _ => ?_) (fun h0_ => absurd (rfl) h0_)
      refine go_iload_n dX0_bestPenny_82 rfl ?_
      refine go_istore_n (ls2 := [_, _, _, _, _, _]) dX0_bestPenny_83 rfl rfl ?_
      refine go_iinc (ls2 := [_, _, _, _, _, _]) dX0_bestPenny_84 rfl (nI_inc _) rfl rfl ?_
      refine go_goto (tgt := 7) dX0_bestPenny_87 (by decide) ?_
      have := ih (mi2, mr2, some (.ref (x + 23)), some (.int (nI 0))) ⟨i5, i4⟩
      rw [hb] at this
      exact this
    refine go_aload_n dX0_bestPenny_31 rfl ?_
    refine go_getI fX0_196_0 dX0_bestPenny_32 (by assumption) rfl ?_
    rw [g1]
    refine go_if_le (tgt := 56) dX0_bestPenny_35 (by decide) (fun h => ?_) (fun h => ?_)
    · exact no (fun z => absurd z.1 (by simpa using h))
    · have h1 : 0 < F.1 := by simpa using h
      have h3 : ¬ F.1 = 0 := fun z => by rw [z] at h1; exact absurd h1 (by decide)
      refine go_iload_n dX0_bestPenny_38 rfl ?_
      refine go_bipush (v := (-9)) dX0_bestPenny_39 (by decide) ?_
      refine go_icmp_eq (tgt := 52) dX0_bestPenny_41 (by decide) (fun h2 => ?_) (fun h2 => ?_)
      · exact yes h1 (Or.inl h2)
      · refine go_aload_n dX0_bestPenny_44 rfl ?_
        refine go_getI fX0_227_0 dX0_bestPenny_45 (by assumption) rfl ?_
        refine go_iload_n dX0_bestPenny_48 rfl ?_
        rw [(g3 h3).2.1]
        refine go_icmp_le (tgt := 56) dX0_bestPenny_49 (by decide) (fun h5 => ?_) (fun h5 => ?_)
        · refine no (fun z => ?_)
          rcases z.2 with z | z
          · exact h2 z
          · exact absurd z (by simpa using h5)
        · exact yes h1 (Or.inr (by simpa using h5))
  · obtain ⟨m, r, o4, o5⟩ := c
    obtain ⟨i1, i2⟩ := hI
    dsimp only at i1 i2 ⊢
    refine go_iload_n dX0_bestPenny_7 rfl ?_
    refine go_bipush (v := nI 9) dX0_bestPenny_8 (by decide) ?_
    refine go_icmp_gt (tgt := 90) dX0_bestPenny_10 (by decide) (fun _ => ?_) (fun h0_ => absurd (nI_lt (by omega) (by omega)) h0_)
    refine go_iload_n dX0_bestPenny_90 rfl ?_
    refine go_iret rfl dX0_bestPenny_91 (Nat.le_of_ble_eq_true rfl) (Nat.le_of_ble_eq_true rfl) ?_
    exact ⟨_, _, _, rfl, rfl, rfl, i1, i2⟩
theorem ct_bestChairs (hc : ci_ ty mi mr n x S) : CT_ l D b yX0_bestChairs hX0_bestChairs (rm_ 4 0 0) [.ref x] (ty, mi, mr, n) (qk_ (kq_ x n mi mr (bq_ (fun k => tu_ S.1 2 (nI k)) (fun F => F.2.1) 61).1) ty n) := by
  have a1 := hc.1.1
  have hv := hc.2.2.2.2.1
  have hn := hc.2.1
  refine ct_of [some (.ref x), none, none, none, none, none] (by decide) rfl rfl ?_
  refine go_bipush (v := (-9)) dX0_bestChairs_0 (by decide) ?_
  refine go_istore_n (ls2 := [_, _, _, _, _, _]) dX0_bestChairs_2 rfl rfl ?_
  refine go_iconst (v := nI 0) dX0_bestChairs_3 (by decide) ?_
  refine go_istore_n (ls2 := [_, _, _, _, _, _]) dX0_bestChairs_4 rfl rfl ?_
  refine go_iconst (v := nI 0) dX0_bestChairs_5 (by decide) ?_
  refine go_istore_n (ls2 := [_, _, _, _, _, _]) dX0_bestChairs_6 rfl rfl ?_
  refine go_forI (α := mi_ × mr_ × Option Value × Option Value) 61 (fun k c => [some (.ref x), some (.int (bq_ (fun k => tu_ S.1 2 (nI k)) (fun F => F.2.1) k).1), some (.int (bq_ (fun k => tu_ S.1 2 (nI k)) (fun F => F.2.1) k).2), some (.int (nI k)), c.2.2.1, c.2.2.2]) (fun k c => (ty, c.1, c.2.1, n)) (fun k c => sk_ x n mi c.1 ∧ sr_ x n mr c.2.1) 0 (mi, mr, none, none) (by omega) ⟨sk_.rf, sr_.rf⟩ (fun k c _ hk hI ih => ?_) (fun c hI => ?_)
  · obtain ⟨m, r, o4, o5⟩ := c
    obtain ⟨i1, i2⟩ := hI
    dsimp only at i1 i2 ⊢
    have hc1 := hc.sk i1 i2
    refine go_iload_n dX0_bestChairs_7 rfl ?_
    refine go_bipush (v := nI 60) dX0_bestChairs_8 (by decide) ?_
    refine go_icmp_gt (tgt := 90) dX0_bestChairs_10 (by decide) (fun h0_ => absurd h0_ (nI_nlt (by omega) (by omega))) (fun _ => ?_)
    refine go_aload_n dX0_bestChairs_13 rfl ?_
    refine go_callV vX0_142_0 (ct_openMind hc1) dX0_bestChairs_14 (by assumption) rfl rfl rfl rfl rfl (Nat.le_of_ble_eq_true rfl) (Nat.le_of_ble_eq_true rfl) (Nat.le_of_ble_eq_true rfl) (Nat.le_of_ble_eq_true rfl) (Nat.le_of_ble_eq_true rfl) (kr_z (fun mi2 mr2 hp => ?_)) kt_z
    obtain ⟨p1, p2, p3⟩ := hp
    have a2 : ty (x + 23) = some (.inl 15) := p3.2.1.1
    refine go_astore (ls2 := [_, _, _, _, _, _]) dX0_bestChairs_17 rfl rfl ?_
    refine go_aload dX0_bestChairs_19 rfl ?_
    refine go_iload_n dX0_bestChairs_21 rfl ?_
    refine go_putI fX0_171_15 p15_0 rfl rfl rfl dX0_bestChairs_22 (by assumption) ?_
    have hc2 := (hc1.sk (sk_mind p1) p2).sk (sk_23 (j := 0) (z := nI k)) sr_.rf
    generalize hm3 : um_ mi2 (x + 23) 0 (nI k) = m3 at hc2 ⊢
    have e1 : ∀ a j, a ≠ x + 23 → m3 a j = mi2 a j := fun a j h => by rw [← hm3]; exact um_a h
    have e2 : ∀ j, j ≠ 0 → m3 (x + 23) j = mi2 (x + 23) j := fun j h => by rw [← hm3]; exact um_k h
    have e3 : m3 (x + 23) 0 = nI k := by rw [← hm3]; exact um_s
    have f1 : tr_ ty m3 mr2 x (x + 23) (tu_ S.1 2 (nI k)) := tr_t p3.1 (by omega) e1 (tu_n (by decide)) (tu_n (by decide)) (fun j h => tu_n (by omega)) e3 ((e2 _ (by decide)).trans (p3.1.2.1.trans (tu_n (by decide)).symm)) ((e2 _ (by decide)).trans (p3.1.2.2.1.trans (tu_n (by decide)).symm)) ((e2 _ (by decide)).trans (p3.1.2.2.2.1.trans (tu_n (by decide)).symm)) ((e2 _ (by decide)).trans (p3.1.2.2.2.2.1.trans (tu_n (by decide)).symm)) ((e2 _ (by decide)).trans (p3.1.2.2.2.2.2.1.trans (tu_n (by decide)).symm))
    have f2 : wf_ (tu_ S.1 2 (nI k)) := wf_up hv (tu_n (by decide)) (tu_n (by decide)) (tu_n (by decide)) ⟨k, by omega, tu_s⟩ (fun j h => tu_n (by omega))
    have i3 : sk_ x n mi m3 := i1.tr ((sk_mind p1).tr (by rw [← hm3]; exact sk_23))
    have i4 : sr_ x n mr mr2 := i2.tr p2
    clear hm3
    refine go_aload_n dX0_bestChairs_25 rfl ?_
    refine go_aload dX0_bestChairs_26 rfl ?_
    refine go_callV vX0_239_0 (ct_findPlans hc2.1.pc p3.2.1 hc2.2.2.2.1 hv f1 f2 (tu_n (by decide)) (fun s _ => tu_n (by omega)) (by omega) (by omega)) dX0_bestChairs_28 (by assumption) rfl rfl rfl rfl rfl (Nat.le_of_ble_eq_true rfl) (Nat.le_of_ble_eq_true rfl) (Nat.le_of_ble_eq_true rfl) (Nat.le_of_ble_eq_true rfl) (Nat.le_of_ble_eq_true rfl) (kr_w (fun mi2 hp => ?_)) kt_w
    obtain ⟨⟨g1, g2, g3⟩, g4, g5⟩ := hp
    have i5 : sk_ x n mi mi2 := i3.tr (pfr_sk g5)
    generalize hF : pfin_ (tu_ S.1 2 (nI k)) = F at g1 g2 g3 g4
    have hb : bq_ (fun k => tu_ S.1 2 (nI k)) (fun F => F.2.1) (k + 1) = if 0 < F.1 ∧ ((bq_ (fun k => tu_ S.1 2 (nI k)) (fun F => F.2.1) k).1 = -9 ∨ (bq_ (fun k => tu_ S.1 2 (nI k)) (fun F => F.2.1) k).2 < F.2.1) then (nI k, F.2.1) else bq_ (fun k => tu_ S.1 2 (nI k)) (fun F => F.2.1) k := by rw [← hF]; rfl
    generalize bq_ (fun k => tu_ S.1 2 (nI k)) (fun F => F.2.1) (k + 1) = B2 at hb ih
    generalize bq_ (fun k => tu_ S.1 2 (nI k)) (fun F => F.2.1) k = B at hb ⊢
    have yes : 0 < F.1 → (B.1 = -9 ∨ B.2 < F.2.1) → G_ l D b (yX0_bestChairs.cls, yX0_bestChairs.name, 6, some FieldType.int, rm_ 4 0 0, []) (qk_ (kq_ x n mi mr (bq_ (fun k => tu_ S.1 2 (nI k)) (fun F => F.2.1) 61).1) ty n) cX0_bestChairs 52 [some (.ref x), some (.int B.1), some (.int B.2), some (.int (nI k)), some (.ref (x + 23)), o5] [] (ty, mi2, mr2, n) 0 0 := by
      intro h1 h2
      have h3 : ¬ F.1 = 0 := fun z => by rw [z] at h1; exact absurd h1 (by decide)
      rw [if_pos ⟨h1, h2⟩] at hb
      refine go_iconst (v := nI 1) dX0_bestChairs_52 (by decide) ?_
      refine go_goto (tgt := 57) dX0_bestChairs_53 (by decide) ?_
      refine go_istore (ls2 := [_, _, _, _, _, _]) dX0_bestChairs_57 rfl rfl ?_
      refine go_iload dX0_bestChairs_59 rfl ?_
      refine go_if_eq (tgt := 68) dX0_bestChairs_61 (by decide) (fun h0_ => absurd h0_ ((by decide))) (fun _ => ?_)
      refine go_iload_n dX0_bestChairs_64 rfl ?_
      refine go_goto (tgt := 69) dX0_bestChairs_65 (by decide) ?_
      refine go_istore_n (ls2 := [_, _, _, _, _, _]) dX0_bestChairs_69 rfl rfl ?_
      refine go_iload dX0_bestChairs_70 rfl ?_
      refine go_if_eq (tgt := 82) dX0_bestChairs_72 (by decide) (fun h0_ => absurd h0_ ((by decide))) (fun _ => ?_)
      refine go_aload_n dX0_bestChairs_75 rfl ?_
      refine go_getI fX0_224_0 dX0_bestChairs_76 (by assumption) rfl ?_
      rw [(g3 h3).1]
      refine go_goto (tgt := 83) dX0_bestChairs_79 (by decide) ?_
      refine go_istore_n (ls2 := [_, _, _, _, _, _]) dX0_bestChairs_83 rfl rfl ?_
      refine go_iinc (ls2 := [_, _, _, _, _, _]) dX0_bestChairs_84 rfl (nI_inc _) rfl rfl ?_
      refine go_goto (tgt := 7) dX0_bestChairs_87 (by decide) ?_
      have := ih (mi2, mr2, some (.ref (x + 23)), some (.int (nI 1))) ⟨i5, i4⟩
      rw [hb] at this
      exact this
    have no : ¬ (0 < F.1 ∧ (B.1 = -9 ∨ B.2 < F.2.1)) → G_ l D b (yX0_bestChairs.cls, yX0_bestChairs.name, 6, some FieldType.int, rm_ 4 0 0, []) (qk_ (kq_ x n mi mr (bq_ (fun k => tu_ S.1 2 (nI k)) (fun F => F.2.1) 61).1) ty n) cX0_bestChairs 56 [some (.ref x), some (.int B.1), some (.int B.2), some (.int (nI k)), some (.ref (x + 23)), o5] [] (ty, mi2, mr2, n) 0 0 := by
      intro h1
      rw [if_neg h1] at hb
      refine go_iconst (v := nI 0) dX0_bestChairs_56 (by decide) ?_
      refine go_istore (ls2 := [_, _, _, _, _, _]) dX0_bestChairs_57 rfl rfl ?_
      refine go_iload dX0_bestChairs_59 rfl ?_
      refine go_if_eq (tgt := 68) dX0_bestChairs_61 (by decide) (fun _ => ?_) (fun h0_ => absurd (rfl) h0_)
      refine go_iload_n dX0_bestChairs_68 rfl ?_
      refine go_istore_n (ls2 := [_, _, _, _, _, _]) dX0_bestChairs_69 rfl rfl ?_
      refine go_iload dX0_bestChairs_70 rfl ?_
      refine go_if_eq (tgt := 82) dX0_bestChairs_72 (by decide) (fun _ => ?_) (fun h0_ => absurd (rfl) h0_)
      refine go_iload_n dX0_bestChairs_82 rfl ?_
      refine go_istore_n (ls2 := [_, _, _, _, _, _]) dX0_bestChairs_83 rfl rfl ?_
      refine go_iinc (ls2 := [_, _, _, _, _, _]) dX0_bestChairs_84 rfl (nI_inc _) rfl rfl ?_
      refine go_goto (tgt := 7) dX0_bestChairs_87 (by decide) ?_
      have := ih (mi2, mr2, some (.ref (x + 23)), some (.int (nI 0))) ⟨i5, i4⟩
      rw [hb] at this
      exact this
    refine go_aload_n dX0_bestChairs_31 rfl ?_
    refine go_getI fX0_196_0 dX0_bestChairs_32 (by assumption) rfl ?_
    rw [g1]
    refine go_if_le (tgt := 56) dX0_bestChairs_35 (by decide) (fun h => ?_) (fun h => ?_)
    · exact no (fun z => absurd z.1 (by simpa using h))
    · have h1 : 0 < F.1 := by simpa using h
      have h3 : ¬ F.1 = 0 := fun z => by rw [z] at h1; exact absurd h1 (by decide)
      refine go_iload_n dX0_bestChairs_38 rfl ?_
      refine go_bipush (v := (-9)) dX0_bestChairs_39 (by decide) ?_
      refine go_icmp_eq (tgt := 52) dX0_bestChairs_41 (by decide) (fun h2 => ?_) (fun h2 => ?_)
      · exact yes h1 (Or.inl h2)
      · refine go_aload_n dX0_bestChairs_44 rfl ?_
        refine go_getI fX0_224_0 dX0_bestChairs_45 (by assumption) rfl ?_
        refine go_iload_n dX0_bestChairs_48 rfl ?_
        rw [(g3 h3).1]
        refine go_icmp_le (tgt := 56) dX0_bestChairs_49 (by decide) (fun h5 => ?_) (fun h5 => ?_)
        · refine no (fun z => ?_)
          rcases z.2 with z | z
          · exact h2 z
          · exact absurd z (by simpa using h5)
        · exact yes h1 (Or.inr (by simpa using h5))
  · obtain ⟨m, r, o4, o5⟩ := c
    obtain ⟨i1, i2⟩ := hI
    dsimp only at i1 i2 ⊢
    refine go_iload_n dX0_bestChairs_7 rfl ?_
    refine go_bipush (v := nI 60) dX0_bestChairs_8 (by decide) ?_
    refine go_icmp_gt (tgt := 90) dX0_bestChairs_10 (by decide) (fun _ => ?_) (fun h0_ => absurd (nI_lt (by omega) (by omega)) h0_)
    refine go_iload_n dX0_bestChairs_90 rfl ?_
    refine go_iret rfl dX0_bestChairs_91 (Nat.le_of_ble_eq_true rfl) (Nat.le_of_ble_eq_true rfl) ?_
    exact ⟨_, _, _, rfl, rfl, rfl, i1, i2⟩
end BEST
