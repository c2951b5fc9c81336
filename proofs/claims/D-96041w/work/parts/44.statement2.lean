/-! A STATEMENT READ, OF ANY KIND -/
set_option maxRecDepth 100000
theorem tos_.up {ty ty2 : ty_} {mi mi2 : mi_} {mr mr2 : mr_} {x g : Nat} {f : Nat → Nat} (h : tos_ ty mi mr x g f) (hu : ∀ a c, 22 ≤ c → c ≤ 26 → ty a = some (.inl c) → ty2 a = some (.inl c) ∧ ∀ j, mi2 a j = mi a j ∧ mr2 a j = mr a j) : tos_ ty2 mi2 mr2 x g f := by
  obtain ⟨h1, h2, h3, h4, h5, h6, h7, h8, h9⟩ := h
  obtain ⟨u1, u2⟩ := hu _ _ (by omega) (by omega) h1
  exact ⟨u1, (u2 0).2.trans h2, h3, (u2 1).1.trans h4, (u2 2).1.trans h5, (u2 3).1.trans h6, (u2 4).1.trans h7, (u2 5).1.trans h8, h9⟩
theorem told_.up {ty ty2 : ty_} {mi mi2 : mi_} {mr mr2 : mr_} {x q s : Nat} {t : tk_} (h : told_ ty mi mr x q s t) (hu : ∀ a c, 22 ≤ c → c ≤ 26 → ty a = some (.inl c) → ty2 a = some (.inl c) ∧ ∀ j, mi2 a j = mi a j ∧ mr2 a j = mr a j) : told_ ty2 mi2 mr2 x q s t := by
  obtain ⟨h0, h⟩ := h
  rcases h with ⟨h1, h2, h3, h4⟩ | ⟨h1, h2, h3, h4⟩ | ⟨h1, h2, g, h3, h4⟩ | ⟨h1, h2, h3, h4, h5, h6⟩
  · obtain ⟨u1, u2⟩ := hu _ _ (by omega) (by omega) h2
    exact ⟨(u2 0).1.trans h0, Or.inl ⟨h1, u1, (u2 1).1.trans h3, h4⟩⟩
  · obtain ⟨u1, u2⟩ := hu _ _ (by omega) (by omega) h2
    exact ⟨(u2 0).1.trans h0, Or.inr (Or.inl ⟨h1, u1, (u2 1).1.trans h3, h4⟩)⟩
  · obtain ⟨u1, u2⟩ := hu _ _ (by omega) (by omega) h2
    exact ⟨(u2 0).1.trans h0, Or.inr (Or.inr (Or.inl ⟨h1, u1, g, (u2 1).2.trans h3, h4.up hu⟩))⟩
  · obtain ⟨u1, u2⟩ := hu _ _ (by omega) (by omega) h2
    exact ⟨(u2 0).1.trans h0, Or.inr (Or.inr (Or.inr ⟨h1, u1, (u2 1).2.trans h3, h4, (u2 2).1.trans h5, h6⟩))⟩
theorem rd_.fr {ty ty2 : ty_} {mi mi2 : mi_} {mr mr2 : mr_} {x R n : Nat} {lt : Nat → Int32} {ln p p2 : Nat} (h : rd_ ty mi mr x R lt ln p) (hT : ∀ a, a < n → ty2 a = ty a) (hm : ∀ a j, a < n → ¬ (a = R ∧ j = 1) → mi2 a j = mi a j ∧ mr2 a j = mr a j) (hR : R < n) (h1 : mi2 R 1 = nI p2) (hp : p2 ≤ 80) : rd_ ty2 mi2 mr2 x R lt ln p2 := by
  obtain ⟨g1, g2, g3, g4, g5, g6, g7, g8, g9, g10, g11⟩ := h
  exact ⟨(hT _ hR).trans g1, (hm _ _ hR (by omega)).1.trans g2, h1, (hm _ _ hR (by omega)).2.trans g4, (hT _ (by omega)).trans g5, (hm _ _ (by omega) (by omega)).2.trans g6, (hT _ (by omega)).trans g7, fun k hk => (hm _ _ (by omega) (by omega)).1.trans (g8 k hk), g9, hp, g11⟩
theorem rk2_.ty {ty ty2 : ty_} {mr : mr_} {x n : Nat} (h : rk2_ ty mr x) (hT : ∀ a, a < n → ty2 a = ty a) (hn : x + 62 ≤ n) : rk2_ ty2 mr x := ⟨h.1, (hT _ (by omega)).trans h.2.1, h.2.2.1, h.2.2.2.1, (hT _ (by omega)).trans h.2.2.2.2.1, h.2.2.2.2.2⟩
theorem srt_le {lt : Nat → Int32} {ln p p2 : Nat} {f : Nat → Nat} (h : srt_ lt ln p = .inl (f, p2)) : p2 ≤ ln := by
  unfold srt_ at h
  cases h1 : dgt_ lt ln p with
  | inr e => rw [h1] at h; cases h
  | inl q1 =>
  rw [h1] at h
  dsimp only [bR_] at h
  cases h2 : one_ gof_ lt ln q1.2 with
  | inr e => rw [h2] at h; cases h
  | inl q2 =>
  rw [h2] at h
  dsimp only at h
  cases h3 : dgt_ lt ln q2.2 with
  | inr e => rw [h3] at h; cases h
  | inl q3 =>
  rw [h3] at h
  dsimp only at h
  cases h4 : exp_ lt ln (nI 44) q3.2 with
  | inr e => rw [h4] at h; cases h
  | inl q4 =>
  rw [h4] at h
  dsimp only at h
  cases h5 : dgt_ lt ln q4.2 with
  | inr e => rw [h5] at h; cases h
  | inl q5 =>
  rw [h5] at h
  dsimp only at h
  cases h6 : dgt_ lt ln q5.2 with
  | inr e => rw [h6] at h; cases h
  | inl q6 =>
  rw [h6] at h
  dsimp only at h
  cases h7 : dgt_ lt ln q6.2 with
  | inr e => rw [h7] at h; cases h
  | inl q7 =>
  rw [h7] at h
  dsimp only at h
  cases h
  exact (dgt_le h7).2.1
theorem rul_le {lt : Nat → Int32} {ln p p2 : Nat} {f : Nat → Nat} (h : rul_ lt ln p = .inl (f, p2)) : p2 ≤ ln := by
  unfold rul_ at h
  cases h1 : one_ rof_ lt ln p with
  | inr e => rw [h1] at h; cases h
  | inl q1 =>
  rw [h1] at h
  dsimp only [bR_] at h
  cases h2 : dgt_ lt ln q1.2 with
  | inr e => rw [h2] at h; cases h
  | inl q2 =>
  rw [h2] at h
  dsimp only at h
  cases h
  exact (dgt_le h2).2.1
section STM2
variable {l : Launch} {D : dd_} {b : Nat} {ty : ty_} {mi : mi_} {mr : mr_} {n x R : Nat} {lt : Nat → Int32} {ln p : Nat}
theorem stm_tail {ty2 : ty_} {m2 : mi_} {mr2 : mr_} {n2 q p2 : Nat} {t : tk_} {kc ks : Nat} {c : Int32} (h0 : rd_ ty mi mr x R lt ln p) (hRn : R < n) (hE : stm_ lt ln p = bR_ (exp_ lt ln (nI 59) p2) (fun _ p3 => .inl (t, p3))) (ht : told_ ty2 m2 mr2 x q p t) (h1 : m2 R 1 = nI p2) (hp2 : p2 ≤ ln) (hT : ∀ a, a < n → ty2 a = ty a) (hm : ∀ a j, a < n → ¬ (a = R ∧ j = 1) → m2 a j = mi a j ∧ mr2 a j = mr a j) (hn : n ≤ n2) (hlt : ∀ a t, ty2 a = some t → a < n2) (hc : kc ≤ 10) (hs : ks ≤ 64) : G_ l D b (RX19, "statement", 4, some (.object "GoodHalfEmpty$Told"), rm_ 10 11 71, []) (qT_ (stm_ lt ln p) x R p (ty, mi, mr, n)) cX19_statement 114 [some (.ref R), some (.int (nI p)), some (.int c), none] [.ref q] (ty2, m2, mr2, n2) kc ks := by
  refine go_widen hc hs ?_
  have h9 := h0.2.2.2.2.2.2.2.2.1
  have h01 : rd_ ty2 m2 mr2 x R lt ln p2 := h0.fr hT hm hRn h1 (by omega)
  have b1 := h01.1
  refine go_astore_n (ls2 := [_, _, _, _]) dX19_statement_114 rfl rfl ?_
  refine go_aload_n dX19_statement_115 rfl ?_
  refine go_bipush (v := nI 59) dX19_statement_116 (by decide) ?_
  refine go_callV vX19_71_19 (ct_take h01) dX19_statement_118 (by assumption) rfl rfl rfl rfl rfl (Nat.le_of_ble_eq_true rfl) (Nat.le_of_ble_eq_true rfl) (Nat.le_of_ble_eq_true rfl) (Nat.le_of_ble_eq_true rfl) (Nat.le_of_ble_eq_true rfl) (kr_R (fun u p3 hd => ?_)) (kt_R (fun e he o σ2 ht => ?_))
  · refine go_aload_n dX19_statement_121 rfl ?_
    refine go_aret rfl dX19_statement_122 (Nat.le_of_ble_eq_true rfl) (Nat.le_of_ble_eq_true rfl) ?_
    rw [hE, hd]
    refine ⟨q, rfl, ht.up (fun a c h1 h2 h3 => ⟨h3, fun j => ⟨um_a (fun z => ?_), rfl⟩⟩), um_s, hT, fun a j ha hj => ⟨(um_R hj).trans (hm a j ha hj).1, (hm a j ha hj).2⟩, hn, hlt⟩
    rw [z, b1] at h3
    cases h3
    omega
  · refine qT_err (e := e) (by rw [hE, he]; rfl) ?_
    exact ht.tr hT hm hn
theorem ct_statement (h : rd_ ty mi mr x R lt ln p) (hk : rk2_ ty mr x) : CT_ l D b yX19_statement hX19_statement (rm_ 10 11 71) [.ref R] (ty, mi, mr, n) (qT_ (stm_ lt ln p) x R p (ty, mi, mr, n)) := by
  have h0 := h
  obtain ⟨h1, h2, h3, h4, h5, h6, h7, h8, h9, h10, h11⟩ := h
  refine ct_of [some (.ref R), none, none, none] (by decide) rfl rfl ?_
  refine go_facts (fun hz hl hb => ?_)
  have hRn : R < n := (hl _ _ h1).2
  refine go_aload_n dX19_statement_0 rfl ?_
  refine go_getI fX19_22_19 dX19_statement_1 (by assumption) rfl ?_
  rw [h3]
  refine go_istore_n (ls2 := [_, _, _, _]) dX19_statement_4 rfl rfl ?_
  refine go_aload_n dX19_statement_5 rfl ?_
  refine go_callV vX19_34_19 (ct_here h0) dX19_statement_6 (by assumption) rfl rfl rfl rfl rfl (Nat.le_of_ble_eq_true rfl) (Nat.le_of_ble_eq_true rfl) (Nat.le_of_ble_eq_true rfl) (Nat.le_of_ble_eq_true rfl) (Nat.le_of_ble_eq_true rfl) (kr_i ?_) kt_i
  have hb0 : ∀ k, bof_ (hr_ lt ln p) = some k → stm_ lt ln p = bR_ (if k = 1 then srt_ lt ln (p + 1) else if k = 2 then rul_ lt ln (p + 1) else nmb_ lt ln (p + 1)) fun f p2 => bR_ (exp_ lt ln (nI 59) p2) fun _ p3 => .inl ((k, f), p3) := by
    intro k hk
    unfold stm_
    rw [one_some hk]
    rfl
  have hpl : ∀ k, bof_ (hr_ lt ln p) = some k → p + 1 ≤ ln := fun k hk => (one_le rfl (one_some hk)).2.1
  have nb : bof_ (hr_ lt ln p) = none → stm_ lt ln p = .inr p := by
    intro hk
    unfold stm_
    rw [one_none hk]
    rfl
  generalize hr_ lt ln p = c at hb0 hpl nb ⊢
  refine go_istore_n (ls2 := [_, _, _, _]) dX19_statement_9 rfl rfl ?_
  refine go_aload_n dX19_statement_10 rfl ?_
  have h01 : ∀ k, bof_ c = some k → rd_ ty (um_ mi R 1 (nI (p + 1))) mr x R lt ln (p + 1) := fun k hk => h0.um (by have := hpl k hk; omega)
  by_cases c0 : c = nI 99
  · subst c0
    have hE := hb0 0 rfl
    have hR1 := h01 0 rfl
    have hp1 := hpl 0 rfl
    have hm1 : ∀ a j, a < n → ¬ (a = R ∧ j = 1) → um_ mi R 1 (nI (p + 1)) a j = mi a j := fun a j _ hj => um_R hj
    refine go_iload_n dX19_statement_11 rfl ?_
    refine go_bipush (v := nI 99) dX19_statement_12 (by decide) ?_
    refine go_icmp_eq (tgt := 35) dX19_statement_14 (by decide) (fun _ => ?_) (fun h0_ => absurd (rfl) h0_)
    refine go_iconst (v := nI 1) dX19_statement_35 (by decide) ?_
    refine go_goto (tgt := 40) dX19_statement_36 (by decide) ?_
    refine go_callV vX19_38_19 (ct_mustStand (c := true) h0) dX19_statement_40 (by assumption) rfl rfl rfl rfl rfl (Nat.le_of_ble_eq_true rfl) (Nat.le_of_ble_eq_true rfl) (Nat.le_of_ble_eq_true rfl) (Nat.le_of_ble_eq_true rfl) (Nat.le_of_ble_eq_true rfl) (kr_f (fun _ => ?_)) (kt_f (fun hc o σ2 ht => Bool.noConfusion hc))
    refine go_aload_n dX19_statement_43 rfl ?_
    refine go_dup dX19_statement_44 rfl ?_
    refine go_getI fX19_22_19 dX19_statement_45 (by assumption) rfl ?_
    rw [h3]
    refine go_iconst (v := nI 1) dX19_statement_48 (by decide) ?_
    refine go_iadd dX19_statement_49 ?_
    rw [nI_add]
    refine go_putI fX19_22_19 p19_1 rfl rfl rfl dX19_statement_50 (by assumption) ?_
    refine go_iload_n dX19_statement_53 rfl ?_
    refine go_bipush (v := nI 99) dX19_statement_54 (by decide) ?_
    refine go_icmp_ne (tgt := 74) dX19_statement_56 (by decide) (fun h0_ => absurd (rfl) h0_) (fun _ => ?_)
    refine go_new (c := 22) rfl q520 q101 dX19_statement_59 (Nat.le_of_ble_eq_true rfl) (Nat.le_of_ble_eq_true rfl) ?_
    have hT : ∀ a, a < n → ut_ ty n (.inl 22) a = ty a := fun a h => ut_a (Nat.ne_of_lt h)
    have hTn : ut_ ty n (.inl 22) n = some (.inl 22) := ut_s
    have hTlt : ∀ a u, ut_ ty n (.inl 22) a = some u → a < n + 1 := fun a u h => by
      by_cases h2 : a = n
      · omega
      · rw [ut_a h2] at h
        have := (hl a u h).2
        omega
    generalize ut_ ty n (.inl 22) = ty2 at hT hTn hTlt ⊢
    have b1 : ty2 R = some (.inl 19) := (hT _ hRn).trans h1
    refine go_dup dX19_statement_62 rfl ?_
    refine go_iload_n dX19_statement_63 rfl ?_
    refine go_aload_n dX19_statement_64 rfl ?_
    refine go_callV vX19_55_19 (ct_number (hR1.ty hT hRn)) dX19_statement_65 (by assumption) rfl rfl rfl rfl rfl (Nat.le_of_ble_eq_true rfl) (Nat.le_of_ble_eq_true rfl) (Nat.le_of_ble_eq_true rfl) (Nat.le_of_ble_eq_true rfl) (Nat.le_of_ble_eq_true rfl) (kr_R (fun d p2 hd => ?_)) (kt_R (fun e he o σ2 ht => ?_))
    · have e2 := num_le hd
      rw [um_um]
      refine go_callI iX19_58 (ct_numberTold22 hTn) dX19_statement_68 rfl rfl rfl (Nat.le_of_ble_eq_true rfl) (Nat.le_of_ble_eq_true rfl) (Nat.le_of_ble_eq_true rfl) (Nat.le_of_ble_eq_true rfl) (Nat.le_of_ble_eq_true rfl) (kr_v ?_) kt_v
      refine go_goto (tgt := 114) dX19_statement_71 (by decide) ?_
      refine stm_tail (n := n) (p2 := p2) (t := (0, fd_ d 0 0 0 0 0)) h0 hRn ?_ ⟨(um_k (by decide)).trans um_s, Or.inl ⟨rfl, hTn, um_s, e2.2.2⟩⟩ ?_ e2.2.1 hT (fun a j ha hj => ⟨?_, rfl⟩) (Nat.le_succ _) hTlt (Nat.le_of_ble_eq_true rfl) (Nat.le_of_ble_eq_true rfl)
      · rw [hE, if_neg (by decide), if_neg (by decide)]
        unfold nmb_
        rw [hd]
        rfl
      · exact (um_a (Nat.ne_of_lt hRn)).trans ((um_a (Nat.ne_of_lt hRn)).trans um_s)
      · exact (um_a (Nat.ne_of_lt ha)).trans ((um_a (Nat.ne_of_lt ha)).trans (um_R hj))
    · refine qT_err (e := e) ?_ (ht.tr hT (fun a j _ hj => ⟨um_R hj, rfl⟩) (Nat.le_succ _))
      rw [hE, if_neg (by decide), if_neg (by decide)]
      unfold nmb_
      rw [he]
      rfl
  by_cases c1 : c = nI 115
  · subst c1
    have hE := hb0 1 rfl
    have hR1 := h01 1 rfl
    have hp1 := hpl 1 rfl
    have hm1 : ∀ a j, a < n → ¬ (a = R ∧ j = 1) → um_ mi R 1 (nI (p + 1)) a j = mi a j := fun a j _ hj => um_R hj
    refine go_iload_n dX19_statement_11 rfl ?_
    refine go_bipush (v := nI 99) dX19_statement_12 (by decide) ?_
    refine go_icmp_eq (tgt := 35) dX19_statement_14 (by decide) (fun h0_ => absurd h0_ ((by decide))) (fun _ => ?_)
    refine go_iload_n dX19_statement_17 rfl ?_
    refine go_bipush (v := nI 115) dX19_statement_18 (by decide) ?_
    refine go_icmp_eq (tgt := 35) dX19_statement_20 (by decide) (fun _ => ?_) (fun h0_ => absurd (rfl) h0_)
    refine go_iconst (v := nI 1) dX19_statement_35 (by decide) ?_
    refine go_goto (tgt := 40) dX19_statement_36 (by decide) ?_
    refine go_callV vX19_38_19 (ct_mustStand (c := true) h0) dX19_statement_40 (by assumption) rfl rfl rfl rfl rfl (Nat.le_of_ble_eq_true rfl) (Nat.le_of_ble_eq_true rfl) (Nat.le_of_ble_eq_true rfl) (Nat.le_of_ble_eq_true rfl) (Nat.le_of_ble_eq_true rfl) (kr_f (fun _ => ?_)) (kt_f (fun hc o σ2 ht => Bool.noConfusion hc))
    refine go_aload_n dX19_statement_43 rfl ?_
    refine go_dup dX19_statement_44 rfl ?_
    refine go_getI fX19_22_19 dX19_statement_45 (by assumption) rfl ?_
    rw [h3]
    refine go_iconst (v := nI 1) dX19_statement_48 (by decide) ?_
    refine go_iadd dX19_statement_49 ?_
    rw [nI_add]
    refine go_putI fX19_22_19 p19_1 rfl rfl rfl dX19_statement_50 (by assumption) ?_
    refine go_iload_n dX19_statement_53 rfl ?_
    refine go_bipush (v := nI 99) dX19_statement_54 (by decide) ?_
    refine go_icmp_ne (tgt := 74) dX19_statement_56 (by decide) (fun _ => ?_) (fun h0_ => absurd h0_ ((by decide)))
    refine go_iload_n dX19_statement_74 rfl ?_
    refine go_bipush (v := nI 119) dX19_statement_75 (by decide) ?_
    refine go_icmp_ne (tgt := 95) dX19_statement_77 (by decide) (fun _ => ?_) (fun h0_ => absurd h0_ ((by decide)))
    refine go_iload_n dX19_statement_95 rfl ?_
    refine go_bipush (v := nI 115) dX19_statement_96 (by decide) ?_
    refine go_icmp_ne (tgt := 109) dX19_statement_98 (by decide) (fun h0_ => absurd (rfl) h0_) (fun _ => ?_)
    refine go_aload_n dX19_statement_101 rfl ?_
    refine go_iload_n dX19_statement_102 rfl ?_
    refine go_callV vX19_64_19 (ct_sortRead hR1 hk) dX19_statement_103 (by assumption) rfl rfl rfl rfl rfl (Nat.le_of_ble_eq_true rfl) (Nat.le_of_ble_eq_true rfl) (Nat.le_of_ble_eq_true rfl) (Nat.le_of_ble_eq_true rfl) (Nat.le_of_ble_eq_true rfl) (kr_T (fun t p2 q σ2 hr ht k1 k2 k3 k4 k5 => ?_)) (kt_T (fun e he o σ2 ht => ?_))
    · cases hd : srt_ lt ln (p + 1) with
      | inr e => rw [hd] at hr; cases hr
      | inl w =>
        obtain ⟨f, p9⟩ := w
        rw [hd] at hr
        cases hr
        obtain ⟨ty2, m2, mr2, n2⟩ := σ2
        refine go_goto (tgt := 114) dX19_statement_106 (by decide) ?_
        refine stm_tail (n := n) (p2 := p2) (t := (1, f)) h0 hRn ?_ ht k1 (srt_le hd) k2 (fun a j ha hj => ⟨(k3 a j ha hj).1.trans (um_R hj), (k3 a j ha hj).2⟩) k4 k5 (Nat.le_of_ble_eq_true rfl) (Nat.le_of_ble_eq_true rfl)
        rw [hE, if_pos rfl, hd]
        rfl
    · refine qT_err (e := e) ?_ ht.um
      cases hd : srt_ lt ln (p + 1) with
      | inl w => rw [hd] at he; cases he
      | inr e2 =>
        rw [hd] at he
        cases he
        rw [hE, if_pos rfl, hd]
        rfl
  by_cases c2 : c = nI 114
  · subst c2
    have hE := hb0 2 rfl
    have hR1 := h01 2 rfl
    have hp1 := hpl 2 rfl
    have hm1 : ∀ a j, a < n → ¬ (a = R ∧ j = 1) → um_ mi R 1 (nI (p + 1)) a j = mi a j := fun a j _ hj => um_R hj
    refine go_iload_n dX19_statement_11 rfl ?_
    refine go_bipush (v := nI 99) dX19_statement_12 (by decide) ?_
    refine go_icmp_eq (tgt := 35) dX19_statement_14 (by decide) (fun h0_ => absurd h0_ ((by decide))) (fun _ => ?_)
    refine go_iload_n dX19_statement_17 rfl ?_
    refine go_bipush (v := nI 115) dX19_statement_18 (by decide) ?_
    refine go_icmp_eq (tgt := 35) dX19_statement_20 (by decide) (fun h0_ => absurd h0_ ((by decide))) (fun _ => ?_)
    refine go_iload_n dX19_statement_23 rfl ?_
    refine go_bipush (v := nI 114) dX19_statement_24 (by decide) ?_
    refine go_icmp_eq (tgt := 35) dX19_statement_26 (by decide) (fun _ => ?_) (fun h0_ => absurd (rfl) h0_)
    refine go_iconst (v := nI 1) dX19_statement_35 (by decide) ?_
    refine go_goto (tgt := 40) dX19_statement_36 (by decide) ?_
    refine go_callV vX19_38_19 (ct_mustStand (c := true) h0) dX19_statement_40 (by assumption) rfl rfl rfl rfl rfl (Nat.le_of_ble_eq_true rfl) (Nat.le_of_ble_eq_true rfl) (Nat.le_of_ble_eq_true rfl) (Nat.le_of_ble_eq_true rfl) (Nat.le_of_ble_eq_true rfl) (kr_f (fun _ => ?_)) (kt_f (fun hc o σ2 ht => Bool.noConfusion hc))
    refine go_aload_n dX19_statement_43 rfl ?_
    refine go_dup dX19_statement_44 rfl ?_
    refine go_getI fX19_22_19 dX19_statement_45 (by assumption) rfl ?_
    rw [h3]
    refine go_iconst (v := nI 1) dX19_statement_48 (by decide) ?_
    refine go_iadd dX19_statement_49 ?_
    rw [nI_add]
    refine go_putI fX19_22_19 p19_1 rfl rfl rfl dX19_statement_50 (by assumption) ?_
    refine go_iload_n dX19_statement_53 rfl ?_
    refine go_bipush (v := nI 99) dX19_statement_54 (by decide) ?_
    refine go_icmp_ne (tgt := 74) dX19_statement_56 (by decide) (fun _ => ?_) (fun h0_ => absurd h0_ ((by decide)))
    refine go_iload_n dX19_statement_74 rfl ?_
    refine go_bipush (v := nI 119) dX19_statement_75 (by decide) ?_
    refine go_icmp_ne (tgt := 95) dX19_statement_77 (by decide) (fun _ => ?_) (fun h0_ => absurd h0_ ((by decide)))
    refine go_iload_n dX19_statement_95 rfl ?_
    refine go_bipush (v := nI 115) dX19_statement_96 (by decide) ?_
    refine go_icmp_ne (tgt := 109) dX19_statement_98 (by decide) (fun _ => ?_) (fun h0_ => absurd h0_ ((by decide)))
    refine go_aload_n dX19_statement_109 rfl ?_
    refine go_iload_n dX19_statement_110 rfl ?_
    refine go_callV vX19_68_19 (ct_ruleRead hR1 hk) dX19_statement_111 (by assumption) rfl rfl rfl rfl rfl (Nat.le_of_ble_eq_true rfl) (Nat.le_of_ble_eq_true rfl) (Nat.le_of_ble_eq_true rfl) (Nat.le_of_ble_eq_true rfl) (Nat.le_of_ble_eq_true rfl) (kr_T (fun t p2 q σ2 hr ht k1 k2 k3 k4 k5 => ?_)) (kt_T (fun e he o σ2 ht => ?_))
    · cases hd : rul_ lt ln (p + 1) with
      | inr e => rw [hd] at hr; cases hr
      | inl w =>
        obtain ⟨f, p9⟩ := w
        rw [hd] at hr
        cases hr
        obtain ⟨ty2, m2, mr2, n2⟩ := σ2
        refine stm_tail (n := n) (p2 := p2) (t := (2, f)) h0 hRn ?_ ht k1 (rul_le hd) k2 (fun a j ha hj => ⟨(k3 a j ha hj).1.trans (um_R hj), (k3 a j ha hj).2⟩) k4 k5 (Nat.le_of_ble_eq_true rfl) (Nat.le_of_ble_eq_true rfl)
        rw [hE, if_neg (by decide), if_pos rfl, hd]
        rfl
    · refine qT_err (e := e) ?_ ht.um
      cases hd : rul_ lt ln (p + 1) with
      | inl w => rw [hd] at he; cases he
      | inr e2 =>
        rw [hd] at he
        cases he
        rw [hE, if_neg (by decide), if_pos rfl, hd]
        rfl
  by_cases c3 : c = nI 119
  · subst c3
    have hE := hb0 3 rfl
    have hR1 := h01 3 rfl
    have hp1 := hpl 3 rfl
    have hm1 : ∀ a j, a < n → ¬ (a = R ∧ j = 1) → um_ mi R 1 (nI (p + 1)) a j = mi a j := fun a j _ hj => um_R hj
    refine go_iload_n dX19_statement_11 rfl ?_
    refine go_bipush (v := nI 99) dX19_statement_12 (by decide) ?_
    refine go_icmp_eq (tgt := 35) dX19_statement_14 (by decide) (fun h0_ => absurd h0_ ((by decide))) (fun _ => ?_)
    refine go_iload_n dX19_statement_17 rfl ?_
    refine go_bipush (v := nI 115) dX19_statement_18 (by decide) ?_
    refine go_icmp_eq (tgt := 35) dX19_statement_20 (by decide) (fun h0_ => absurd h0_ ((by decide))) (fun _ => ?_)
    refine go_iload_n dX19_statement_23 rfl ?_
    refine go_bipush (v := nI 114) dX19_statement_24 (by decide) ?_
    refine go_icmp_eq (tgt := 35) dX19_statement_26 (by decide) (fun h0_ => absurd h0_ ((by decide))) (fun _ => ?_)
    refine go_iload_n dX19_statement_29 rfl ?_
    refine go_bipush (v := nI 119) dX19_statement_30 (by decide) ?_
    refine go_icmp_ne (tgt := 39) dX19_statement_32 (by decide) (fun h0_ => absurd (rfl) h0_) (fun _ => ?_)
    refine go_iconst (v := nI 1) dX19_statement_35 (by decide) ?_
    refine go_goto (tgt := 40) dX19_statement_36 (by decide) ?_
    refine go_callV vX19_38_19 (ct_mustStand (c := true) h0) dX19_statement_40 (by assumption) rfl rfl rfl rfl rfl (Nat.le_of_ble_eq_true rfl) (Nat.le_of_ble_eq_true rfl) (Nat.le_of_ble_eq_true rfl) (Nat.le_of_ble_eq_true rfl) (Nat.le_of_ble_eq_true rfl) (kr_f (fun _ => ?_)) (kt_f (fun hc o σ2 ht => Bool.noConfusion hc))
    refine go_aload_n dX19_statement_43 rfl ?_
    refine go_dup dX19_statement_44 rfl ?_
    refine go_getI fX19_22_19 dX19_statement_45 (by assumption) rfl ?_
    rw [h3]
    refine go_iconst (v := nI 1) dX19_statement_48 (by decide) ?_
    refine go_iadd dX19_statement_49 ?_
    rw [nI_add]
    refine go_putI fX19_22_19 p19_1 rfl rfl rfl dX19_statement_50 (by assumption) ?_
    refine go_iload_n dX19_statement_53 rfl ?_
    refine go_bipush (v := nI 99) dX19_statement_54 (by decide) ?_
    refine go_icmp_ne (tgt := 74) dX19_statement_56 (by decide) (fun _ => ?_) (fun h0_ => absurd h0_ ((by decide)))
    refine go_iload_n dX19_statement_74 rfl ?_
    refine go_bipush (v := nI 119) dX19_statement_75 (by decide) ?_
    refine go_icmp_ne (tgt := 95) dX19_statement_77 (by decide) (fun h0_ => absurd (rfl) h0_) (fun _ => ?_)
    refine go_new (c := 23) rfl q552 q102 dX19_statement_80 (Nat.le_of_ble_eq_true rfl) (Nat.le_of_ble_eq_true rfl) ?_
    have hT : ∀ a, a < n → ut_ ty n (.inl 23) a = ty a := fun a h => ut_a (Nat.ne_of_lt h)
    have hTn : ut_ ty n (.inl 23) n = some (.inl 23) := ut_s
    have hTlt : ∀ a u, ut_ ty n (.inl 23) a = some u → a < n + 1 := fun a u h => by
      by_cases h2 : a = n
      · omega
      · rw [ut_a h2] at h
        have := (hl a u h).2
        omega
    generalize ut_ ty n (.inl 23) = ty2 at hT hTn hTlt ⊢
    have b1 : ty2 R = some (.inl 19) := (hT _ hRn).trans h1
    refine go_dup dX19_statement_83 rfl ?_
    refine go_iload_n dX19_statement_84 rfl ?_
    refine go_aload_n dX19_statement_85 rfl ?_
    refine go_callV vX19_55_19 (ct_number (hR1.ty hT hRn)) dX19_statement_86 (by assumption) rfl rfl rfl rfl rfl (Nat.le_of_ble_eq_true rfl) (Nat.le_of_ble_eq_true rfl) (Nat.le_of_ble_eq_true rfl) (Nat.le_of_ble_eq_true rfl) (Nat.le_of_ble_eq_true rfl) (kr_R (fun d p2 hd => ?_)) (kt_R (fun e he o σ2 ht => ?_))
    · have e2 := num_le hd
      rw [um_um]
      refine go_callI iX19_63 (ct_weekTold hTn) dX19_statement_89 rfl rfl rfl (Nat.le_of_ble_eq_true rfl) (Nat.le_of_ble_eq_true rfl) (Nat.le_of_ble_eq_true rfl) (Nat.le_of_ble_eq_true rfl) (Nat.le_of_ble_eq_true rfl) (kr_v ?_) kt_v
      refine go_goto (tgt := 114) dX19_statement_92 (by decide) ?_
      refine stm_tail (n := n) (p2 := p2) (t := (3, fd_ d 0 0 0 0 0)) h0 hRn ?_ ⟨(um_k (by decide)).trans um_s, Or.inr (Or.inl ⟨rfl, hTn, um_s, e2.2.2⟩)⟩ ?_ e2.2.1 hT (fun a j ha hj => ⟨?_, rfl⟩) (Nat.le_succ _) hTlt (Nat.le_of_ble_eq_true rfl) (Nat.le_of_ble_eq_true rfl)
      · rw [hE, if_neg (by decide), if_neg (by decide)]
        unfold nmb_
        rw [hd]
        rfl
      · exact (um_a (Nat.ne_of_lt hRn)).trans ((um_a (Nat.ne_of_lt hRn)).trans um_s)
      · exact (um_a (Nat.ne_of_lt ha)).trans ((um_a (Nat.ne_of_lt ha)).trans (um_R hj))
    · refine qT_err (e := e) ?_ (ht.tr hT (fun a j _ hj => ⟨um_R hj, rfl⟩) (Nat.le_succ _))
      rw [hE, if_neg (by decide), if_neg (by decide)]
      unfold nmb_
      rw [he]
      rfl
  have hno : bof_ c = none := by
    unfold bof_
    rw [if_neg c0, if_neg c1, if_neg c2, if_neg c3]
  refine go_iload_n dX19_statement_11 rfl ?_
  refine go_bipush (v := nI 99) dX19_statement_12 (by decide) ?_
  refine go_icmp_eq (tgt := 35) dX19_statement_14 (by decide) (fun h0_ => absurd h0_ (c0)) (fun _ => ?_)
  refine go_iload_n dX19_statement_17 rfl ?_
  refine go_bipush (v := nI 115) dX19_statement_18 (by decide) ?_
  refine go_icmp_eq (tgt := 35) dX19_statement_20 (by decide) (fun h0_ => absurd h0_ (c1)) (fun _ => ?_)
  refine go_iload_n dX19_statement_23 rfl ?_
  refine go_bipush (v := nI 114) dX19_statement_24 (by decide) ?_
  refine go_icmp_eq (tgt := 35) dX19_statement_26 (by decide) (fun h0_ => absurd h0_ (c2)) (fun _ => ?_)
  refine go_iload_n dX19_statement_29 rfl ?_
  refine go_bipush (v := nI 119) dX19_statement_30 (by decide) ?_
  refine go_icmp_ne (tgt := 39) dX19_statement_32 (by decide) (fun _ => ?_) (fun h0_ => absurd h0_ (c3))
  refine go_iconst (v := nI 0) dX19_statement_39 (by decide) ?_
  refine go_callV vX19_38_19 (ct_mustStand (c := false) h0) dX19_statement_40 (by assumption) rfl rfl rfl rfl rfl (Nat.le_of_ble_eq_true rfl) (Nat.le_of_ble_eq_true rfl) (Nat.le_of_ble_eq_true rfl) (Nat.le_of_ble_eq_true rfl) (Nat.le_of_ble_eq_true rfl) (kr_f (fun hc => Bool.noConfusion hc)) (kt_f (fun hc o σ2 ht => ?_))
  exact qT_err (nb hno) ht
end STM2
