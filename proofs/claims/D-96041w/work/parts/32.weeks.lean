/-! WEEKS IN MIND -/
set_option maxRecDepth 100000
/-- the town k weeks on; how many were present in the week k -/
def wn_ (v : tv_) : Nat → tv_
  | 0 => v
  | k + 1 => wk_ (wn_ v k)
def pa_ (v : tv_) (k : Nat) : Int32 := pr_ (wn_ v k)
def lp_ (v : tv_) (k : Nat) : Int32 := if k = 0 then nI 0 else pa_ v (k - 1)
def gd_ (v : tv_) (k : Nat) : Int32 := if pa_ v k ≤ v 2 then nI 1 else nI 0
def mo_ (v : tv_) : Nat → Int32
  | 0 => pa_ v 0
  | k + 1 => mx_ (mo_ v k) (pa_ v (k + 1))
def le_ (v : tv_) : Nat → Int32
  | 0 => pa_ v 0
  | k + 1 => mn_ (le_ v k) (pa_ v (k + 1))
def ga_ (v : tv_) (s k : Nat) : Int32 := wo_ (wn_ v k) s (pa_ v k)
theorem wn_wf {v : tv_} (hv : wf_ v) : ∀ k, wf_ (wn_ v k)
  | 0 => hv
  | k + 1 => wk_wf (wn_wf hv k)
theorem wk_lo {v : tv_} (hv : wf_ v) {j : Nat} (h3 : j ≠ 3) (h4 : j ≠ 4) (h : j < 40) : wk_ v j = v j := by
  unfold wk_
  rw [if_neg h3, re_ne h4 (by omega), ri_ne (by omega) hv.2.2.2.1]
theorem wn_lo {v : tv_} (hv : wf_ v) {j : Nat} (h3 : j ≠ 3) (h4 : j ≠ 4) (h : j < 40) : ∀ k, wn_ v k j = v j
  | 0 => rfl
  | k + 1 => (wk_lo (wn_wf hv k) h3 h4 h).trans (wn_lo hv h3 h4 h k)
theorem wn_sN {v : tv_} (hv : wf_ v) (k : Nat) : sN (wn_ v k) = sN v := sN_of (wn_lo hv (by decide) (by decide) (by decide) k)
theorem md_.fr {ty : ty_} {mi mi2 : mi_} {mr : mr_} {x : Nat} {v : tv_} (h : md_ ty mi mr x v) (hm : ∀ a j, (x + 23 ≤ a ∧ a < x + 31) ∨ x + 62 ≤ a → mi2 a j = mi a j) : md_ ty mi2 mr x v :=
  ⟨tr_fr h.1 (fun _ _ _ h => h) (fun a j h1 _ => hm a j (by omega)) (fun _ _ _ _ => rfl) (by omega), h.2⟩
def kq_ (x n : Nat) (mi : mi_) (mr : mr_) (r0 : Int32) : Int32 → mi_ → mr_ → Prop := fun r mi2 mr2 => r = r0 ∧ sk_ x n mi mi2 ∧ sr_ x n mr mr2
section WEEKS
variable {l : Launch} {D : dd_} {b : Nat} {ty : ty_} {mi : mi_} {mr : mr_} {n x : Nat} {S : cS_}
theorem ct_afterWeeks {k : Nat} (hc : ci_ ty mi mr n x S) (h60 : k ≤ 60) : CT_ l D b yX0_afterWeeks hX0_afterWeeks (rm_ 8 0 0) [.ref x, .int (nI k)] (ty, mi, mr, n) (qk_ (kq_ x n mi mr (lp_ S.1 k)) ty n) := by
  have a1 := hc.1.1
  have hv := hc.2.2.2.2.1
  refine ct_of [some (.ref x), some (.int (nI k)), none, none, none] (by decide) rfl rfl ?_
  refine go_aload_n dX0_afterWeeks_0 rfl ?_
  refine go_callV vX0_142_0 (ct_openMind hc) dX0_afterWeeks_1 (by assumption) rfl rfl rfl rfl rfl (Nat.le_of_ble_eq_true rfl) (Nat.le_of_ble_eq_true rfl) (Nat.le_of_ble_eq_true rfl) (Nat.le_of_ble_eq_true rfl) (Nat.le_of_ble_eq_true rfl) (kr_z (fun mi2 mr2 hp => ?_)) kt_z
  obtain ⟨p1, p2, p3⟩ := hp
  have a2 : ty (x + 23) = some (.inl 15) := p3.2.1.1
  refine go_astore_n (ls2 := [_, _, _, _, _]) dX0_afterWeeks_4 rfl rfl ?_
  refine go_iconst (v := nI 0) dX0_afterWeeks_5 (by decide) ?_
  refine go_istore_n (ls2 := [_, _, _, _, _]) dX0_afterWeeks_6 rfl rfl ?_
  refine go_iconst (v := nI 0) dX0_afterWeeks_7 (by decide) ?_
  refine go_istore (ls2 := [_, _, _, _, _]) dX0_afterWeeks_8 rfl rfl ?_
  refine go_forI (α := mi_) k (fun s _ => [some (.ref x), some (.int (nI k)), some (.ref (x + 23)), some (.int (lp_ S.1 s)), some (.int (nI s))]) (fun s m => (ty, m, mr2, n)) (fun s m => md_ ty m mr2 x (wn_ S.1 s) ∧ fm_ mi m (x + 23) (x + 31)) 0 mi2 (by omega) ⟨p3, p1⟩ (fun s m _ hs hI ih => ?_) (fun m hI => ?_)
  · obtain ⟨q1, q2⟩ := hI
    refine go_iload dX0_afterWeeks_10 rfl ?_
    refine go_iload_n dX0_afterWeeks_12 rfl ?_
    refine go_icmp_ge (tgt := 27) dX0_afterWeeks_13 (by decide) (fun h0_ => absurd h0_ (nI_ge (by omega) (by omega))) (fun _ => ?_)
    refine go_aload_n dX0_afterWeeks_16 rfl ?_
    refine go_callV vX0_146_15 (ct_week q1.2.2.1 q1.2.1 q1.1 (wn_wf hv s) (by omega)) dX0_afterWeeks_17 (by assumption) rfl rfl rfl rfl rfl (Nat.le_of_ble_eq_true rfl) (Nat.le_of_ble_eq_true rfl) (Nat.le_of_ble_eq_true rfl) (Nat.le_of_ble_eq_true rfl) (Nat.le_of_ble_eq_true rfl) (kr_p (fun r mi2 hp => ?_)) kt_p
    obtain ⟨e1, e2, e3, -⟩ := hp
    subst e1
    refine go_istore_n (ls2 := [_, _, _, _, _]) dX0_afterWeeks_20 rfl rfl ?_
    refine go_iinc (ls2 := [_, _, _, _, _]) dX0_afterWeeks_21 rfl (nI_inc _) rfl rfl ?_
    refine go_goto (tgt := 10) dX0_afterWeeks_24 (by decide) ?_
    refine ih mi2 ⟨⟨e2, q1.2⟩, fun a j h => ?_⟩
    rw [e3 a j (by omega)]
    exact q2 a j h
  · refine go_iload dX0_afterWeeks_10 rfl ?_
    refine go_iload_n dX0_afterWeeks_12 rfl ?_
    refine go_icmp_ge (tgt := 27) dX0_afterWeeks_13 (by decide) (fun _ => ?_) (fun h0_ => absurd (nI_le (by omega) (by omega)) h0_)
    refine go_iload_n dX0_afterWeeks_27 rfl ?_
    refine go_iret rfl dX0_afterWeeks_28 (Nat.le_of_ble_eq_true rfl) (Nat.le_of_ble_eq_true rfl) ?_
    exact ⟨_, _, _, rfl, rfl, rfl, sk_mind hI.2, p2⟩
theorem ct_gainsOf {k s : Nat} {v : tv_} (a1 : ty x = some (.inl 0)) (hm : md_ ty mi mr x v) (hv : wf_ v) (hs : s < sN v) (h60 : k ≤ 60) : CT_ l D b yX0_gainsOf hX0_gainsOf (rm_ 8 0 0) [.ref x, .ref (x + 23), .int (nI s), .int (nI k)] (ty, mi, mr, n) (qp_ (fun r mi2 => r = sm_ (ga_ v s) k ∧ fm_ mi mi2 (x + 23) (x + 31)) ty mr n) := by
  have a2 : ty (x + 23) = some (.inl 15) := hm.2.1.1
  refine ct_of [some (.ref x), some (.ref (x + 23)), some (.int (nI s)), some (.int (nI k)), none, none, none] (by decide) rfl rfl ?_
  refine go_iconst (v := nI 0) dX0_gainsOf_0 (by decide) ?_
  refine go_istore (ls2 := [_, _, _, _, _, _, _]) dX0_gainsOf_1 rfl rfl ?_
  refine go_iconst (v := nI 0) dX0_gainsOf_3 (by decide) ?_
  refine go_istore (ls2 := [_, _, _, _, _, _, _]) dX0_gainsOf_4 rfl rfl ?_
  refine go_forI (α := mi_ × Option Value) k (fun i c => [some (.ref x), some (.ref (x + 23)), some (.int (nI s)), some (.int (nI k)), some (.int (sm_ (ga_ v s) i)), some (.int (nI i)), c.2]) (fun i c => (ty, c.1, mr, n)) (fun i c => md_ ty c.1 mr x (wn_ v i) ∧ fm_ mi c.1 (x + 23) (x + 31)) 0 (mi, none) (by omega) ⟨hm, fun _ _ _ => rfl⟩ (fun i c _ hi hI ih => ?_) (fun c hI => ?_)
  · obtain ⟨q1, q2⟩ := hI
    obtain ⟨m, o⟩ := c
    refine go_iload dX0_gainsOf_6 rfl ?_
    refine go_iload_n dX0_gainsOf_8 rfl ?_
    refine go_icmp_ge (tgt := 36) dX0_gainsOf_9 (by decide) (fun h0_ => absurd h0_ (nI_ge (by omega) (by omega))) (fun _ => ?_)
    refine go_aload_n dX0_gainsOf_12 rfl ?_
    refine go_callV vX0_146_15 (ct_week q1.2.2.1 q1.2.1 q1.1 (wn_wf hv i) (by omega)) dX0_gainsOf_13 (by assumption) rfl rfl rfl rfl rfl (Nat.le_of_ble_eq_true rfl) (Nat.le_of_ble_eq_true rfl) (Nat.le_of_ble_eq_true rfl) (Nat.le_of_ble_eq_true rfl) (Nat.le_of_ble_eq_true rfl) (kr_p (fun r mi2 hp => ?_)) kt_p
    obtain ⟨e1, e2, e3, e4⟩ := hp
    subst e1
    refine go_istore (ls2 := [_, _, _, _, _, _, _]) dX0_gainsOf_16 rfl rfl ?_
    refine go_iload dX0_gainsOf_18 rfl ?_
    refine go_aload_n dX0_gainsOf_20 rfl ?_
    refine go_iload_n dX0_gainsOf_21 rfl ?_
    refine go_iload dX0_gainsOf_22 rfl ?_
    have hsi : s < sN (wn_ v i) := by rw [wn_sN hv]; exact hs
    have hsi2 : s < sN (wk_ (wn_ v i)) := by rw [show wk_ (wn_ v i) = wn_ v (i + 1) from rfl, wn_sN hv]; exact hs
    refine go_callV vX0_174_15 (ct_worth (w := wn_ v i) q1.2.1 e2 (wk_wf (wn_wf hv i)) hsi2 (e4 s hsi) (fun j h1 h4 h2 => (wk_lo (wn_wf hv i) h1 h4 h2).symm) (wk_lo (wn_wf hv i) (by decide) (by decide) (by decide)).symm) dX0_gainsOf_24 (by assumption) rfl rfl rfl rfl rfl (Nat.le_of_ble_eq_true rfl) (Nat.le_of_ble_eq_true rfl) (Nat.le_of_ble_eq_true rfl) (Nat.le_of_ble_eq_true rfl) (Nat.le_of_ble_eq_true rfl) (kr_i ?_) kt_i
    refine go_iadd dX0_gainsOf_27 ?_
    refine go_istore (ls2 := [_, _, _, _, _, _, _]) dX0_gainsOf_28 rfl rfl ?_
    refine go_iinc (ls2 := [_, _, _, _, _, _, _]) dX0_gainsOf_30 rfl (nI_inc _) rfl rfl ?_
    refine go_goto (tgt := 6) dX0_gainsOf_33 (by decide) ?_
    exact ih (mi2, some (.int _)) ⟨⟨e2, q1.2⟩, fun a j h => (e3 a j (by omega)).trans (q2 a j h)⟩
  · obtain ⟨m, o⟩ := c
    refine go_iload dX0_gainsOf_6 rfl ?_
    refine go_iload_n dX0_gainsOf_8 rfl ?_
    refine go_icmp_ge (tgt := 36) dX0_gainsOf_9 (by decide) (fun _ => ?_) (fun h0_ => absurd (nI_le (by omega) (by omega)) h0_)
    refine go_iload dX0_gainsOf_36 rfl ?_
    refine go_iret rfl dX0_gainsOf_38 (Nat.le_of_ble_eq_true rfl) (Nat.le_of_ble_eq_true rfl) ?_
    exact ⟨_, _, rfl, rfl, rfl, hI.2⟩
def lkk_ (x n : Nat) (mi : mi_) (v : tv_) (k : Nat) : mi_ → Prop := fun m => sk_ x n mi m ∧ m x 11 = sm_ (pa_ v) k ∧ m x 14 = sm_ (gd_ v) k ∧ (0 < k → m x 12 = mo_ v (k - 1) ∧ m x 13 = le_ v (k - 1))
theorem ct_look {k : Nat} {v : tv_} (a1 : ty x = some (.inl 0)) (hn : x + 62 ≤ n) (hm : md_ ty mi mr x v) (hv : wf_ v) (h60 : k ≤ 60) : CT_ l D b yX0_look hX0_look (rm_ 8 0 0) [.ref x, .ref (x + 23), .int (nI k)] (ty, mi, mr, n) (qw_ (lkk_ x n mi v k) ty mr n) := by
  have a2 : ty (x + 23) = some (.inl 15) := hm.2.1.1
  have sx : ∀ {m : mi_} {j : Nat} {z : Int32}, 11 ≤ j → sk_ x n m (um_ m x j z) := by
    intro m j z hj a j2 h1 h2
    by_cases h3 : a = x
    · subst h3
      rw [um_k]
      intro h4
      apply h2
      unfold sc_
      omega
    · rw [um_a h3]
  refine ct_of [some (.ref x), some (.ref (x + 23)), some (.int (nI k)), none, none] (by decide) rfl rfl ?_
  refine go_aload_n dX0_look_0 rfl ?_
  refine go_iconst (v := nI 0) dX0_look_1 (by decide) ?_
  refine go_putI fX0_150_0 p0_11 rfl rfl rfl dX0_look_2 (by assumption) ?_
  refine go_aload_n dX0_look_5 rfl ?_
  refine go_iconst (v := nI 0) dX0_look_6 (by decide) ?_
  refine go_putI fX0_153_0 p0_14 rfl rfl rfl dX0_look_7 (by assumption) ?_
  refine go_iconst (v := nI 0) dX0_look_10 (by decide) ?_
  refine go_istore_n (ls2 := [_, _, _, _, _]) dX0_look_11 rfl rfl ?_
  refine go_forI (α := mi_ × Option Value) k (fun i c => [some (.ref x), some (.ref (x + 23)), some (.int (nI k)), some (.int (nI i)), c.2]) (fun i c => (ty, c.1, mr, n)) (fun i c => md_ ty c.1 mr x (wn_ v i) ∧ lkk_ x n mi v i c.1) 0 (um_ (um_ mi x 11 (nI 0)) x 14 (nI 0), none) (by omega) ⟨hm.fr (fun a j h => (um_a (by omega)).trans (um_a (by omega))), (sx (by decide)).tr (sx (by decide)), (um_k (by decide)).trans um_s, um_s, fun h => absurd h (by decide)⟩ (fun i c _ hi hI ih => ?_) (fun c hI => ?_)
  · obtain ⟨q1, q2, q3, q4, q5⟩ := hI
    obtain ⟨m, o⟩ := c
    dsimp only at q1 q2 q3 q4 q5
    refine go_iload_n dX0_look_12 rfl ?_
    refine go_iload_n dX0_look_13 rfl ?_
    refine go_icmp_ge (tgt := 107) dX0_look_14 (by decide) (fun h0_ => absurd h0_ (nI_ge (by omega) (by omega))) (fun _ => ?_)
    refine go_aload_n dX0_look_17 rfl ?_
    refine go_callV vX0_146_15 (ct_week q1.2.2.1 q1.2.1 q1.1 (wn_wf hv i) (by omega)) dX0_look_18 (by assumption) rfl rfl rfl rfl rfl (Nat.le_of_ble_eq_true rfl) (Nat.le_of_ble_eq_true rfl) (Nat.le_of_ble_eq_true rfl) (Nat.le_of_ble_eq_true rfl) (Nat.le_of_ble_eq_true rfl) (kr_p (fun r mi2 hp => ?_)) kt_p
    obtain ⟨e1, e2, e3, e4⟩ := hp
    subst e1
    have ex : ∀ j, mi2 x j = m x j := fun j => e3 x j (by omega)
    have f1 : mi2 x 11 = sm_ (pa_ v) i := (ex 11).trans q3
    have f2 : mi2 x 14 = sm_ (gd_ v) i := (ex 14).trans q4
    have f3 : mi2 (x + 23) 0 = v 2 := e2.1.trans (wn_lo hv (by decide) (by decide) (by decide) (i + 1))
    refine go_istore (ls2 := [_, _, _, _, _]) dX0_look_21 rfl rfl ?_
    refine go_aload_n dX0_look_23 rfl ?_
    refine go_dup dX0_look_24 rfl ?_
    refine go_getI fX0_150_0 dX0_look_25 (by assumption) rfl ?_
    rw [f1]
    refine go_iload dX0_look_28 rfl ?_
    refine go_iadd dX0_look_30 ?_
    refine go_putI fX0_150_0 p0_11 rfl rfl rfl dX0_look_31 (by assumption) ?_
    refine go_aload_n dX0_look_34 rfl ?_
    refine go_iload_n dX0_look_35 rfl ?_
    cases i with
    | zero =>
      refine go_if_ne (tgt := 44) dX0_look_36 (by decide) (fun h0_ => absurd (rfl) h0_) (fun _ => ?_)
      refine go_iload dX0_look_39 rfl ?_
      refine go_goto (tgt := 53) dX0_look_41 (by decide) ?_
      refine go_putI fX0_156_0 p0_12 rfl rfl rfl dX0_look_53 (by assumption) ?_
      refine go_aload_n dX0_look_56 rfl ?_
      refine go_iload_n dX0_look_57 rfl ?_
      refine go_if_ne (tgt := 66) dX0_look_58 (by decide) (fun h0_ => absurd (rfl) h0_) (fun _ => ?_)
      refine go_iload dX0_look_61 rfl ?_
      refine go_goto (tgt := 75) dX0_look_63 (by decide) ?_
      refine go_putI fX0_165_0 p0_13 rfl rfl rfl dX0_look_75 (by assumption) ?_
      refine go_aload_n dX0_look_78 rfl ?_
      refine go_dup dX0_look_79 rfl ?_
      refine go_getI fX0_153_0 dX0_look_80 (by assumption) rfl ?_
      rw [um_k (by decide), um_k (by decide), um_k (by decide), f2]
      refine go_iload dX0_look_83 rfl ?_
      refine go_aload_n dX0_look_85 rfl ?_
      refine go_getI fX0_171_15 dX0_look_86 (by assumption) rfl ?_
      rw [um_a (by omega), um_a (by omega), um_a (by omega), f3]
      refine go_ticmp_gt (m := nI 0) (n := nI 1) (t1 := 96) (t2 := 97) dX0_look_89 (by decide) dX0_look_92 (by decide) dX0_look_93 (by decide) dX0_look_96 (by decide) rfl ?_
      refine go_iadd dX0_look_97 ?_
      refine go_putI fX0_153_0 p0_14 rfl rfl rfl dX0_look_98 (by assumption) ?_
      refine go_iinc (ls2 := [_, _, _, _, _]) dX0_look_101 rfl (nI_inc _) rfl rfl ?_
      refine go_goto (tgt := 12) dX0_look_104 (by decide) ?_
      refine ih (_, some (.int _)) ⟨⟨tr_fr e2 (fun _ _ _ h => h) (fun a j h1 _ => ?_) (fun _ _ _ _ => rfl) (by omega), q1.2⟩, ((((q2.tr (sk_mind e3)).tr (sx (by decide))).tr (sx (by decide))).tr (sx (by decide))).tr (sx (by decide)), ?_, ?_, fun _ => ⟨?_, ?_⟩⟩
      · exact (um_a (by omega)).trans ((um_a (by omega)).trans ((um_a (by omega)).trans (um_a (by omega))))
      · exact (um_k (by decide)).trans ((um_k (by decide)).trans ((um_k (by decide)).trans um_s))
      · refine um_s.trans ?_
        show _ = sm_ (gd_ v) 0 + gd_ v 0
        unfold gd_
        congr 1
        by_cases h : v 2 < pr_ (wn_ v 0)
        · rw [if_pos h, if_neg (show ¬ pa_ v 0 ≤ v 2 by simpa [pa_] using h)]
        · rw [if_neg h, if_pos (show pa_ v 0 ≤ v 2 by simpa [pa_] using h)]
      · exact (um_k (by decide)).trans ((um_k (by decide)).trans um_s)
      · exact (um_k (by decide)).trans um_s
    | succ i =>
      have g1 := (q5 (by omega)).1
      have g2 := (q5 (by omega)).2
      refine go_if_ne (tgt := 44) dX0_look_36 (by decide) (fun _ => ?_) (fun h0_ => absurd h0_ (nI_ne0 (by omega) (by omega)))
      refine go_aload_n dX0_look_44 rfl ?_
      refine go_getI fX0_156_0 dX0_look_45 (by assumption) rfl ?_
      rw [um_k (by decide), ex, g1]
      refine go_iload dX0_look_48 rfl ?_
      refine go_callS sX0_159 (ct_max) dX0_look_50 rfl rfl rfl (Nat.le_of_ble_eq_true rfl) (Nat.le_of_ble_eq_true rfl) (Nat.le_of_ble_eq_true rfl) (Nat.le_of_ble_eq_true rfl) (Nat.le_of_ble_eq_true rfl) (kr_i ?_) kt_i
      refine go_putI fX0_156_0 p0_12 rfl rfl rfl dX0_look_53 (by assumption) ?_
      refine go_aload_n dX0_look_56 rfl ?_
      refine go_iload_n dX0_look_57 rfl ?_
      refine go_if_ne (tgt := 66) dX0_look_58 (by decide) (fun _ => ?_) (fun h0_ => absurd h0_ (nI_ne0 (by omega) (by omega)))
      refine go_aload_n dX0_look_66 rfl ?_
      refine go_getI fX0_165_0 dX0_look_67 (by assumption) rfl ?_
      rw [um_k (by decide), um_k (by decide), ex, g2]
      refine go_iload dX0_look_70 rfl ?_
      refine go_callS sX0_168 (ct_min) dX0_look_72 rfl rfl rfl (Nat.le_of_ble_eq_true rfl) (Nat.le_of_ble_eq_true rfl) (Nat.le_of_ble_eq_true rfl) (Nat.le_of_ble_eq_true rfl) (Nat.le_of_ble_eq_true rfl) (kr_i ?_) kt_i
      refine go_putI fX0_165_0 p0_13 rfl rfl rfl dX0_look_75 (by assumption) ?_
      refine go_aload_n dX0_look_78 rfl ?_
      refine go_dup dX0_look_79 rfl ?_
      refine go_getI fX0_153_0 dX0_look_80 (by assumption) rfl ?_
      rw [um_k (by decide), um_k (by decide), um_k (by decide), f2]
      refine go_iload dX0_look_83 rfl ?_
      refine go_aload_n dX0_look_85 rfl ?_
      refine go_getI fX0_171_15 dX0_look_86 (by assumption) rfl ?_
      rw [um_a (by omega), um_a (by omega), um_a (by omega), f3]
      refine go_ticmp_gt (m := nI 0) (n := nI 1) (t1 := 96) (t2 := 97) dX0_look_89 (by decide) dX0_look_92 (by decide) dX0_look_93 (by decide) dX0_look_96 (by decide) rfl ?_
      refine go_iadd dX0_look_97 ?_
      refine go_putI fX0_153_0 p0_14 rfl rfl rfl dX0_look_98 (by assumption) ?_
      refine go_iinc (ls2 := [_, _, _, _, _]) dX0_look_101 rfl (nI_inc _) rfl rfl ?_
      refine go_goto (tgt := 12) dX0_look_104 (by decide) ?_
      refine ih (_, some (.int _)) ⟨⟨tr_fr e2 (fun _ _ _ h => h) (fun a j h1 _ => ?_) (fun _ _ _ _ => rfl) (by omega), q1.2⟩, ((((q2.tr (sk_mind e3)).tr (sx (by decide))).tr (sx (by decide))).tr (sx (by decide))).tr (sx (by decide)), ?_, ?_, fun _ => ⟨?_, ?_⟩⟩
      · exact (um_a (by omega)).trans ((um_a (by omega)).trans ((um_a (by omega)).trans (um_a (by omega))))
      · exact (um_k (by decide)).trans ((um_k (by decide)).trans ((um_k (by decide)).trans um_s))
      · refine um_s.trans ?_
        show _ = sm_ (gd_ v) (i + 1) + gd_ v (i + 1)
        unfold gd_
        congr 1
        by_cases h : v 2 < pr_ (wn_ v (i + 1))
        · rw [if_pos h, if_neg (show ¬ pa_ v (i + 1) ≤ v 2 by simpa [pa_] using h)]
        · rw [if_neg h, if_pos (show pa_ v (i + 1) ≤ v 2 by simpa [pa_] using h)]
      · exact (um_k (by decide)).trans ((um_k (by decide)).trans um_s)
      · exact (um_k (by decide)).trans um_s
  · obtain ⟨m, o⟩ := c
    refine go_iload_n dX0_look_12 rfl ?_
    refine go_iload_n dX0_look_13 rfl ?_
    refine go_icmp_ge (tgt := 107) dX0_look_14 (by decide) (fun _ => ?_) (fun h0_ => absurd (nI_le (by omega) (by omega)) h0_)
    refine go_vret rfl dX0_look_107 (Nat.le_of_ble_eq_true rfl) (Nat.le_of_ble_eq_true rfl) ?_
    exact ⟨_, rfl, rfl, hI.2⟩
def aw_ (v : tv_) (i : Nat) : Nat → Bool
  | 0 => true
  | k + 1 => aw_ v i k && decide (pa_ v k = pa_ v (k + i))
def fa_ (v : tv_) : Nat → Int32
  | 0 => -9
  | i + 1 => if aw_ v (40 - i) 40 = true then nI (40 - i) else fa_ v i
theorem aw_le {v : tv_} {i : Nat} : ∀ {k j : Nat}, aw_ v i k = true → j < k → pa_ v j = pa_ v (j + i)
  | 0, _, _, h => absurd h (Nat.not_lt_zero _)
  | k + 1, j, h, h2 => by
    unfold aw_ at h
    rw [Bool.and_eq_true, decide_eq_true_eq] at h
    by_cases h3 : j = k
    · subst h3; exact h.2
    · exact aw_le h.1 (by omega)
theorem ct_againBehind (hc : ci_ ty mi mr n x S) : CT_ l D b yX0_againBehind hX0_againBehind (rm_ 8 0 0) [.ref x] (ty, mi, mr, n) (qk_ (kq_ x n mi mr (fa_ S.1 40)) ty n) := by
  have a1 := hc.1.1
  have hv := hc.2.2.2.2.1
  have hn := hc.2.1
  have t42 : ty (x + 42) = some (.inr (.int, 80)) := hc.1.2.2.2.2.2.2.2.2.2.2.2.2.2.2.2.2.2.2.2.2.2.1
  refine ct_of [some (.ref x), none, none, none] (by decide) rfl rfl ?_
  refine go_aload_n dX0_againBehind_0 rfl ?_
  refine go_callV vX0_142_0 (ct_openMind hc) dX0_againBehind_1 (by assumption) rfl rfl rfl rfl rfl (Nat.le_of_ble_eq_true rfl) (Nat.le_of_ble_eq_true rfl) (Nat.le_of_ble_eq_true rfl) (Nat.le_of_ble_eq_true rfl) (Nat.le_of_ble_eq_true rfl) (kr_z (fun mi2 mr2 hp => ?_)) kt_z
  obtain ⟨p1, p2, p3⟩ := hp
  have a2 : ty (x + 23) = some (.inl 15) := p3.2.1.1
  have r42 : mr2 x 15 = some (x + 42) := (p2 x 15 (by omega) (by omega) (by omega)).trans hc.1.2.2.2.2.2.2.2.2.2.2.2.2.2.2.2.2.2.2.2.2.1
  refine go_astore_n (ls2 := [_, _, _, _]) dX0_againBehind_4 rfl rfl ?_
  refine go_iconst (v := nI 0) dX0_againBehind_5 (by decide) ?_
  refine go_istore_n (ls2 := [_, _, _, _]) dX0_againBehind_6 rfl rfl ?_
  refine go_forI (α := mi_) 80 (fun s _ => [some (.ref x), some (.ref (x + 23)), some (.int (nI s)), none]) (fun s m => (ty, m, mr2, n)) (fun s m => md_ ty m mr2 x (wn_ S.1 s) ∧ sk_ x n mi m ∧ ∀ j, j < s → m (x + 42) j = pa_ S.1 j) 0 mi2 (by omega) ⟨p3, sk_mind p1, fun j h => absurd h (Nat.not_lt_zero _)⟩ (fun s m _ hs hI ih => ?_) (fun m hI => ?_)
  · obtain ⟨q1, q2, q3⟩ := hI
    refine go_iload_n dX0_againBehind_7 rfl ?_
    refine go_aload_n dX0_againBehind_8 rfl ?_
    refine go_getR fX0_95_0 dX0_againBehind_9 (by assumption) rfl (by assumption) ?_
    refine go_alen (v := nI _) dX0_againBehind_12 (by assumption) rfl ?_
    refine go_icmp_ge (tgt := 32) dX0_againBehind_13 (by decide) (fun h0_ => absurd h0_ (nI_ge (by omega) (by omega))) (fun _ => ?_)
    refine go_aload_n dX0_againBehind_16 rfl ?_
    refine go_getR fX0_95_0 dX0_againBehind_17 (by assumption) rfl (by assumption) ?_
    refine go_iload_n dX0_againBehind_20 rfl ?_
    refine go_aload_n dX0_againBehind_21 rfl ?_
    refine go_callV vX0_146_15 (ct_week q1.2.2.1 q1.2.1 q1.1 (wn_wf hv s) (by omega)) dX0_againBehind_22 (by assumption) rfl rfl rfl rfl rfl (Nat.le_of_ble_eq_true rfl) (Nat.le_of_ble_eq_true rfl) (Nat.le_of_ble_eq_true rfl) (Nat.le_of_ble_eq_true rfl) (Nat.le_of_ble_eq_true rfl) (kr_p (fun r mi2 hp => ?_)) kt_p
    obtain ⟨e1, e2, e3, -⟩ := hp
    subst e1
    refine go_iast dX0_againBehind_25 (by assumption) ⟨rfl, by omega, by decide⟩ ?_
    refine go_iinc (ls2 := [_, _, _, _]) dX0_againBehind_26 rfl (nI_inc _) rfl rfl ?_
    refine go_goto (tgt := 7) dX0_againBehind_29 (by decide) ?_
    refine ih _ ⟨⟨tr_fr e2 (fun _ _ _ h => h) (fun a j h1 _ => um_a (by omega)) (fun _ _ _ _ => rfl) (by omega), q1.2⟩, fun a j h1 h2 => ?_, fun j hj => ?_⟩
    · rw [um_a (by unfold sc_ at h2; omega), e3 a j (by unfold sc_ at h2; omega)]
      exact q2 a j h1 h2
    · by_cases h : j = s
      · subst h
        exact um_s
      · rw [um_k h, e3 _ _ (by omega)]
        exact q3 j (by omega)
  · obtain ⟨q1, q2, q3⟩ := hI
    refine go_iload_n dX0_againBehind_7 rfl ?_
    refine go_aload_n dX0_againBehind_8 rfl ?_
    refine go_getR fX0_95_0 dX0_againBehind_9 (by assumption) rfl (by assumption) ?_
    refine go_alen (v := nI _) dX0_againBehind_12 (by assumption) rfl ?_
    refine go_icmp_ge (tgt := 32) dX0_againBehind_13 (by decide) (fun _ => ?_) (fun h0_ => absurd (nI_le (by omega) (by omega)) h0_)
    refine go_iconst (v := nI 1) dX0_againBehind_32 (by decide) ?_
    refine go_istore_n (ls2 := [_, _, _, _]) dX0_againBehind_33 rfl rfl ?_
    refine go_forI (α := Option Value) 41 (fun i c => [some (.ref x), some (.ref (x + 23)), some (.int (nI i)), c]) (fun _ _ => (ty, m, mr2, n)) (fun i _ => fa_ S.1 (41 - i) = fa_ S.1 40) 1 none (by omega) rfl (fun i c hi1 hi hI ih => ?_) (fun c hI => ?_)
    · refine go_iload_n dX0_againBehind_34 rfl ?_
      refine go_bipush (v := nI 40) dX0_againBehind_35 (by decide) ?_
      refine go_icmp_gt (tgt := 85) dX0_againBehind_37 (by decide) (fun h0_ => absurd h0_ (nI_nlt (by omega) (by omega))) (fun _ => ?_)
      have hI2 : (if aw_ S.1 i 40 = true then nI i else fa_ S.1 (40 - i)) = fa_ S.1 40 := by
        have e1 : 41 - i = (40 - i) + 1 := by omega
        have e2 : 40 - (40 - i) = i := by omega
        rw [e1] at hI
        unfold fa_ at hI
        rw [e2] at hI
        exact hI
      refine go_iconst (v := nI 0) dX0_againBehind_40 (by decide) ?_
      refine go_istore_n (ls2 := [_, _, _, _]) dX0_againBehind_41 rfl rfl ?_
      refine go_forI (α := Unit) 40 (fun k _ => [some (.ref x), some (.ref (x + 23)), some (.int (nI i)), some (.int (nI k))]) (fun _ _ => (ty, m, mr2, n)) (fun k _ => aw_ S.1 i k = true) 0 () (by omega) rfl (fun k _ _ hk hK ihK => ?_) (fun _ hK => ?_)
      · refine go_iload_n dX0_againBehind_42 rfl ?_
        refine go_bipush (v := nI 40) dX0_againBehind_43 (by decide) ?_
        refine go_icmp_ge (tgt := 71) dX0_againBehind_45 (by decide) (fun h0_ => absurd h0_ (nI_ge (by omega) (by omega))) (fun _ => ?_)
        refine go_aload_n dX0_againBehind_48 rfl ?_
        refine go_getR fX0_95_0 dX0_againBehind_49 (by assumption) rfl (by assumption) ?_
        refine go_iload_n dX0_againBehind_52 rfl ?_
        refine go_iald dX0_againBehind_53 (by assumption) ⟨rfl, by omega, by decide⟩ ?_
        refine go_aload_n dX0_againBehind_54 rfl ?_
        refine go_getR fX0_95_0 dX0_againBehind_55 (by assumption) rfl (by assumption) ?_
        refine go_iload_n dX0_againBehind_58 rfl ?_
        refine go_iload_n dX0_againBehind_59 rfl ?_
        refine go_iadd dX0_againBehind_60 ?_
        refine go_iald dX0_againBehind_61 (by assumption) ⟨nI_add _ _, by omega, by decide⟩ ?_
        rw [q3 k (by omega), q3 (k + i) (by omega)]
        refine go_icmp_ne (tgt := 71) dX0_againBehind_62 (by decide) (fun h => ?_) (fun h => ?_)
        · refine go_iload_n dX0_againBehind_71 rfl ?_
          refine go_bipush (v := nI 40) dX0_againBehind_72 (by decide) ?_
          refine go_icmp_ne (tgt := 79) dX0_againBehind_74 (by decide) (fun _ => ?_) (fun h0_ => absurd h0_ ((fun z => absurd ((nI_eq (by omega) (by omega)).mp z) (by omega))))
          refine go_iinc (ls2 := [_, _, _, _]) dX0_againBehind_79 rfl (nI_inc _) rfl rfl ?_
          refine go_goto (tgt := 34) dX0_againBehind_82 (by decide) ?_
          refine ih _ ?_
          rw [if_neg] at hI2
          · rw [show 41 - (i + 1) = 40 - i by omega]
            exact hI2
          · exact fun z => h (aw_le z (by omega))
        · refine go_iinc (ls2 := [_, _, _, _]) dX0_againBehind_65 rfl (nI_inc _) rfl rfl ?_
          refine go_goto (tgt := 42) dX0_againBehind_68 (by decide) ?_
          refine ihK () ?_
          show (aw_ S.1 i k && decide (pa_ S.1 k = pa_ S.1 (k + i))) = true
          rw [hK, h]
          simp
      · refine go_iload_n dX0_againBehind_42 rfl ?_
        refine go_bipush (v := nI 40) dX0_againBehind_43 (by decide) ?_
        refine go_icmp_ge (tgt := 71) dX0_againBehind_45 (by decide) (fun _ => ?_) (fun h0_ => absurd (nI_le (by omega) (by omega)) h0_)
        refine go_iload_n dX0_againBehind_71 rfl ?_
        refine go_bipush (v := nI 40) dX0_againBehind_72 (by decide) ?_
        refine go_icmp_ne (tgt := 79) dX0_againBehind_74 (by decide) (fun h0_ => absurd (rfl) h0_) (fun _ => ?_)
        refine go_iload_n dX0_againBehind_77 rfl ?_
        refine go_iret rfl dX0_againBehind_78 (Nat.le_of_ble_eq_true rfl) (Nat.le_of_ble_eq_true rfl) ?_
        rw [if_pos hK] at hI2
        exact ⟨_, _, _, rfl, rfl, hI2, q2, p2⟩
    · refine go_iload_n dX0_againBehind_34 rfl ?_
      refine go_bipush (v := nI 40) dX0_againBehind_35 (by decide) ?_
      refine go_icmp_gt (tgt := 85) dX0_againBehind_37 (by decide) (fun _ => ?_) (fun h0_ => absurd (nI_lt (by omega) (by omega)) h0_)
      refine go_bipush (v := (-9)) dX0_againBehind_85 (by decide) ?_
      refine go_iret rfl dX0_againBehind_87 (Nat.le_of_ble_eq_true rfl) (Nat.le_of_ble_eq_true rfl) ?_
      exact ⟨_, _, _, rfl, rfl, hI, q2, p2⟩
end WEEKS
