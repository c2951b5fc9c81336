/-! LONGER SPANS; WEEKS BY SEEDS; THE ROW JUDGED -/
set_option maxRecDepth 100000
def lg2_ (v : tv_) : tv_ := fun j => if 40 ≤ j ∧ j < 40 + 3 * rN v ∧ (j - 40) % 3 = 1 then mn_ (nI 6) (v j + nI 1) else v j
theorem lg2_at {v : tv_} {r : Nat} (h : r < rN v) : lg2_ v (40 + 3 * r + 1) = mn_ (nI 6) (v (40 + 3 * r + 1) + nI 1) := by
  unfold lg2_
  rw [if_pos (by omega)]
theorem lg2_ne {v : tv_} {j : Nat} (hr : rN v ≤ 6) (h : j < 40 ∨ 58 ≤ j ∨ ¬ (j - 40) % 3 = 1) : lg2_ v j = v j := by
  unfold lg2_
  rw [if_neg (by omega)]
theorem mn_6 {s : Nat} (h : s ≤ 6) : mn_ (nI 6) (nI s + nI 1) = nI (if s + 1 ≤ 6 then s + 1 else 6) := by
  rw [nI_add]
  unfold mn_
  by_cases h2 : s + 1 ≤ 6
  · rw [if_pos h2]
    by_cases h3 : s + 1 = 6
    · rw [h3, if_neg (by decide)]
    · rw [if_pos (nI_lt (by omega) (by omega))]
  · rw [if_neg h2, if_neg (nI_nlt (by omega) (by omega))]
theorem lg2_wf {v : tv_} (hv : wf_ v) : wf_ (lg2_ v) := by
  obtain ⟨a1, a2, a3, a4, a5, a6, a7, a8, a9, a10⟩ := hv
  have e : ∀ {j : Nat}, (j < 40 ∨ 58 ≤ j ∨ ¬ (j - 40) % 3 = 1) → lg2_ v j = v j := fun h => lg2_ne a4 h
  have es : sN (lg2_ v) = sN v := sN_of (e (by decide))
  have er : rN (lg2_ v) = rN v := rN_of (e (by decide))
  have ew : wN (lg2_ v) = wN v := wN_of (e (by decide))
  refine ⟨by rw [es, e (by decide)]; exact a1, by rw [es]; exact a2, by rw [er, e (by decide)]; exact a3, by rw [er]; exact a4, by rw [ew, e (by decide)]; exact a5, by rw [ew]; exact a6, by rw [e (by decide)]; exact a7, ?_, ?_, ?_⟩
  · rw [es]
    exact fun s hs => so_ok_of (Nat.le_of_eq er.symm) (fun j g1 g2 => e (by omega)) (a8 s hs)
  · rw [er]
    intro r hr
    obtain ⟨b1, b2, b3, b4, b5⟩ := a9 r hr
    have ek : rk_ (lg2_ v) r = rk_ v r := by unfold rk_; rw [e (by omega)]
    have e3 : lg2_ v (40 + 3 * r + 1) = nI (if rs_ v r + 1 ≤ 6 then rs_ v r + 1 else 6) := by rw [lg2_at hr, b3, mn_6 b5]
    have e4 : rs_ (lg2_ v) r = if rs_ v r + 1 ≤ 6 then rs_ v r + 1 else 6 := by
      show (lg2_ v (40 + 3 * r + 1)).toNatClampNeg = _
      rw [e3, nI_cl]
      split <;> omega
    refine ⟨by rw [ek, e (by omega)]; exact b1, by rw [ek]; exact b2, by rw [e4]; exact e3, ?_, ?_⟩
    · rw [e4]; split <;> omega
    · rw [e4]; split <;> omega
  · rw [ew]
    intro k hk
    rw [e (by omega)]
    exact a10 k hk
theorem tr_sp {ty : ty_} {mi mi2 : mi_} {mr : mr_} {x t : Nat} {v w : tv_} (h : tr_ ty mi mr x t v) (hv : wf_ v) (hx : t + 8 ≤ x + 62) (hm : ∀ a j, a ≠ t + 3 → mi2 a j = mi a j) (hs : ∀ r, r < rN v → mi2 (t + 3) r = w (40 + 3 * r + 1)) (hw : ∀ j, (j < 40 ∨ 58 ≤ j ∨ ¬ (j - 40) % 3 = 1) → w j = v j) : tr_ ty mi2 mr x t w := by
  obtain ⟨b1, b2, b3, b4, b5, b6, bS, bR, bM⟩ := h
  have es : sN w = sN v := sN_of (hw _ (by decide))
  have er : rN w = rN v := rN_of (hw _ (by decide))
  refine ⟨by rw [hm _ _ (by omega), hw _ (by decide)]; exact b1, by rw [hm _ _ (by omega), hw _ (by decide)]; exact b2, by rw [hm _ _ (by omega), hw _ (by decide)]; exact b3, by rw [hm _ _ (by omega), hw _ (by decide)]; exact b4, by rw [hm _ _ (by omega), hw _ (by decide)]; exact b5, by rw [hm _ _ (by omega), hw _ (by decide)]; exact b6, ?_, ?_, ?_⟩
  · rw [es]
    intro s hs
    obtain ⟨q, q1, c1, c2, c3, c4, c5, c6, c7, c8⟩ := bS s hs
    have hs4 := hv.2.1
    have hs5 : 10 + 6 * s + 5 < 40 := by omega
    · have eq : ∀ j, mi2 q j = mi q j := fun j => hm q j (by omega)
      have ek : kd_ w s = kd_ v s := by unfold kd_; rw [hw _ (by omega)]
      exact ⟨q, q1, c1, by rw [ek]; exact c2, by rw [eq, hw _ (by omega)]; exact c3, by rw [eq, hw _ (by omega)]; exact c4, by rw [eq, hw _ (by omega)]; exact c5, by rw [eq, hw _ (by omega)]; exact c6, by rw [eq, hw _ (by omega)]; exact c7, c8⟩
  · rw [er]
    intro r hr
    obtain ⟨c1, c2, c3⟩ := bR r hr
    have ek : rk_ w r = rk_ v r := by unfold rk_; rw [hw _ (by omega)]
    exact ⟨by rw [ek]; exact c1, hs r hr, by rw [hm _ _ (by omega), hw _ (by omega)]; exact c3⟩
  · intro k hk
    rw [hm _ _ (by omega), hw _ (by omega)]
    exact bM k hk
theorem tr_me {ty : ty_} {mi mi2 : mi_} {mr : mr_} {x t : Nat} {v w : tv_} (h : tr_ ty mi mr x t v) (hv : wf_ v) (hx : t + 8 ≤ x + 62) (hm : ∀ a j, a ≠ t + 5 → mi2 a j = mi a j) (hs : ∀ k, k < 8 → mi2 (t + 5) k = w (60 + k)) (hw : ∀ j, j < 60 → w j = v j) : tr_ ty mi2 mr x t w := by
  obtain ⟨b1, b2, b3, b4, b5, b6, bS, bR, bM⟩ := h
  have es : sN w = sN v := sN_of (hw _ (by decide))
  have er : rN w = rN v := rN_of (hw _ (by decide))
  have h4 := hv.2.1
  have h6 := hv.2.2.2.1
  refine ⟨by rw [hm _ _ (by omega), hw _ (by decide)]; exact b1, by rw [hm _ _ (by omega), hw _ (by decide)]; exact b2, by rw [hm _ _ (by omega), hw _ (by decide)]; exact b3, by rw [hm _ _ (by omega), hw _ (by decide)]; exact b4, by rw [hm _ _ (by omega), hw _ (by decide)]; exact b5, by rw [hm _ _ (by omega), hw _ (by decide)]; exact b6, ?_, ?_, hs⟩
  · rw [es]
    intro s hs
    obtain ⟨q, q1, c1, c2, c3, c4, c5, c6, c7, c8⟩ := bS s hs
    have eq : ∀ j, mi2 q j = mi q j := fun j => hm q j (by omega)
    have ek : kd_ w s = kd_ v s := by unfold kd_; rw [hw _ (by omega)]
    exact ⟨q, q1, c1, by rw [ek]; exact c2, by rw [eq, hw _ (by omega)]; exact c3, by rw [eq, hw _ (by omega)]; exact c4, by rw [eq, hw _ (by omega)]; exact c5, by rw [eq, hw _ (by omega)]; exact c6, by rw [eq, hw _ (by omega)]; exact c7, c8⟩
  · rw [er]
    intro r hr
    obtain ⟨c1, c2, c3⟩ := bR r hr
    have ek : rk_ w r = rk_ v r := by unfold rk_; rw [hw _ (by omega)]
    exact ⟨by rw [ek]; exact c1, by rw [hm _ _ (by omega), hw _ (by omega)]; exact c2, by rw [hm _ _ (by omega), hw _ (by omega)]; exact c3⟩
theorem wf_me {v w : tv_} (hv : wf_ v) (hw : ∀ j, j < 60 → w j = v j) (hm : ∀ k, k < wN v → ∃ m, m ≤ 1000 ∧ w (60 + k) = nI m) : wf_ w := by
  obtain ⟨a1, a2, a3, a4, a5, a6, a7, a8, a9, a10⟩ := hv
  have es : sN w = sN v := sN_of (hw _ (by decide))
  have er : rN w = rN v := rN_of (hw _ (by decide))
  have ew : wN w = wN v := wN_of (hw _ (by decide))
  refine ⟨by rw [es, hw _ (by decide)]; exact a1, by rw [es]; exact a2, by rw [er, hw _ (by decide)]; exact a3, by rw [er]; exact a4, by rw [ew, hw _ (by decide)]; exact a5, by rw [ew]; exact a6, by rw [hw _ (by decide)]; exact a7, ?_, ?_, by rw [ew]; exact hm⟩
  · rw [es]
    exact fun s hs => so_ok_of (Nat.le_of_eq er.symm) (fun j g1 g2 => hw j (by omega)) (a8 s hs)
  · rw [er]
    exact fun r hr => ru_ok_of (hw _ (by omega)) (hw _ (by omega)) (a9 r hr)
/-- seeds -/
def zz_ (z : Int32) : Int32 := z * 1664525 + 1013904223
def zq_ (z : Int32) : Nat → Int32
  | 0 => z
  | i + 1 => zz_ (zq_ z i)
def zv_ (v : tv_) (z : Int32) : Int32 := (z &&& 2147483647) / nI 256 - (z &&& 2147483647) / nI 256 / (pe_ v + nI 1) * (pe_ v + nI 1)
def sd_ (v : tv_) (z : Int32) (K : Nat) : tv_ := fun j => if 60 ≤ j ∧ j < 60 + K then zv_ v (zq_ z (j - 60 + 1)) else v j
theorem sm_nat {f : Nat → Int32} {B : Nat} : ∀ {k : Nat}, (∀ s, s < k → ∃ m, m ≤ B ∧ f s = nI m) → ∃ m, m ≤ B * k ∧ sm_ f k = nI m
  | 0, _ => ⟨0, by omega, rfl⟩
  | k + 1, h => by
    obtain ⟨m, h1, h2⟩ := sm_nat (k := k) (fun s hs => h s (by omega))
    obtain ⟨m2, h3, h4⟩ := h k (by omega)
    refine ⟨m + m2, by rw [Nat.mul_succ]; omega, ?_⟩
    show sm_ f k + f k = _
    rw [h2, h4, nI_add]
theorem pe_nat {v : tv_} (hv : wf_ v) : ∃ m, m ≤ 36 ∧ pe_ v = nI m := by
  obtain ⟨m, h1, h2⟩ := sm_nat (f := fun s => v (10 + 6 * s)) (B := 9) (k := sN v) (fun s hs => by
    obtain ⟨m, h1, h2, h3⟩ := (hv.2.2.2.2.2.2.2.1 s hs).1
    exact ⟨m, h2, h3⟩)
  have := hv.2.1
  exact ⟨m, by omega, h2⟩
theorem zv_nat {v : tv_} (hv : wf_ v) (z : Int32) : ∃ m, m ≤ 1000 ∧ zv_ v z = nI m := by
  obtain ⟨p, h1, h2⟩ := pe_nat hv
  obtain ⟨j, h3, h4⟩ := pk_andE z (m := 2147483647) 31 (by decide)
  unfold zv_
  rw [h4, h2, pk_div (by omega) (by omega) (by omega), nI_add, pk_rem (by omega) (by omega) (by omega)]
  have : j / 256 % (p + 1) < p + 1 := Nat.mod_lt _ (by omega)
  exact ⟨_, by omega, rfl⟩
theorem pe_of {v w : tv_} (h : ∀ j, j < 60 → w j = v j) (hv : wf_ v) : pe_ w = pe_ v := by
  have h4 := hv.2.1
  have key : ∀ k, k ≤ 4 → sm_ (fun s => w (10 + 6 * s)) k = sm_ (fun s => v (10 + 6 * s)) k := by
    intro k
    induction k with
    | zero => intro _; rfl
    | succ k ih =>
      intro hk
      show sm_ _ k + w (10 + 6 * k) = sm_ _ k + v (10 + 6 * k)
      rw [ih (by omega), h _ (by omega)]
  unfold pe_
  rw [sN_of (h 0 (by decide)), key _ h4]
theorem sd_lo {v : tv_} {z : Int32} {K j : Nat} (h : j < 60) : sd_ v z K j = v j := by
  unfold sd_
  rw [if_neg (by omega)]
theorem sd_wf {v : tv_} (hv : wf_ v) (z : Int32) {K : Nat} : wf_ (sd_ v z K) := by
  refine wf_me hv (fun j h => sd_lo h) (fun k hk => ?_)
  unfold sd_
  by_cases h : k < K
  · rw [if_pos (by omega)]
    exact zv_nat hv _
  · rw [if_neg (by omega)]
    exact hv.2.2.2.2.2.2.2.2.2 k hk
/-- the row: where it first differs -/
def jr_ (v : tv_) (rw : Nat → Int32) : Nat → Nat → Int32
  | 0, _ => -9
  | i + 1, k => if pa_ v k = rw k then jr_ v rw i (k + 1) else nI k
theorem zq_add (z : Int32) (a : Nat) : ∀ c, zq_ (zq_ z a) c = zq_ z (a + c)
  | 0 => rfl
  | c + 1 => by
    show zz_ (zq_ (zq_ z a) c) = zz_ (zq_ z (a + c))
    rw [zq_add z a c]
section SEEDS
variable {l : Launch} {D : dd_} {b : Nat} {ty : ty_} {mi : mi_} {mr : mr_} {n x : Nat} {S : cS_}
theorem ct_swingOfLonger {k : Nat} (hc : ci_ ty mi mr n x S) (h1 : 1 ≤ k) (h60 : k ≤ 60) : CT_ l D b yX0_swingOfLonger hX0_swingOfLonger (rm_ 9 0 0) [.ref x, .int (nI k)] (ty, mi, mr, n) (qk_ (kq_ x n mi mr (mo_ (lg2_ S.1) (k - 1) - le_ (lg2_ S.1) (k - 1))) ty n) := by
  have a1 := hc.1.1
  have hv := hc.2.2.2.2.1
  have hn := hc.2.1
  have hr6 := hv.2.2.2.1
  refine ct_of [some (.ref x), some (.int (nI k)), none, none] (by decide) rfl rfl ?_
  refine go_aload_n dX0_swingOfLonger_0 rfl ?_
  refine go_callV vX0_142_0 (ct_openMind hc) dX0_swingOfLonger_1 (by assumption) rfl rfl rfl rfl rfl (Nat.le_of_ble_eq_true rfl) (Nat.le_of_ble_eq_true rfl) (Nat.le_of_ble_eq_true rfl) (Nat.le_of_ble_eq_true rfl) (Nat.le_of_ble_eq_true rfl) (kr_z (fun mi2 mr2 hp => ?_)) kt_z
  obtain ⟨p1, p2, p3⟩ := hp
  have a2 : ty (x + 23) = some (.inl 15) := p3.2.1.1
  have a3 : mr2 (x + 23) 5 = some (x + 26) := p3.2.1.2.2.2.1
  have a4 : ty (x + 26) = some (.inr (.int, 6)) := p3.2.1.2.2.2.2.2.2.2.2.2.2.1
  have hr3 : mi2 (x + 23) 3 = nI (rN S.1) := p3.1.2.2.1.trans hv.2.2.1
  refine go_astore_n (ls2 := [_, _, _, _]) dX0_swingOfLonger_4 rfl rfl ?_
  refine go_iconst (v := nI 0) dX0_swingOfLonger_5 (by decide) ?_
  refine go_istore_n (ls2 := [_, _, _, _]) dX0_swingOfLonger_6 rfl rfl ?_
  refine go_forI (α := mi_) (rN S.1) (fun r _ => [some (.ref x), some (.int (nI k)), some (.ref (x + 23)), some (.int (nI r))]) (fun r m => (ty, m, mr2, n)) (fun r m => (∀ a j, a ≠ x + 26 → m a j = mi2 a j) ∧ (∀ j, j < r → m (x + 26) j = lg2_ S.1 (40 + 3 * j + 1)) ∧ ∀ j, r ≤ j → m (x + 26) j = mi2 (x + 26) j) 0 mi2 (by omega) ⟨fun _ _ _ => rfl, fun j h => absurd h (Nat.not_lt_zero _), fun _ _ => rfl⟩ (fun r m _ hr hI ih => ?_) (fun m hI => ?_)
  · obtain ⟨q1, q2, q3⟩ := hI
    refine go_iload_n dX0_swingOfLonger_7 rfl ?_
    refine go_aload_n dX0_swingOfLonger_8 rfl ?_
    refine go_getI fX0_252_15 dX0_swingOfLonger_9 (by assumption) rfl ?_
    rw [q1 _ _ (by omega), hr3]
    refine go_icmp_ge (tgt := 40) dX0_swingOfLonger_12 (by decide) (fun h0_ => absurd h0_ (nI_ge (by omega) (by omega))) (fun _ => ?_)
    refine go_aload_n dX0_swingOfLonger_15 rfl ?_
    refine go_getR fX0_255_15 dX0_swingOfLonger_16 (by assumption) rfl (by assumption) ?_
    refine go_iload_n dX0_swingOfLonger_19 rfl ?_
    refine go_bipush (v := nI 6) dX0_swingOfLonger_20 (by decide) ?_
    refine go_aload_n dX0_swingOfLonger_22 rfl ?_
    refine go_getR fX0_255_15 dX0_swingOfLonger_23 (by assumption) rfl (by assumption) ?_
    refine go_iload_n dX0_swingOfLonger_26 rfl ?_
    refine go_iald dX0_swingOfLonger_27 (by assumption) ⟨rfl, by omega, by decide⟩ ?_
    rw [q3 r (by omega), (p3.1.2.2.2.2.2.2.2.1 r hr).2.1]
    refine go_iconst (v := nI 1) dX0_swingOfLonger_28 (by decide) ?_
    refine go_iadd dX0_swingOfLonger_29 ?_
    refine go_callS sX0_168 (ct_min) dX0_swingOfLonger_30 rfl rfl rfl (Nat.le_of_ble_eq_true rfl) (Nat.le_of_ble_eq_true rfl) (Nat.le_of_ble_eq_true rfl) (Nat.le_of_ble_eq_true rfl) (Nat.le_of_ble_eq_true rfl) (kr_i ?_) kt_i
    refine go_iast dX0_swingOfLonger_33 (by assumption) ⟨rfl, by omega, by decide⟩ ?_
    refine go_iinc (ls2 := [_, _, _, _]) dX0_swingOfLonger_34 rfl (nI_inc _) rfl rfl ?_
    refine go_goto (tgt := 7) dX0_swingOfLonger_37 (by decide) ?_
    refine ih _ ⟨fun a j h => (um_a h).trans (q1 a j h), fun j hj => ?_, fun j hj => (um_k (by omega)).trans (q3 j (by omega))⟩
    by_cases h : j = r
    · subst h
      rw [lg2_at hr]
      exact um_s
    · exact (um_k h).trans (q2 j (by omega))
  · obtain ⟨q1, q2, q3⟩ := hI
    refine go_iload_n dX0_swingOfLonger_7 rfl ?_
    refine go_aload_n dX0_swingOfLonger_8 rfl ?_
    refine go_getI fX0_252_15 dX0_swingOfLonger_9 (by assumption) rfl ?_
    rw [q1 _ _ (by omega), hr3]
    refine go_icmp_ge (tgt := 40) dX0_swingOfLonger_12 (by decide) (fun _ => ?_) (fun h0_ => absurd (nI_le (by omega) (by omega)) h0_)
    have f1 : tr_ ty m mr2 x (x + 23) (lg2_ S.1) := tr_sp p3.1 hv (by omega) q1 (fun r hr => q2 r hr) (fun j h => lg2_ne hr6 h)
    have f2 : sk_ x n mi m := fun a j h1 h2 => by
      rw [q1 a j (by unfold sc_ at h2; omega)]
      exact sk_mind p1 a j h1 h2
    refine go_aload_n dX0_swingOfLonger_40 rfl ?_
    refine go_aload_n dX0_swingOfLonger_41 rfl ?_
    refine go_iload_n dX0_swingOfLonger_42 rfl ?_
    refine go_callV vX0_258_0 (ct_look a1 hn ⟨f1, p3.2⟩ (lg2_wf hv) h60) dX0_swingOfLonger_43 (by assumption) rfl rfl rfl rfl rfl (Nat.le_of_ble_eq_true rfl) (Nat.le_of_ble_eq_true rfl) (Nat.le_of_ble_eq_true rfl) (Nat.le_of_ble_eq_true rfl) (Nat.le_of_ble_eq_true rfl) (kr_w (fun mi2 hp => ?_)) kt_w
    obtain ⟨g1, g2, g3, g4⟩ := hp
    refine go_aload_n dX0_swingOfLonger_46 rfl ?_
    refine go_getI fX0_156_0 dX0_swingOfLonger_47 (by assumption) rfl ?_
    rw [(g4 (by omega)).1]
    refine go_aload_n dX0_swingOfLonger_50 rfl ?_
    refine go_getI fX0_165_0 dX0_swingOfLonger_51 (by assumption) rfl ?_
    rw [(g4 (by omega)).2]
    refine go_isub dX0_swingOfLonger_54 ?_
    refine go_iret rfl dX0_swingOfLonger_55 (Nat.le_of_ble_eq_true rfl) (Nat.le_of_ble_eq_true rfl) ?_
    exact ⟨_, _, _, rfl, rfl, rfl, f2.tr g1, p2⟩
end SEEDS
