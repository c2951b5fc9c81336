/-! WEEKS, in numbers alone -/
theorem re_ne {v : tv_} {p : Int32} {j : Nat} (h : j ≠ 4) (h2 : j < 60 ∨ 68 ≤ j) : re_ v p j = v j := by
  unfold re_
  rw [if_neg h, if_neg (by omega), if_neg (by omega)]
theorem re_4 {v : tv_} {p : Int32} : re_ v p 4 = nI (if wN v < 8 then wN v + 1 else 8) := by unfold re_; rw [if_pos rfl]
theorem re_60 {v : tv_} {p : Int32} : re_ v p 60 = p := by unfold re_; rw [if_neg (by omega), if_pos rfl]
theorem re_61 {v : tv_} {p : Int32} {k : Nat} (h0 : 0 < k) (h : k < 8) : re_ v p (60 + k) = v (60 + (k - 1)) := by
  unfold re_
  rw [if_neg (by omega), if_neg (by omega), if_pos (by omega)]
  congr 1
  omega
theorem sN_of {v w : tv_} (h : w 0 = v 0) : sN w = sN v := by unfold sN; rw [h]
theorem rN_of {v w : tv_} (h : w 1 = v 1) : rN w = rN v := by unfold rN; rw [h]
theorem wN_of {v w : tv_} (h : w 4 = v 4) : wN w = wN v := by unfold wN; rw [h]
theorem nI_cl {m : Nat} (h : m < 2 ^ 31) : (nI m).toNatClampNeg = m := nI_clamp h
theorem re_sN {v : tv_} {p : Int32} : sN (re_ v p) = sN v := sN_of (re_ne (by decide) (by decide))
theorem re_rN {v : tv_} {p : Int32} : rN (re_ v p) = rN v := rN_of (re_ne (by decide) (by decide))
theorem re_wN {v : tv_} {p : Int32} (h : wN v ≤ 8) : wN (re_ v p) = if wN v < 8 then wN v + 1 else 8 := by
  unfold wN
  rw [re_4]
  exact nI_cl (by unfold wN at h; split <;> omega)
theorem so_ok_of {v w : tv_} {s : Nat} (hr : rN v ≤ rN w) (h : ∀ j, 10 + 6 * s ≤ j → j < 10 + 6 * s + 6 → w j = v j) (hv : so_ok v s) : so_ok w s := by
  have e0 := h (10 + 6 * s) (by omega) (by omega)
  have e1 := h (10 + 6 * s + 1) (by omega) (by omega)
  have e2 := h (10 + 6 * s + 2) (by omega) (by omega)
  have k1 : kd_ w s = kd_ v s := by unfold kd_; rw [e1]
  have k2 : fg_ w s = fg_ v s := by unfold fg_; rw [e2]
  obtain ⟨h1, h2, h3, h4, h5, h6⟩ := hv
  exact ⟨by rw [e0]; exact h1, by rw [e1, k1]; exact h2, by rw [k1]; exact h3, by rw [e2, k2]; exact h4, by rw [k2]; exact h5, by rw [k1, k2]; exact fun z => Nat.lt_of_lt_of_le (h6 z) hr⟩
theorem ru_ok_of {v w : tv_} {r : Nat} (h0 : w (40 + 3 * r) = v (40 + 3 * r)) (h1 : w (40 + 3 * r + 1) = v (40 + 3 * r + 1)) (hv : ru_ok v r) : ru_ok w r := by
  have k1 : rk_ w r = rk_ v r := by unfold rk_; rw [h0]
  have k2 : rs_ w r = rs_ v r := by unfold rs_; rw [h1]
  obtain ⟨a, b, c, d, e⟩ := hv
  exact ⟨by rw [h0, k1]; exact a, by rw [k1]; exact b, by rw [h1, k2]; exact c, by rw [k2]; exact d, by rw [k2]; exact e⟩
theorem re_wf {v : tv_} {p : Int32} {m : Nat} (hv : wf_ v) (hm : m ≤ 1000) (hp : p = nI m) : wf_ (re_ v p) := by
  obtain ⟨h1, h2, h3, h4, h5, h6, h7, h8, h9, h10⟩ := hv
  refine ⟨?_, ?_, ?_, ?_, ?_, ?_, ?_, ?_, ?_, ?_⟩
  · rw [re_sN, re_ne (by decide) (by decide)]; exact h1
  · rw [re_sN]; exact h2
  · rw [re_rN, re_ne (by decide) (by decide)]; exact h3
  · rw [re_rN]; exact h4
  · rw [re_wN h6, re_4]
  · rw [re_wN h6]; split <;> omega
  · rw [re_ne (by decide) (by decide)]; exact h7
  · rw [re_sN]
    intro s hs
    exact so_ok_of (by rw [re_rN]; exact Nat.le_refl _) (fun j h1 h2 => re_ne (by omega) (by omega)) (h8 s hs)
  · rw [re_rN]
    intro r hr
    exact ru_ok_of (re_ne (by omega) (by omega)) (re_ne (by omega) (by omega)) (h9 r hr)
  · rw [re_wN h6]
    intro k hk
    by_cases h0 : k = 0
    · subst h0
      exact ⟨m, hm, by rw [Nat.add_zero, re_60]; exact hp⟩
    · have hk8 : k < 8 := by
        split at hk <;> omega
      rw [re_61 (by omega) hk8]
      exact h10 (k - 1) (by split at hk <;> omega)
theorem ri_ne {v : tv_} {j : Nat} (h : j < 40 ∨ 58 ≤ j ∨ ¬ (j - 40) % 3 = 2) (hr : rN v ≤ 6) : ri_ v j = v j := by
  unfold ri_
  rw [if_neg (by omega)]
theorem ri_at {v : tv_} {r : Nat} (h : r < rN v) : ri_ v (40 + 3 * r + 2) = v (40 + 3 * r + 2) + (if ro_ v r = decide (pr_ v ≤ v 2) then nI 1 else nI 0) := by
  unfold ri_
  rw [if_pos (by omega), show (40 + 3 * r + 2 - 40) / 3 = r by omega]
theorem ri_wf {v : tv_} (hv : wf_ v) : wf_ (ri_ v) := by
  obtain ⟨h1, h2, h3, h4, h5, h6, h7, h8, h9, h10⟩ := hv
  have e : ∀ j, (j < 40 ∨ 58 ≤ j ∨ ¬ (j - 40) % 3 = 2) → ri_ v j = v j := fun j h => ri_ne h h4
  have es : sN (ri_ v) = sN v := sN_of (e 0 (by decide))
  have er : rN (ri_ v) = rN v := rN_of (e 1 (by decide))
  have ew : wN (ri_ v) = wN v := wN_of (e 4 (by decide))
  refine ⟨?_, ?_, ?_, ?_, ?_, ?_, ?_, ?_, ?_, ?_⟩
  · rw [es, e 0 (by decide)]; exact h1
  · rw [es]; exact h2
  · rw [er, e 1 (by decide)]; exact h3
  · rw [er]; exact h4
  · rw [ew, e 4 (by decide)]; exact h5
  · rw [ew]; exact h6
  · rw [e 2 (by decide)]; exact h7
  · rw [es]
    intro s hs
    exact so_ok_of (by rw [er]; exact Nat.le_refl _) (fun j h1 h2 => e j (by omega)) (h8 s hs)
  · rw [er]
    intro r hr
    exact ru_ok_of (e _ (by omega)) (e _ (by omega)) (h9 r hr)
  · rw [ew]
    intro k hk
    rw [e _ (by omega)]
    exact h10 k hk
theorem p1_nat {v : tv_} (hv : wf_ v) : ∀ s, s ≤ sN v → ∃ m, m ≤ 9 * s ∧ p1_ v s = nI m := by
  intro s
  induction s with
  | zero => intro _; exact ⟨0, by omega, rfl⟩
  | succ s ih =>
    intro hs
    obtain ⟨m, h1, h2⟩ := ih (by omega)
    obtain ⟨⟨k, k1, k2, k3⟩, -⟩ := hv.2.2.2.2.2.2.2.1 s (by omega)
    show ∃ m, m ≤ 9 * (s + 1) ∧ p1_ v s + (if gk_ v s = true then v (10 + 6 * s) else nI 0) = nI m
    by_cases h : gk_ v s = true
    · exact ⟨m + k, by omega, by rw [if_pos h, h2, k3, nI_add]⟩
    · exact ⟨m + 0, by omega, by rw [if_neg h, h2, nI_add]⟩
theorem p2_nat {v : tv_} (hv : wf_ v) : ∀ s, s ≤ sN v → ∃ m, m ≤ 36 + 9 * s ∧ p2_ v s = nI m := by
  intro s
  induction s with
  | zero =>
    intro _
    obtain ⟨m, h1, h2⟩ := p1_nat hv (sN v) (Nat.le_refl _)
    have := hv.2.1
    exact ⟨m, by omega, h2⟩
  | succ s ih =>
    intro hs
    obtain ⟨m, h1, h2⟩ := ih (by omega)
    obtain ⟨⟨k, k1, k2, k3⟩, -⟩ := hv.2.2.2.2.2.2.2.1 s (by omega)
    show ∃ m, m ≤ 36 + 9 * (s + 1) ∧ (if kd_ v s = 5 then p2_ v s + (if p2_ v s + v (10 + 6 * s) ≤ v 2 then v (10 + 6 * s) else nI 0) else p2_ v s) = nI m
    by_cases h : kd_ v s = 5
    · rw [if_pos h]
      by_cases h3 : p2_ v s + v (10 + 6 * s) ≤ v 2
      · exact ⟨m + k, by omega, by rw [if_pos h3, h2, k3, nI_add]⟩
      · exact ⟨m + 0, by omega, by rw [if_neg h3, h2, nI_add]⟩
    · exact ⟨m, by omega, by rw [if_neg h]; exact h2⟩
theorem pr_nat {v : tv_} (hv : wf_ v) : ∃ m, m ≤ 72 ∧ pr_ v = nI m := by
  obtain ⟨m, h1, h2⟩ := p2_nat hv (sN v) (Nat.le_refl _)
  have := hv.2.1
  exact ⟨m, by omega, h2⟩
theorem up3_wf {v w : tv_} (hv : wf_ v) (h : ∀ j, j ≠ 3 → w j = v j) : wf_ w := by
  obtain ⟨h1, h2, h3, h4, h5, h6, h7, h8, h9, h10⟩ := hv
  have es : sN w = sN v := sN_of (h 0 (by decide))
  have er : rN w = rN v := rN_of (h 1 (by decide))
  have ew : wN w = wN v := wN_of (h 4 (by decide))
  refine ⟨by rw [es, h 0 (by decide)]; exact h1, by rw [es]; exact h2, by rw [er, h 1 (by decide)]; exact h3, by rw [er]; exact h4, by rw [ew, h 4 (by decide)]; exact h5, by rw [ew]; exact h6, by rw [h 2 (by decide)]; exact h7, ?_, ?_, ?_⟩
  · rw [es]
    intro s hs
    exact so_ok_of (by rw [er]; exact Nat.le_refl _) (fun j h1 h2 => h j (by omega)) (h8 s hs)
  · rw [er]
    intro r hr
    exact ru_ok_of (h _ (by omega)) (h _ (by omega)) (h9 r hr)
  · rw [ew]
    intro k hk
    rw [h _ (by omega)]
    exact h10 k hk
theorem wk_wf {v : tv_} (hv : wf_ v) : wf_ (wk_ v) := by
  obtain ⟨m, h1, h2⟩ := pr_nat hv
  refine up3_wf (re_wf (ri_wf hv) (by omega : m ≤ 1000) h2) (fun j hj => ?_)
  unfold wk_
  rw [if_neg hj]
