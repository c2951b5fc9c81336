/-! PLANS: how many of each sort go -/
set_option maxRecDepth 100000
abbrev pln_ : Type := Nat → Nat
def my_ (v : tv_) (s : Nat) : Nat := (v (10 + 6 * s)).toNatClampNeg
def pu_ (p : pln_) (k z : Nat) : pln_ := fun s => if s = k then z else p s
def po_ (v : tv_) (p : pln_) : Int32 := sm_ (fun s => nI (p s)) (sN v)
def wp1_ (v : tv_) (p : pln_) (q : Int32) (s : Nat) : Int32 := nI (p s) * wg_ v s q + (v (10 + 6 * s) - nI (p s)) * v (10 + 6 * s + 5)
def wp_ (v : tv_) (p : pln_) (q : Int32) : Int32 := sm_ (wp1_ v p q) (sN v)
def dr1_ (v : tv_) (p : pln_) (q : Int32) (s : Nat) : Bool := (decide (p s = 0) || decide (v (10 + 6 * s + 5) ≤ wg_ v s q)) && (decide (p s = my_ v s) || decide (wg_ v s (q + nI 1) ≤ v (10 + 6 * s + 5)))
def dr_ (v : tv_) (p : pln_) (q : Int32) : Nat → Bool
  | 0 => true
  | s + 1 => dr_ v p q s && dr1_ v p q s
def nx_ (v : tv_) : Nat → pln_ → Option pln_
  | 0, _ => none
  | k + 1, p => if p k < my_ v k then some (pu_ p k (p k + 1)) else nx_ v k (pu_ p k 0)
/-- rests, the first one's present, their most worth; most worth of all plans, its present; the first rest; is it the first plan -/
abbrev pF_ : Type := Int32 × Int32 × Int32 × Int32 × Int32 × (Nat → Int32) × Bool
def ps1_ (F : pF_) (q w : Int32) : pF_ := if F.2.2.2.2.2.2 = true ∨ F.2.2.2.1 < w then (F.1, F.2.1, F.2.2.1, w, q, F.2.2.2.2.2.1, false) else (F.1, F.2.1, F.2.2.1, F.2.2.2.1, F.2.2.2.2.1, F.2.2.2.2.2.1, false)
def ps2_ (F : pF_) (p : pln_) (q w : Int32) : pF_ := if F.1 = 0 then (F.1 + nI 1, q, w, F.2.2.2.1, F.2.2.2.2.1, fun s => nI (p s), F.2.2.2.2.2.2) else (F.1 + nI 1, F.2.1, mx_ F.2.2.1 w, F.2.2.2.1, F.2.2.2.2.1, F.2.2.2.2.2.1, F.2.2.2.2.2.2)
def pst_ (v : tv_) (p : pln_) (F : pF_) : pF_ := if dr_ v p (po_ v p) (sN v) = true then ps2_ (ps1_ F (po_ v p) (wp_ v p (po_ v p))) p (po_ v p) (wp_ v p (po_ v p)) else ps1_ F (po_ v p) (wp_ v p (po_ v p))
def pgo_ (v : tv_) : Nat → pln_ → pF_ → pF_
  | 0, _, F => F
  | f + 1, p, F => match nx_ v (sN v) p with
    | none => pst_ v p F
    | some p2 => pgo_ v f p2 (pst_ v p F)
def pfin_ (v : tv_) : pF_ := pgo_ v 10000 (fun _ => 0) (nI 0, nI 0, nI 0, nI 0, nI 0, fun _ => nI 0, true)
theorem ps1_fi {F : pF_} {q w : Int32} : (ps1_ F q w).2.2.2.2.2.2 = false := by unfold ps1_; split <;> rfl
theorem ps1_rm {F : pF_} {q w : Int32} : (ps1_ F q w).1 = F.1 := by unfold ps1_; split <;> rfl
theorem ps2_fi {F : pF_} {p : pln_} {q w : Int32} : (ps2_ F p q w).2.2.2.2.2.2 = F.2.2.2.2.2.2 := by unfold ps2_; split <;> rfl
theorem pst_fi {v : tv_} {p : pln_} {F : pF_} : (pst_ v p F).2.2.2.2.2.2 = false := by
  unfold pst_
  split
  · rw [ps2_fi]; exact ps1_fi
  · exact ps1_fi
def vl_ (p : pln_) : Nat := p 0 * 1000 + p 1 * 100 + p 2 * 10 + p 3
theorem my_nI {v : tv_} (hv : wf_ v) {s : Nat} (hs : s < sN v) : v (10 + 6 * s) = nI (my_ v s) ∧ my_ v s ≤ 9 := by
  obtain ⟨m, h1, h2, h3⟩ := (hv.2.2.2.2.2.2.2.1 s hs).1
  have : my_ v s = m := by unfold my_; rw [h3, nI_cl (by omega)]
  rw [this]
  exact ⟨h3, h2⟩
theorem nx_9 {v : tv_} : ∀ {k : Nat} {p p2 : pln_}, (∀ s, s < k → my_ v s ≤ 9) → (∀ s, p s ≤ 9) → nx_ v k p = some p2 → ∀ s, p2 s ≤ 9
  | 0, _, _, _, _, h => by cases h
  | k + 1, p, p2, hm, hp, h => by
    unfold nx_ at h
    split at h
    · cases h
      intro s
      unfold pu_
      have := hm k (by omega)
      have := hp s
      split <;> omega
    · refine nx_9 (fun s hs => hm s (by omega)) (fun s => ?_) h
      unfold pu_
      have := hp s
      split <;> omega
theorem nx_v1 {v : tv_} {p p2 : pln_} (h : nx_ v 1 p = some p2) : vl_ p + 1000 ≤ vl_ p2 := by
  unfold nx_ at h
  split at h
  · cases h
    simp [vl_, pu_]
    omega
  · cases h
theorem nx_v2 {v : tv_} {p p2 : pln_} (hp : ∀ s, p s ≤ 9) (h : nx_ v 2 p = some p2) : vl_ p + 100 ≤ vl_ p2 := by
  unfold nx_ at h
  have := hp 1
  split at h
  · cases h
    simp [vl_, pu_]
    omega
  · have := nx_v1 h
    simp [vl_, pu_] at this
    simp [vl_]
    omega
theorem nx_v3 {v : tv_} {p p2 : pln_} (hp : ∀ s, p s ≤ 9) (h : nx_ v 3 p = some p2) : vl_ p + 10 ≤ vl_ p2 := by
  unfold nx_ at h
  have := hp 2
  split at h
  · cases h
    simp [vl_, pu_]
    omega
  · have := nx_v2 (fun s => by unfold pu_; have := hp s; split <;> omega) h
    simp [vl_, pu_] at this
    simp [vl_]
    omega
theorem nx_v4 {v : tv_} {p p2 : pln_} (hp : ∀ s, p s ≤ 9) (h : nx_ v 4 p = some p2) : vl_ p + 1 ≤ vl_ p2 := by
  unfold nx_ at h
  have := hp 3
  split at h
  · cases h
    simp [vl_, pu_]
    omega
  · have := nx_v3 (fun s => by unfold pu_; have := hp s; split <;> omega) h
    simp [vl_, pu_] at this
    simp [vl_]
    omega
theorem nx_vl {v : tv_} {k : Nat} {p p2 : pln_} (hk : k ≤ 4) (hp : ∀ s, p s ≤ 9) (h : nx_ v k p = some p2) : vl_ p < vl_ p2 := by
  match k, hk, h with
  | 0, _, h => cases h
  | 1, _, h => have := nx_v1 h; omega
  | 2, _, h => have := nx_v2 hp h; omega
  | 3, _, h => have := nx_v3 hp h; omega
  | 4, _, h => have := nx_v4 hp h; omega
theorem vl_lt {p : pln_} (hp : ∀ s, p s ≤ 9) : vl_ p < 10000 := by
  have := hp 0
  have := hp 1
  have := hp 2
  have := hp 3
  unfold vl_
  omega
theorem dr_no {v : tv_} {p : pln_} {q : Int32} : ∀ {k s : Nat}, s ≤ k → dr_ v p q s = false → dr_ v p q k = false
  | 0, s, h, h2 => by have : s = 0 := by omega
                      subst this; exact h2
  | k + 1, s, h, h2 => by
    by_cases h3 : s = k + 1
    · subst h3; exact h2
    · show (dr_ v p q k && dr1_ v p q k) = false
      rw [dr_no (k := k) (by omega) h2]
      rfl
theorem bo_tt : bo_ true = nI 1 := rfl
theorem bo_ff : bo_ false = nI 0 := rfl
/-- how the component holds a plan -/
def ph_ (m : mi_) (a : Nat) (p : pln_) : Prop := ∀ s, s < 4 → m a s = nI (p s)
section PLANS
variable {l : Launch} {D : dd_} {b : Nat} {ty : ty_} {mi : mi_} {mr : mr_} {n x t : Nat} {v w : tv_} {p : pln_}
/-- what is needed of the component's shape -/
def pc_ (ty : ty_) (mr : mr_) (x : Nat) : Prop := ty x = some (.inl 0) ∧ mr x 2 = some (x + 15) ∧ mr x 16 = some (x + 43) ∧ mr x 17 = some (x + 44) ∧ ty (x + 43) = some (.inr (.int, 4)) ∧ ty (x + 44) = some (.inr (.int, 4)) ∧ ts_ ty mr (x + 15)
theorem ct_presentOf (hc : pc_ ty mr x) (hr : tr_ ty mi mr x (x + 15) v) (hv : wf_ v) (hp : ph_ mi (x + 43) p) : CT_ l D b yX0_presentOf hX0_presentOf (rm_ 2 0 0) [.ref x] (ty, mi, mr, n) (qi_ (po_ v p) (ty, mi, mr, n)) := by
  obtain ⟨a1, a2, a3, a4, a5, a6, a7⟩ := hc
  have b1 := a7.1
  have hn : mi (x + 15) 1 = nI (sN v) := hr.2.1.trans hv.1
  have h4 := hv.2.1
  refine ct_of [some (.ref x), none, none] (by decide) rfl rfl ?_
  refine go_iconst (v := nI 0) dX0_presentOf_0 (by decide) ?_
  refine go_istore_n (ls2 := [_, _, _]) dX0_presentOf_1 rfl rfl ?_
  refine go_iconst (v := nI 0) dX0_presentOf_2 (by decide) ?_
  refine go_istore_n (ls2 := [_, _, _]) dX0_presentOf_3 rfl rfl ?_
  refine go_for (sN v) (fun s => [some (.ref x), some (.int (sm_ (fun s => nI (p s)) s)), some (.int (nI s))]) (fun s => (ty, mi, mr, n)) 0 (by omega) (fun s _ hs ih => ?_) ?_
  · refine go_iload_n dX0_presentOf_4 rfl ?_
    refine go_aload_n dX0_presentOf_5 rfl ?_
    refine go_getR fX0_73_0 dX0_presentOf_6 (by assumption) rfl (by assumption) ?_
    refine go_getI fX0_177_15 dX0_presentOf_9 (by assumption) rfl ?_
    rw [hn]
    refine go_icmp_ge (tgt := 30) dX0_presentOf_12 (by decide) (fun h0_ => absurd h0_ (nI_ge (by omega) (by omega))) (fun _ => ?_)
    refine go_iload_n dX0_presentOf_15 rfl ?_
    refine go_aload_n dX0_presentOf_16 rfl ?_
    refine go_getR fX0_98_0 dX0_presentOf_17 (by assumption) rfl (by assumption) ?_
    refine go_iload_n dX0_presentOf_20 rfl ?_
    refine go_iald dX0_presentOf_21 (by assumption) ⟨rfl, by omega, by decide⟩ ?_
    rw [hp s (by omega)]
    refine go_iadd dX0_presentOf_22 ?_
    refine go_istore_n (ls2 := [_, _, _]) dX0_presentOf_23 rfl rfl ?_
    refine go_iinc (ls2 := [_, _, _]) dX0_presentOf_24 rfl (nI_inc _) rfl rfl ?_
    refine go_goto (tgt := 4) dX0_presentOf_27 (by decide) ?_
    exact ih
  · refine go_iload_n dX0_presentOf_4 rfl ?_
    refine go_aload_n dX0_presentOf_5 rfl ?_
    refine go_getR fX0_73_0 dX0_presentOf_6 (by assumption) rfl (by assumption) ?_
    refine go_getI fX0_177_15 dX0_presentOf_9 (by assumption) rfl ?_
    rw [hn]
    refine go_icmp_ge (tgt := 30) dX0_presentOf_12 (by decide) (fun _ => ?_) (fun h0_ => absurd (nI_le (by omega) (by omega)) h0_)
    refine go_iload_n dX0_presentOf_30 rfl ?_
    refine go_iret rfl dX0_presentOf_31 (Nat.le_of_ble_eq_true rfl) (Nat.le_of_ble_eq_true rfl) ?_
    exact ⟨rfl, rfl⟩
theorem ct_worthOfPlan {q : Int32} (hc : pc_ ty mr x) (hts : ts_ ty mr t) (hr : tr_ ty mi mr x t w) (hv : wf_ w) (hp : ph_ mi (x + 43) p) : CT_ l D b yX0_worthOfPlan hX0_worthOfPlan (rm_ 2 0 0) [.ref x, .ref t, .int q] (ty, mi, mr, n) (qi_ (wp_ w p q) (ty, mi, mr, n)) := by
  obtain ⟨a1, a2, a3, a4, a5, a6, a7⟩ := hc
  have b1 := hts.1
  have b2 := hts.2.1
  have b3 := hts.2.2.2.2.2.2.2.2.1
  have hn : mi t 1 = nI (sN w) := hr.2.1.trans hv.1
  have h4 := hv.2.1
  refine ct_of [some (.ref x), some (.ref t), some (.int q), none, none, none] (by decide) rfl rfl ?_
  refine go_iconst (v := nI 0) dX0_worthOfPlan_0 (by decide) ?_
  refine go_istore_n (ls2 := [_, _, _, _, _, _]) dX0_worthOfPlan_1 rfl rfl ?_
  refine go_iconst (v := nI 0) dX0_worthOfPlan_2 (by decide) ?_
  refine go_istore (ls2 := [_, _, _, _, _, _]) dX0_worthOfPlan_3 rfl rfl ?_
  refine go_forI (α := Option Value) (sN w) (fun s c => [some (.ref x), some (.ref t), some (.int q), some (.int (sm_ (wp1_ w p q) s)), some (.int (nI s)), c]) (fun s _ => (ty, mi, mr, n)) (fun _ _ => True) 0 none (by omega) trivial (fun s c _ hs _ ih => ?_) (fun c _ => ?_)
  · obtain ⟨g, g1, g2⟩ := hr.2.2.2.2.2.2.1 s hs
    have g3 := g2.1
    refine go_iload dX0_worthOfPlan_5 rfl ?_
    refine go_aload_n dX0_worthOfPlan_7 rfl ?_
    refine go_getI fX0_177_15 dX0_worthOfPlan_8 (by assumption) rfl ?_
    rw [hn]
    refine go_icmp_ge (tgt := 67) dX0_worthOfPlan_11 (by decide) (fun h0_ => absurd h0_ (nI_ge (by omega) (by omega))) (fun _ => ?_)
    refine go_aload_n dX0_worthOfPlan_14 rfl ?_
    refine go_getR fX0_180_15 dX0_worthOfPlan_15 (by assumption) rfl (by assumption) ?_
    refine go_iload dX0_worthOfPlan_18 rfl ?_
    refine go_aald dX0_worthOfPlan_20 (by assumption) ⟨rfl, by omega, by decide⟩ (by assumption) ?_
    refine go_astore (ls2 := [_, _, _, _, _, _]) dX0_worthOfPlan_21 rfl rfl ?_
    refine go_iload_n dX0_worthOfPlan_23 rfl ?_
    refine go_aload_n dX0_worthOfPlan_24 rfl ?_
    refine go_getR fX0_98_0 dX0_worthOfPlan_25 (by assumption) rfl (by assumption) ?_
    refine go_iload dX0_worthOfPlan_28 rfl ?_
    refine go_iald dX0_worthOfPlan_30 (by assumption) ⟨rfl, by omega, by decide⟩ ?_
    rw [hp s (by omega)]
    refine go_aload_n dX0_worthOfPlan_31 rfl ?_
    refine go_aload dX0_worthOfPlan_32 rfl ?_
    refine go_iload_n dX0_worthOfPlan_34 rfl ?_
    refine go_callV vX0_192_15 (ct_wog hts hr g2) dX0_worthOfPlan_35 (by assumption) rfl rfl rfl rfl rfl (Nat.le_of_ble_eq_true rfl) (Nat.le_of_ble_eq_true rfl) (Nat.le_of_ble_eq_true rfl) (Nat.le_of_ble_eq_true rfl) (Nat.le_of_ble_eq_true rfl) (kr_i ?_) kt_i
    refine go_imul dX0_worthOfPlan_38 ?_
    refine go_aload dX0_worthOfPlan_39 rfl ?_
    refine go_getI fX0_184_25 dX0_worthOfPlan_41 (by assumption) rfl ?_
    refine go_aload_n dX0_worthOfPlan_44 rfl ?_
    refine go_getR fX0_98_0 dX0_worthOfPlan_45 (by assumption) rfl (by assumption) ?_
    refine go_iload dX0_worthOfPlan_48 rfl ?_
    refine go_iald dX0_worthOfPlan_50 (by assumption) ⟨rfl, by omega, by decide⟩ ?_
    rw [hp s (by omega), g2.2.2.1]
    refine go_isub dX0_worthOfPlan_51 ?_
    refine go_aload dX0_worthOfPlan_52 rfl ?_
    refine go_getI fX0_189_25 dX0_worthOfPlan_54 (by assumption) rfl ?_
    rw [g2.2.2.2.2.2.2.1]
    refine go_imul dX0_worthOfPlan_57 ?_
    refine go_iadd dX0_worthOfPlan_58 ?_
    refine go_iadd dX0_worthOfPlan_59 ?_
    refine go_istore_n (ls2 := [_, _, _, _, _, _]) dX0_worthOfPlan_60 rfl rfl ?_
    refine go_iinc (ls2 := [_, _, _, _, _, _]) dX0_worthOfPlan_61 rfl (nI_inc _) rfl rfl ?_
    refine go_goto (tgt := 5) dX0_worthOfPlan_64 (by decide) ?_
    exact ih _ trivial
  · refine go_iload dX0_worthOfPlan_5 rfl ?_
    refine go_aload_n dX0_worthOfPlan_7 rfl ?_
    refine go_getI fX0_177_15 dX0_worthOfPlan_8 (by assumption) rfl ?_
    rw [hn]
    refine go_icmp_ge (tgt := 67) dX0_worthOfPlan_11 (by decide) (fun _ => ?_) (fun h0_ => absurd (nI_le (by omega) (by omega)) h0_)
    refine go_iload_n dX0_worthOfPlan_67 rfl ?_
    refine go_iret rfl dX0_worthOfPlan_68 (Nat.le_of_ble_eq_true rfl) (Nat.le_of_ble_eq_true rfl) ?_
    exact ⟨rfl, rfl⟩
theorem ct_doesRest {q : Int32} (hc : pc_ ty mr x) (hts : ts_ ty mr t) (hr : tr_ ty mi mr x t w) (hv : wf_ w) (hp : ph_ mi (x + 43) p) (hp9 : ∀ s, p s ≤ 9) : CT_ l D b yX0_doesRest hX0_doesRest (rm_ 2 0 0) [.ref x, .ref t, .int q] (ty, mi, mr, n) (qi_ (bo_ (dr_ w p q (sN w))) (ty, mi, mr, n)) := by
  obtain ⟨a1, a2, a3, a4, a5, a6, a7⟩ := hc
  have b1 := hts.1
  have b2 := hts.2.1
  have b3 := hts.2.2.2.2.2.2.2.2.1
  have hn : mi t 1 = nI (sN w) := hr.2.1.trans hv.1
  have h4 := hv.2.1
  refine ct_of [some (.ref x), some (.ref t), some (.int q), none, none, none] (by decide) rfl rfl ?_
  refine go_iconst (v := nI 1) dX0_doesRest_0 (by decide) ?_
  refine go_istore_n (ls2 := [_, _, _, _, _, _]) dX0_doesRest_1 rfl rfl ?_
  refine go_iconst (v := nI 0) dX0_doesRest_2 (by decide) ?_
  refine go_istore (ls2 := [_, _, _, _, _, _]) dX0_doesRest_3 rfl rfl ?_
  refine go_forI (α := Option Value) (sN w) (fun s c => [some (.ref x), some (.ref t), some (.int q), some (.int (bo_ (dr_ w p q s))), some (.int (nI s)), c]) (fun s _ => (ty, mi, mr, n)) (fun _ _ => True) 0 none (by omega) trivial (fun s c _ hs _ ih => ?_) (fun c _ => ?_)
  · obtain ⟨g, g1, g2⟩ := hr.2.2.2.2.2.2.1 s hs
    have g3 := g2.1
    have gm := my_nI hv hs
    have gp := hp9 s
    refine go_iload dX0_doesRest_5 rfl ?_
    refine go_aload_n dX0_doesRest_7 rfl ?_
    refine go_getI fX0_177_15 dX0_doesRest_8 (by assumption) rfl ?_
    rw [hn]
    refine go_icmp_ge (tgt := 96) dX0_doesRest_11 (by decide) (fun h0_ => absurd h0_ (nI_ge (by omega) (by omega))) (fun _ => ?_)
    refine go_iload_n dX0_doesRest_14 rfl ?_
    refine go_if_eq (tgt := 96) dX0_doesRest_15 (by decide) (fun h => ?_) (fun h => ?_)
    · have h2 := bo_0.mp h
      refine go_iload_n dX0_doesRest_96 rfl ?_
      refine go_zret rfl (bo_nw _) dX0_doesRest_97 (Nat.le_of_ble_eq_true rfl) (Nat.le_of_ble_eq_true rfl) ?_
      rw [dr_no (Nat.le_of_lt hs) h2, ← h2]
      exact ⟨rfl, rfl⟩
    · have h2 : dr_ w p q s = true := by
        cases hd : dr_ w p q s with
        | true => rfl
        | false => exact absurd (bo_0.mpr hd) h
      have fin : ∀ (z : Bool), dr1_ w p q s = z → dr_ w p q (s + 1) = z := by
        intro z hz
        show (dr_ w p q s && dr1_ w p q s) = z
        rw [h2, hz]
        rfl
      have no : dr1_ w p q s = false → G_ l D b (yX0_doesRest.cls, yX0_doesRest.name, 6, some FieldType.boolean, rm_ 2 0 0, []) (qi_ (bo_ (dr_ w p q (sN w))) (ty, mi, mr, n)) cX0_doesRest 88 [some (.ref x), some (.ref t), some (.int q), some (.int (bo_ (dr_ w p q s))), some (.int (nI s)), some (.ref g)] [] (ty, mi, mr, n) 0 0 := by
        intro hz
        refine go_iconst (v := nI 0) dX0_doesRest_88 (by decide) ?_
        refine go_istore_n (ls2 := [_, _, _, _, _, _]) dX0_doesRest_89 rfl rfl ?_
        refine go_iinc (ls2 := [_, _, _, _, _, _]) dX0_doesRest_90 rfl (nI_inc _) rfl rfl ?_
        refine go_goto (tgt := 5) dX0_doesRest_93 (by decide) ?_
        have := ih (some (.ref g)) trivial
        rw [fin false hz] at this
        exact this
      have yes : dr1_ w p q s = true → G_ l D b (yX0_doesRest.cls, yX0_doesRest.name, 6, some FieldType.boolean, rm_ 2 0 0, []) (qi_ (bo_ (dr_ w p q (sN w))) (ty, mi, mr, n)) cX0_doesRest 84 [some (.ref x), some (.ref t), some (.int q), some (.int (bo_ (dr_ w p q s))), some (.int (nI s)), some (.ref g)] [] (ty, mi, mr, n) 0 0 := by
        intro hz
        refine go_iconst (v := nI 1) dX0_doesRest_84 (by decide) ?_
        refine go_goto (tgt := 89) dX0_doesRest_85 (by decide) ?_
        refine go_istore_n (ls2 := [_, _, _, _, _, _]) dX0_doesRest_89 rfl rfl ?_
        refine go_iinc (ls2 := [_, _, _, _, _, _]) dX0_doesRest_90 rfl (nI_inc _) rfl rfl ?_
        refine go_goto (tgt := 5) dX0_doesRest_93 (by decide) ?_
        have := ih (some (.ref g)) trivial
        rw [fin true hz] at this
        exact this
      have mid : (decide (p s = 0) || decide (w (10 + 6 * s + 5) ≤ wg_ w s q)) = true → G_ l D b (yX0_doesRest.cls, yX0_doesRest.name, 6, some FieldType.boolean, rm_ 2 0 0, []) (qi_ (bo_ (dr_ w p q (sN w))) (ty, mi, mr, n)) cX0_doesRest 52 [some (.ref x), some (.ref t), some (.int q), some (.int (bo_ (dr_ w p q s))), some (.int (nI s)), some (.ref g)] [] (ty, mi, mr, n) 0 0 := by
        intro hz
        refine go_aload_n dX0_doesRest_52 rfl ?_
        refine go_getR fX0_98_0 dX0_doesRest_53 (by assumption) rfl (by assumption) ?_
        refine go_iload dX0_doesRest_56 rfl ?_
        refine go_iald dX0_doesRest_58 (by assumption) ⟨rfl, by omega, by decide⟩ ?_
        refine go_aload dX0_doesRest_59 rfl ?_
        refine go_getI fX0_184_25 dX0_doesRest_61 (by assumption) rfl ?_
        rw [hp s (by omega), g2.2.2.1, gm.1]
        refine go_icmp_eq (tgt := 84) dX0_doesRest_64 (by decide) (fun h5 => ?_) (fun h5 => ?_)
        · refine yes ?_
          unfold dr1_
          rw [hz, (nI_eq (by omega) (by omega)).mp h5]
          simp
        · have h6 : ¬ p s = my_ w s := fun z => h5 (by rw [z])
          refine go_aload_n dX0_doesRest_67 rfl ?_
          refine go_aload dX0_doesRest_68 rfl ?_
          refine go_iload_n dX0_doesRest_70 rfl ?_
          refine go_iconst (v := nI 1) dX0_doesRest_71 (by decide) ?_
          refine go_iadd dX0_doesRest_72 ?_
          refine go_callV vX0_192_15 (ct_wog hts hr g2) dX0_doesRest_73 (by assumption) rfl rfl rfl rfl rfl (Nat.le_of_ble_eq_true rfl) (Nat.le_of_ble_eq_true rfl) (Nat.le_of_ble_eq_true rfl) (Nat.le_of_ble_eq_true rfl) (Nat.le_of_ble_eq_true rfl) (kr_i ?_) kt_i
          refine go_aload dX0_doesRest_76 rfl ?_
          refine go_getI fX0_189_25 dX0_doesRest_78 (by assumption) rfl ?_
          rw [g2.2.2.2.2.2.2.1]
          refine go_icmp_gt (tgt := 88) dX0_doesRest_81 (by decide) (fun h7 => ?_) (fun h7 => ?_)
          · refine no ?_
            unfold dr1_
            rw [hz, decide_eq_false h6, decide_eq_false (by simpa using h7)]
            rfl
          · refine yes ?_
            unfold dr1_
            rw [hz, decide_eq_true (show wg_ w s (q + nI 1) ≤ w (10 + 6 * s + 5) by simpa using h7)]
            simp
      refine go_aload_n dX0_doesRest_18 rfl ?_
      refine go_getR fX0_180_15 dX0_doesRest_19 (by assumption) rfl (by assumption) ?_
      refine go_iload dX0_doesRest_22 rfl ?_
      refine go_aald dX0_doesRest_24 (by assumption) ⟨rfl, by omega, by decide⟩ (by assumption) ?_
      refine go_astore (ls2 := [_, _, _, _, _, _]) dX0_doesRest_25 rfl rfl ?_
      refine go_aload_n dX0_doesRest_27 rfl ?_
      refine go_getR fX0_98_0 dX0_doesRest_28 (by assumption) rfl (by assumption) ?_
      refine go_iload dX0_doesRest_31 rfl ?_
      refine go_iald dX0_doesRest_33 (by assumption) ⟨rfl, by omega, by decide⟩ ?_
      rw [hp s (by omega)]
      refine go_if_eq (tgt := 52) dX0_doesRest_34 (by decide) (fun h3 => ?_) (fun h3 => ?_)
      · refine mid ?_
        rw [decide_eq_true ((nI_eq (a := p s) (b := 0) (by omega) (by omega)).mp h3)]
        rfl
      · have h6 : ¬ p s = 0 := fun z => h3 (by rw [z]; rfl)
        refine go_aload dX0_doesRest_37 rfl ?_
        refine go_getI fX0_189_25 dX0_doesRest_39 (by assumption) rfl ?_
        rw [g2.2.2.2.2.2.2.1]
        refine go_aload_n dX0_doesRest_42 rfl ?_
        refine go_aload dX0_doesRest_43 rfl ?_
        refine go_iload_n dX0_doesRest_45 rfl ?_
        refine go_callV vX0_192_15 (ct_wog hts hr g2) dX0_doesRest_46 (by assumption) rfl rfl rfl rfl rfl (Nat.le_of_ble_eq_true rfl) (Nat.le_of_ble_eq_true rfl) (Nat.le_of_ble_eq_true rfl) (Nat.le_of_ble_eq_true rfl) (Nat.le_of_ble_eq_true rfl) (kr_i ?_) kt_i
        refine go_icmp_gt (tgt := 88) dX0_doesRest_49 (by decide) (fun h7 => ?_) (fun h7 => ?_)
        · refine no ?_
          unfold dr1_
          rw [decide_eq_false h6, decide_eq_false (by simpa using h7)]
          rfl
        · refine mid ?_
          rw [decide_eq_true (show w (10 + 6 * s + 5) ≤ wg_ w s q by simpa using h7)]
          simp
  · refine go_iload dX0_doesRest_5 rfl ?_
    refine go_aload_n dX0_doesRest_7 rfl ?_
    refine go_getI fX0_177_15 dX0_doesRest_8 (by assumption) rfl ?_
    rw [hn]
    refine go_icmp_ge (tgt := 96) dX0_doesRest_11 (by decide) (fun _ => ?_) (fun h0_ => absurd (nI_le (by omega) (by omega)) h0_)
    refine go_iload_n dX0_doesRest_96 rfl ?_
    refine go_zret rfl (bo_nw _) dX0_doesRest_97 (Nat.le_of_ble_eq_true rfl) (Nat.le_of_ble_eq_true rfl) ?_
    exact ⟨rfl, rfl⟩
end PLANS
