/-! THE MODEL: who goes -/
set_option maxRecDepth 100000
theorem bo_e {p : Prop} [Decidable p] : (if ¬ p then nI 0 else nI 1) = bo_ (decide p) := by
  by_cases h : p
  · rw [if_neg (fun z => z h), decide_eq_true h]; rfl
  · rw [if_pos h, decide_eq_false h]; rfl
section PRESENT
variable {l : Launch} {D : dd_} {b : Nat} {ty : ty_} {mi : mi_} {mr : mr_} {n m : Nat} {v : tv_}
theorem cm_present (hh : mh_ ty mr m) (ht : mt_ mi m v) (hv : wf_ v) : CT_ l D b yX16_present hX16_present (rm_ 4 0 0) [.ref m] (ty, mi, mr, n) (qp_ (fun r mi2 => r = pr_ v ∧ (∀ a j, a ≠ m + 10 → mi2 a j = mi a j) ∧ ∀ s, s < sN v → mi2 (m + 10) s = bo_ (gf_ v s)) ty mr n) := by
  have hh0 := hh
  obtain ⟨a0, -, -, a1, a2, -, -, -, -, -, -, -, -, -, -, -, -, -, -, a14, a10, -⟩ := hh
  have h4 := hv.2.1
  have h6 := hv.2.2.2.1
  refine ct_of [some (.ref m), none, none, none] (by decide) rfl rfl ?_
  refine go_iconst (v := nI 0) dX16_present_0 (by decide) ?_
  refine go_istore_n (ls2 := [_, _, _, _]) dX16_present_1 rfl rfl ?_
  refine go_iconst (v := nI 0) dX16_present_2 (by decide) ?_
  refine go_istore_n (ls2 := [_, _, _, _]) dX16_present_3 rfl rfl ?_
  refine go_forI (α := mi_ × Option Value) (sN v) (fun s c => [some (.ref m), some (.int (p1_ v s)), some (.int (nI s)), c.2]) (fun s c => (ty, c.1, mr, n)) (fun s c => (∀ a j, a ≠ m + 10 → c.1 a j = mi a j) ∧ ∀ j, j < s → c.1 (m + 10) j = bo_ (gk_ v j)) 0 (mi, none) (by omega) ⟨fun _ _ _ => rfl, fun j h => absurd h (Nat.not_lt_zero _)⟩ (fun s c _ hs hI ih => ?_) (fun c hI => ?_)
  · obtain ⟨m1, o⟩ := c
    obtain ⟨i1, i2⟩ := hI
    dsimp only at i1 i2 ⊢
    have t1 : mt_ m1 m v := fun k hk => (i1 _ _ (by omega)).trans (ht k hk)
    have e0 : m1 (m + 2) 0 = nI (sN v) := (t1 0 (by omega)).trans hv.1
    obtain ⟨-, k1, k2, k3, k4, k5⟩ := hv.2.2.2.2.2.2.2.1 s hs
    refine go_iload_n dX16_present_4 rfl ?_
    refine go_aload_n dX16_present_5 rfl ?_
    refine go_getR fX16_11_16 dX16_present_6 (by assumption) rfl (by assumption) ?_
    refine go_iconst (v := nI 0) dX16_present_9 (by decide) ?_
    refine go_iald dX16_present_10 (by assumption) ⟨rfl, by omega, by decide⟩ ?_
    rw [e0]
    refine go_icmp_ge (tgt := 164) dX16_present_11 (by decide) (fun h0_ => absurd h0_ (nI_ge (by omega) (by omega))) (fun _ => ?_)
    refine go_aload_n dX16_present_14 rfl ?_
    refine go_iload_n dX16_present_15 rfl ?_
    refine go_iconst (v := nI 2) dX16_present_16 (by decide) ?_
    refine go_callV vX16_69_16 (cm_of (d := 0) (s := s) (w := 2) hh0 t1 (by omega) (by omega)) dX16_present_17 (by assumption) rfl rfl rfl rfl rfl (Nat.le_of_ble_eq_true rfl) (Nat.le_of_ble_eq_true rfl) (Nat.le_of_ble_eq_true rfl) (Nat.le_of_ble_eq_true rfl) (Nat.le_of_ble_eq_true rfl) (kr_i ?_) kt_i
    rw [k3]
    refine go_istore_n (ls2 := [_, _, _, _]) dX16_present_20 rfl rfl ?_
    refine go_aload_n dX16_present_21 rfl ?_
    refine go_iload_n dX16_present_22 rfl ?_
    refine go_iconst (v := nI 1) dX16_present_23 (by decide) ?_
    refine go_callV vX16_69_16 (cm_of (d := 0) (s := s) (w := 1) hh0 t1 (by omega) (by omega)) dX16_present_24 (by assumption) rfl rfl rfl rfl rfl (Nat.le_of_ble_eq_true rfl) (Nat.le_of_ble_eq_true rfl) (Nat.le_of_ble_eq_true rfl) (Nat.le_of_ble_eq_true rfl) (Nat.le_of_ble_eq_true rfl) (kr_i ?_) kt_i
    rw [k1]
    have tail : G_ l D b (RX16, "present", 4, some .int, rm_ 4 0 0, []) (qp_ (fun r mi2 => r = pr_ v ∧ (∀ a j, a ≠ m + 10 → mi2 a j = mi a j) ∧ ∀ s, s < sN v → mi2 (m + 10) s = bo_ (gf_ v s)) ty mr n) cX16_present 136 [some (.ref m), some (.int (p1_ v s)), some (.int (nI s)), some (.int (nI (fg_ v s)))] [] (ty, um_ m1 (m + 10) s (bo_ (gk_ v s)), mr, n) 0 0 := by
      have t2 : mt_ (um_ m1 (m + 10) s (bo_ (gk_ v s))) m v := fun k hk => (um_a (by omega)).trans (t1 k hk)
      have nx : (∀ a j, a ≠ m + 10 → um_ m1 (m + 10) s (bo_ (gk_ v s)) a j = mi a j) ∧ ∀ j, j < s + 1 → um_ m1 (m + 10) s (bo_ (gk_ v s)) (m + 10) j = bo_ (gk_ v j) := by
        refine ⟨fun a j h => (um_a h).trans (i1 a j h), fun j hj => ?_⟩
        by_cases h : j = s
        · subst h; exact um_s
        · exact (um_k h).trans (i2 j (by omega))
      refine go_iload_n dX16_present_136 rfl ?_
      refine go_aload_n dX16_present_137 rfl ?_
      refine go_getR fX16_50_16 dX16_present_138 (by assumption) rfl (by assumption) ?_
      refine go_iload_n dX16_present_141 rfl ?_
      refine go_zald dX16_present_142 (by assumption) ⟨rfl, by omega, by decide⟩ ?_
      rw [um_s]
      refine go_if_eq (tgt := 155) dX16_present_143 (by decide) (fun h => ?_) (fun h => ?_)
      · have h2 := bo_0.mp h
        refine go_iconst (v := nI 0) dX16_present_155 (by decide) ?_
        refine go_iadd dX16_present_156 ?_
        refine go_istore_n (ls2 := [_, _, _, _]) dX16_present_157 rfl rfl ?_
        refine go_iinc (ls2 := [_, _, _, _]) dX16_present_158 rfl (nI_inc _) rfl rfl ?_
        refine go_goto (tgt := 4) dX16_present_161 (by decide) ?_
        have e : p1_ v s + nI 0 = p1_ v (s + 1) := by
          show _ = p1_ v s + (if gk_ v s = true then v (10 + 6 * s) else nI 0)
          rw [if_neg (by rw [h2]; decide)]
        rw [e]
        exact ih (_, _) nx
      · have h2 := bo_ne h
        refine go_aload_n dX16_present_146 rfl ?_
        refine go_iload_n dX16_present_147 rfl ?_
        refine go_iconst (v := nI 0) dX16_present_148 (by decide) ?_
        refine go_callV vX16_69_16 (cm_of (d := 0) (s := s) (w := 0) hh0 t2 (by omega) (by omega)) dX16_present_149 (by assumption) rfl rfl rfl rfl rfl (Nat.le_of_ble_eq_true rfl) (Nat.le_of_ble_eq_true rfl) (Nat.le_of_ble_eq_true rfl) (Nat.le_of_ble_eq_true rfl) (Nat.le_of_ble_eq_true rfl) (kr_i ?_) kt_i
        refine go_goto (tgt := 156) dX16_present_152 (by decide) ?_
        refine go_iadd dX16_present_156 ?_
        refine go_istore_n (ls2 := [_, _, _, _]) dX16_present_157 rfl rfl ?_
        refine go_iinc (ls2 := [_, _, _, _]) dX16_present_158 rfl (nI_inc _) rfl rfl ?_
        refine go_goto (tgt := 4) dX16_present_161 (by decide) ?_
        have e : p1_ v s + v (10 + 6 * s + 0) = p1_ v (s + 1) := by
          show _ = p1_ v s + (if gk_ v s = true then v (10 + 6 * s) else nI 0)
          rw [if_pos h2]
          rfl
        rw [e]
        exact ih (_, _) nx
    have put : ∀ g : Bool, g = gk_ v s → um_ m1 (m + 10) s (vp_nar .boolean (bo_ g)) = um_ m1 (m + 10) s (bo_ (gk_ v s)) := fun g h => by rw [bo_nar, h]
    generalize hkd : kd_ v s = kk at k2 k5 ⊢
    match kk, k2, k5, hkd with
    | 0, _, _, hkd =>
      refine go_tableIn (off := 33) (tgt := 60) dX16_present_27 (by decide) (by decide) rfl (by decide) ?_
      refine go_aload_n dX16_present_60 rfl ?_
      refine go_getR fX16_50_16 dX16_present_61 (by assumption) rfl (by assumption) ?_
      refine go_iload_n dX16_present_64 rfl ?_
      refine go_iconst (v := nI 1) dX16_present_65 (by decide) ?_
      refine go_zast dX16_present_66 (by assumption) ⟨rfl, by omega, by decide⟩ ?_
      refine go_goto (tgt := 136) dX16_present_67 (by decide) ?_
      refine go_mi (put true (by unfold gk_; rw [hkd]; rfl)) ?_
      exact tail
    | 1, _, _, hkd =>
      refine go_tableIn (off := 102) (tgt := 129) dX16_present_27 (by decide) (by decide) rfl (by decide) ?_
      refine go_aload_n dX16_present_129 rfl ?_
      refine go_getR fX16_50_16 dX16_present_130 (by assumption) rfl (by assumption) ?_
      refine go_iload_n dX16_present_133 rfl ?_
      refine go_iconst (v := nI 0) dX16_present_134 (by decide) ?_
      refine go_zast dX16_present_135 (by assumption) ⟨rfl, by omega, by decide⟩ ?_
      refine go_mi (put false (by unfold gk_; rw [hkd]; rfl)) ?_
      exact tail
    | 2, _, k5, hkd =>
      refine go_tableIn (off := 43) (tgt := 70) dX16_present_27 (by decide) (by decide) rfl (by decide) ?_
      refine go_aload_n dX16_present_70 rfl ?_
      refine go_getR fX16_50_16 dX16_present_71 (by assumption) rfl (by assumption) ?_
      refine go_iload_n dX16_present_74 rfl ?_
      refine go_aload_n dX16_present_75 rfl ?_
      refine go_iload_n dX16_present_76 rfl ?_
      refine go_callV vX16_129_16 (cm_isRoom hh0 t1 hv (k5 (by omega))) dX16_present_77 (by assumption) rfl rfl rfl rfl rfl (Nat.le_of_ble_eq_true rfl) (Nat.le_of_ble_eq_true rfl) (Nat.le_of_ble_eq_true rfl) (Nat.le_of_ble_eq_true rfl) (Nat.le_of_ble_eq_true rfl) (kr_i ?_) kt_i
      refine go_zast dX16_present_80 (by assumption) ⟨rfl, by omega, by decide⟩ ?_
      refine go_goto (tgt := 136) dX16_present_81 (by decide) ?_
      refine go_mi (put (ro_ v (fg_ v s)) (by unfold gk_; rw [hkd]; rfl)) ?_
      exact tail
    | 3, _, k5, hkd =>
      have k6 := k5 (by omega)
      have k7 : hat_ v (fg_ v s) < rN v := by
        have hle : ∀ i, fg_ v s + i < rN v → ha_ v (fg_ v s) i < rN v := by
          intro i
          induction i with
          | zero => intro h; exact h
          | succ i ih =>
            intro h
            have := ih (by omega)
            unfold ha_
            split <;> omega
        exact hle _ (by omega)
      refine go_tableIn (off := 57) (tgt := 84) dX16_present_27 (by decide) (by decide) rfl (by decide) ?_
      refine go_aload_n dX16_present_84 rfl ?_
      refine go_getR fX16_50_16 dX16_present_85 (by assumption) rfl (by assumption) ?_
      refine go_iload_n dX16_present_88 rfl ?_
      refine go_aload_n dX16_present_89 rfl ?_
      refine go_aload_n dX16_present_90 rfl ?_
      refine go_iload_n dX16_present_91 rfl ?_
      refine go_callV vX16_133_16 (cm_hat hh0 t1 hv k6) dX16_present_92 (by assumption) rfl rfl rfl rfl rfl (Nat.le_of_ble_eq_true rfl) (Nat.le_of_ble_eq_true rfl) (Nat.le_of_ble_eq_true rfl) (Nat.le_of_ble_eq_true rfl) (Nat.le_of_ble_eq_true rfl) (kr_i ?_) kt_i
      refine go_callV vX16_129_16 (cm_isRoom hh0 t1 hv k7) dX16_present_95 (by assumption) rfl rfl rfl rfl rfl (Nat.le_of_ble_eq_true rfl) (Nat.le_of_ble_eq_true rfl) (Nat.le_of_ble_eq_true rfl) (Nat.le_of_ble_eq_true rfl) (Nat.le_of_ble_eq_true rfl) (kr_i ?_) kt_i
      refine go_zast dX16_present_98 (by assumption) ⟨rfl, by omega, by decide⟩ ?_
      refine go_goto (tgt := 136) dX16_present_99 (by decide) ?_
      refine go_mi (put (ro_ v (hat_ v (fg_ v s))) (by unfold gk_; rw [hkd]; rfl)) ?_
      exact tail
    | 4, _, _, hkd =>
      refine go_tableIn (off := 75) (tgt := 102) dX16_present_27 (by decide) (by decide) rfl (by decide) ?_
      refine go_aload_n dX16_present_102 rfl ?_
      refine go_getR fX16_50_16 dX16_present_103 (by assumption) rfl (by assumption) ?_
      refine go_iload_n dX16_present_106 rfl ?_
      refine go_aload_n dX16_present_107 rfl ?_
      refine go_getR fX16_11_16 dX16_present_108 (by assumption) rfl (by assumption) ?_
      refine go_iconst (v := nI 3) dX16_present_111 (by decide) ?_
      refine go_iald dX16_present_112 (by assumption) ⟨rfl, by omega, by decide⟩ ?_
      rw [t1 3 (by omega)]
      refine go_iload_n dX16_present_113 rfl ?_
      refine go_iconst (v := nI 1) dX16_present_114 (by decide) ?_
      refine go_iadd dX16_present_115 ?_
      refine go_irem dX16_present_116 (by rw [nI_add]; exact nI_ne0 (by omega) (by omega)) ?_
      refine go_tif_ne (m := nI 0) (n := nI 1) (t1 := 124) (t2 := 125) dX16_present_117 (by decide) dX16_present_120 (by decide) dX16_present_121 (by decide) dX16_present_124 (by decide) rfl ?_
      rw [bo_e]
      refine go_zast dX16_present_125 (by assumption) ⟨rfl, by omega, by decide⟩ ?_
      refine go_goto (tgt := 136) dX16_present_126 (by decide) ?_
      refine go_mi (put (decide (v 3 - v 3 / (nI (fg_ v s) + nI 1) * (nI (fg_ v s) + nI 1) = nI 0)) (by unfold gk_; rw [hkd]; rfl)) ?_
      exact tail
    | 5, _, _, hkd =>
      refine go_tableOut (tgt := 129) dX16_present_27 (by decide) (by decide) ?_
      refine go_aload_n dX16_present_129 rfl ?_
      refine go_getR fX16_50_16 dX16_present_130 (by assumption) rfl (by assumption) ?_
      refine go_iload_n dX16_present_133 rfl ?_
      refine go_iconst (v := nI 0) dX16_present_134 (by decide) ?_
      refine go_zast dX16_present_135 (by assumption) ⟨rfl, by omega, by decide⟩ ?_
      refine go_mi (put false (by unfold gk_; rw [hkd]; rfl)) ?_
      exact tail
    | k + 6, h, _, _ => exact absurd h (by omega)
  · obtain ⟨m1, o⟩ := c
    obtain ⟨i1, i2⟩ := hI
    dsimp only at i1 i2 ⊢
    have t1 : mt_ m1 m v := fun k hk => (i1 _ _ (by omega)).trans (ht k hk)
    have e0 : m1 (m + 2) 0 = nI (sN v) := (t1 0 (by omega)).trans hv.1
    refine go_iload_n dX16_present_4 rfl ?_
    refine go_aload_n dX16_present_5 rfl ?_
    refine go_getR fX16_11_16 dX16_present_6 (by assumption) rfl (by assumption) ?_
    refine go_iconst (v := nI 0) dX16_present_9 (by decide) ?_
    refine go_iald dX16_present_10 (by assumption) ⟨rfl, by omega, by decide⟩ ?_
    rw [e0]
    refine go_icmp_ge (tgt := 164) dX16_present_11 (by decide) (fun _ => ?_) (fun h0_ => absurd (nI_le (by omega) (by omega)) h0_)
    refine go_iconst (v := nI 0) dX16_present_164 (by decide) ?_
    refine go_istore_n (ls2 := [_, _, _, _]) dX16_present_165 rfl rfl ?_
    refine go_forI (α := mi_) (sN v) (fun s _ => [some (.ref m), some (.int (p2_ v s)), some (.int (nI s)), o]) (fun s c => (ty, c, mr, n)) (fun s c => (∀ a j, a ≠ m + 10 → c a j = mi a j) ∧ (∀ j, j < s → c (m + 10) j = bo_ (gf_ v j)) ∧ ∀ j, s ≤ j → j < sN v → c (m + 10) j = bo_ (gk_ v j)) 0 m1 (by omega) ⟨i1, fun j h => absurd h (Nat.not_lt_zero _), fun j _ h => i2 j h⟩ (fun s m2 _ hs hI ih => ?_) (fun m2 hI => ?_)
    · obtain ⟨j1, j2, j3⟩ := hI
      have t2 : mt_ m2 m v := fun k hk => (j1 _ _ (by omega)).trans (ht k hk)
      have e1 : m2 (m + 2) 0 = nI (sN v) := (t2 0 (by omega)).trans hv.1
      obtain ⟨-, k1, k2, -⟩ := hv.2.2.2.2.2.2.2.1 s hs
      refine go_iload_n dX16_present_166 rfl ?_
      refine go_aload_n dX16_present_167 rfl ?_
      refine go_getR fX16_11_16 dX16_present_168 (by assumption) rfl (by assumption) ?_
      refine go_iconst (v := nI 0) dX16_present_171 (by decide) ?_
      refine go_iald dX16_present_172 (by assumption) ⟨rfl, by omega, by decide⟩ ?_
      rw [e1]
      refine go_icmp_ge (tgt := 242) dX16_present_173 (by decide) (fun h0_ => absurd h0_ (nI_ge (by omega) (by omega))) (fun _ => ?_)
      refine go_aload_n dX16_present_176 rfl ?_
      refine go_iload_n dX16_present_177 rfl ?_
      refine go_iconst (v := nI 1) dX16_present_178 (by decide) ?_
      refine go_callV vX16_69_16 (cm_of (d := 0) (s := s) (w := 1) hh0 t2 (by omega) (by omega)) dX16_present_179 (by assumption) rfl rfl rfl rfl rfl (Nat.le_of_ble_eq_true rfl) (Nat.le_of_ble_eq_true rfl) (Nat.le_of_ble_eq_true rfl) (Nat.le_of_ble_eq_true rfl) (Nat.le_of_ble_eq_true rfl) (kr_i ?_) kt_i
      rw [k1]
      refine go_iconst (v := nI 5) dX16_present_182 (by decide) ?_
      refine go_icmp_ne (tgt := 236) dX16_present_183 (by decide) (fun h => ?_) (fun h => ?_)
      · have hk : ¬ kd_ v s = 5 := fun z => h (by rw [z])
        refine go_iinc (ls2 := [_, _, _, _]) dX16_present_236 rfl (nI_inc _) rfl rfl ?_
        refine go_goto (tgt := 166) dX16_present_239 (by decide) ?_
        have e : p2_ v s = p2_ v (s + 1) := by
          show _ = (if kd_ v s = 5 then _ else p2_ v s)
          rw [if_neg hk]
        rw [e]
        refine ih m2 ⟨j1, fun j hj => ?_, fun j h1 h2 => j3 j (by omega) h2⟩
        by_cases h2 : j = s
        · subst h2
          rw [j3 j (by omega) hs]
          unfold gf_
          rw [if_neg hk]
        · exact j2 j (by omega)
      · have hk : kd_ v s = 5 := (nI_eq (by omega) (by omega)).mp h
        have hgf : gf_ v s = decide (p2_ v s + v (10 + 6 * s) ≤ v 2) := by
          unfold gf_
          rw [if_pos hk]
        refine go_aload_n dX16_present_186 rfl ?_
        refine go_getR fX16_50_16 dX16_present_187 (by assumption) rfl (by assumption) ?_
        refine go_iload_n dX16_present_190 rfl ?_
        refine go_iload_n dX16_present_191 rfl ?_
        refine go_aload_n dX16_present_192 rfl ?_
        refine go_iload_n dX16_present_193 rfl ?_
        refine go_iconst (v := nI 0) dX16_present_194 (by decide) ?_
        refine go_callV vX16_69_16 (cm_of (d := 0) (s := s) (w := 0) hh0 t2 (by omega) (by omega)) dX16_present_195 (by assumption) rfl rfl rfl rfl rfl (Nat.le_of_ble_eq_true rfl) (Nat.le_of_ble_eq_true rfl) (Nat.le_of_ble_eq_true rfl) (Nat.le_of_ble_eq_true rfl) (Nat.le_of_ble_eq_true rfl) (kr_i ?_) kt_i
        refine go_iadd dX16_present_198 ?_
        refine go_aload_n dX16_present_199 rfl ?_
        refine go_getR fX16_11_16 dX16_present_200 (by assumption) rfl (by assumption) ?_
        refine go_iconst (v := nI 2) dX16_present_203 (by decide) ?_
        refine go_iald dX16_present_204 (by assumption) ⟨rfl, by omega, by decide⟩ ?_
        rw [t2 2 (by omega)]
        refine go_ticmp_gt (m := nI 0) (n := nI 1) (t1 := 212) (t2 := 213) dX16_present_205 (by decide) dX16_present_208 (by decide) dX16_present_209 (by decide) dX16_present_212 (by decide) rfl ?_
        rw [bo_le]
        refine go_zast dX16_present_213 (by assumption) ⟨rfl, by omega, by decide⟩ ?_
        refine go_mi (show um_ m2 (m + 10) s (vp_nar .boolean (bo_ (decide (p2_ v s + v (10 + 6 * s + 0) ≤ v 2)))) = um_ m2 (m + 10) s (bo_ (gf_ v s)) by rw [bo_nar, hgf]; rfl) ?_
        have t3 : mt_ (um_ m2 (m + 10) s (bo_ (gf_ v s))) m v := fun k hk => (um_a (by omega)).trans (t2 k hk)
        have nx : (∀ a j, a ≠ m + 10 → um_ m2 (m + 10) s (bo_ (gf_ v s)) a j = mi a j) ∧ (∀ j, j < s + 1 → um_ m2 (m + 10) s (bo_ (gf_ v s)) (m + 10) j = bo_ (gf_ v j)) ∧ ∀ j, s + 1 ≤ j → j < sN v → um_ m2 (m + 10) s (bo_ (gf_ v s)) (m + 10) j = bo_ (gk_ v j) := by
          refine ⟨fun a j h => (um_a h).trans (j1 a j h), fun j hj => ?_, fun j h1 h2 => (um_k (by omega)).trans (j3 j (by omega) h2)⟩
          by_cases h : j = s
          · subst h; exact um_s
          · exact (um_k h).trans (j2 j (by omega))
        have hp2 : p2_ v (s + 1) = p2_ v s + (if p2_ v s + v (10 + 6 * s) ≤ v 2 then v (10 + 6 * s) else nI 0) := by
          show (if kd_ v s = 5 then p2_ v s + (if p2_ v s + v (10 + 6 * s) ≤ v 2 then v (10 + 6 * s) else nI 0) else p2_ v s) = _
          rw [if_pos hk]
        refine go_iload_n dX16_present_214 rfl ?_
        refine go_aload_n dX16_present_215 rfl ?_
        refine go_getR fX16_50_16 dX16_present_216 (by assumption) rfl (by assumption) ?_
        refine go_iload_n dX16_present_219 rfl ?_
        refine go_zald dX16_present_220 (by assumption) ⟨rfl, by omega, by decide⟩ ?_
        rw [um_s]
        refine go_if_eq (tgt := 233) dX16_present_221 (by decide) (fun h3 => ?_) (fun h3 => ?_)
        · have h5 := bo_0.mp h3
          rw [hgf] at h5
          rw [if_neg (of_decide_eq_false h5)] at hp2
          refine go_iconst (v := nI 0) dX16_present_233 (by decide) ?_
          refine go_iadd dX16_present_234 ?_
          refine go_istore_n (ls2 := [_, _, _, _]) dX16_present_235 rfl rfl ?_
          refine go_iinc (ls2 := [_, _, _, _]) dX16_present_236 rfl (nI_inc _) rfl rfl ?_
          refine go_goto (tgt := 166) dX16_present_239 (by decide) ?_
          rw [← hp2]
          exact ih _ nx
        · have h5 := bo_ne h3
          rw [hgf] at h5
          rw [if_pos (of_decide_eq_true h5)] at hp2
          refine go_aload_n dX16_present_224 rfl ?_
          refine go_iload_n dX16_present_225 rfl ?_
          refine go_iconst (v := nI 0) dX16_present_226 (by decide) ?_
          refine go_callV vX16_69_16 (cm_of (d := 0) (s := s) (w := 0) hh0 t3 (by omega) (by omega)) dX16_present_227 (by assumption) rfl rfl rfl rfl rfl (Nat.le_of_ble_eq_true rfl) (Nat.le_of_ble_eq_true rfl) (Nat.le_of_ble_eq_true rfl) (Nat.le_of_ble_eq_true rfl) (Nat.le_of_ble_eq_true rfl) (kr_i ?_) kt_i
          refine go_goto (tgt := 234) dX16_present_230 (by decide) ?_
          refine go_iadd dX16_present_234 ?_
          refine go_istore_n (ls2 := [_, _, _, _]) dX16_present_235 rfl rfl ?_
          refine go_iinc (ls2 := [_, _, _, _]) dX16_present_236 rfl (nI_inc _) rfl rfl ?_
          refine go_goto (tgt := 166) dX16_present_239 (by decide) ?_
          have e : p2_ v s + v (10 + 6 * s + 0) = p2_ v (s + 1) := hp2.symm
          rw [e]
          exact ih _ nx
    · obtain ⟨j1, j2, j3⟩ := hI
      have t2 : mt_ m2 m v := fun k hk => (j1 _ _ (by omega)).trans (ht k hk)
      have e1 : m2 (m + 2) 0 = nI (sN v) := (t2 0 (by omega)).trans hv.1
      refine go_iload_n dX16_present_166 rfl ?_
      refine go_aload_n dX16_present_167 rfl ?_
      refine go_getR fX16_11_16 dX16_present_168 (by assumption) rfl (by assumption) ?_
      refine go_iconst (v := nI 0) dX16_present_171 (by decide) ?_
      refine go_iald dX16_present_172 (by assumption) ⟨rfl, by omega, by decide⟩ ?_
      rw [e1]
      refine go_icmp_ge (tgt := 242) dX16_present_173 (by decide) (fun _ => ?_) (fun h0_ => absurd (nI_le (by omega) (by omega)) h0_)
      refine go_iload_n dX16_present_242 rfl ?_
      refine go_iret rfl dX16_present_243 (Nat.le_of_ble_eq_true rfl) (Nat.le_of_ble_eq_true rfl) ?_
      exact ⟨_, _, rfl, rfl, rfl, j1, j2⟩
end PRESENT
