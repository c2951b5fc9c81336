/-! WHICH RULE IS MOST OFTEN RIGHT -/
set_option maxRecDepth 100000
def lwq_ (f : Nat → Bool) : Nat → Int64
  | 0 => lN 0
  | k + 1 => lwq_ f k ||| (if f k = true then lN 1 <<< ((nI k).toInt64 &&& 63) else lN 0)
theorem sh1_ : ∀ K, K < 36 → (lN 1 <<< ((nI K).toInt64 &&& 63)).toBitVec = BitVec.twoPow 64 K := by decide +kernel
theorem sm64_ : ∀ K, K < 36 → ((nI K).toInt64 &&& 63).toBitVec.smod 64 = BitVec.ofNat 64 K := by decide +kernel
theorem lwq_b (f : Nat → Bool) : ∀ {K : Nat}, K ≤ 36 → ∀ j, (lwq_ f K).toBitVec.getLsbD j = (decide (j < K) && f j)
  | 0, _, j => by
    show (0#64).getLsbD j = _
    simp
  | K + 1, hK, j => by
    show (lwq_ f K ||| (if f K = true then lN 1 <<< ((nI K).toInt64 &&& 63) else lN 0)).toBitVec.getLsbD j = _
    rw [Int64.toBitVec_or, BitVec.getLsbD_or, lwq_b f (by omega) j]
    by_cases hf : f K = true
    · rw [if_pos hf, sh1_ K (by omega), BitVec.getLsbD_twoPow]
      by_cases h : j = K
      · subst h
        rw [hf]
        simp
        omega
      · have h2 : decide (j < K + 1) = decide (j < K) := by
          by_cases h3 : j < K
          · rw [decide_eq_true h3, decide_eq_true (by omega)]
          · rw [decide_eq_false h3, decide_eq_false (by omega)]
        have h3 : decide (K = j) = false := decide_eq_false (fun z => h z.symm)
        rw [h2, h3]
        simp
    · rw [if_neg hf]
      have h0 : (lN 0).toBitVec.getLsbD j = false := by
        show (0#64).getLsbD j = false
        simp
      rw [h0]
      by_cases h : j = K
      · subst h
        have : f j = false := by cases hj : f j with
          | true => exact absurd hj hf
          | false => rfl
        rw [this]
        simp
      · have h2 : decide (j < K + 1) = decide (j < K) := by
          by_cases h3 : j < K
          · rw [decide_eq_true h3, decide_eq_true (by omega)]
          · rw [decide_eq_false h3, decide_eq_false (by omega)]
        rw [h2]
        simp
theorem shb_ {X : Int64} {k : Nat} (hk : k < 36) : (X >>> ((nI k).toInt64 &&& 63)) &&& lN 1 = if X.toBitVec.getLsbD k = true then lN 1 else lN 0 := by
  apply Int64.toBitVec_inj.mp
  rw [Int64.toBitVec_and, Int64.toBitVec_shiftRight, sm64_ k hk]
  show X.toBitVec.sshiftRight (BitVec.ofNat 64 k).toNat &&& 1#64 = _
  rw [BitVec.and_one_eq_setWidth_ofBool_getLsbD, BitVec.toNat_ofNat, Nat.mod_eq_of_lt (by omega : k < 2 ^ 64), BitVec.getLsbD_sshiftRight]
  have e : (!decide (64 ≤ 0) && if k + 0 < 64 then X.toBitVec.getLsbD (k + 0) else X.toBitVec.msb) = X.toBitVec.getLsbD k := by
    rw [if_pos (by omega)]
    simp
  rw [e]
  cases X.toBitVec.getLsbD k <;> rfl
theorem lcb_ (p c : Bool) : (if ¬ lg_cmp (if p = true then lN 1 else lN 0) (bo_ c).toInt64 = 0 then nI 0 else nI 1) = if p = c then nI 1 else nI 0 := by
  cases p <;> cases c <;> decide
theorem lwq_c {f : Nat → Bool} {k : Nat} (hk : k < 36) (c : Bool) : (if ¬ lg_cmp ((lwq_ f 36 >>> ((nI k).toInt64 &&& 63)) &&& lN 1) (bo_ c).toInt64 = 0 then nI 0 else nI 1) = if f k = c then nI 1 else nI 0 := by
  rw [shb_ hk, lwq_b f (by omega) k, decide_eq_true hk, Bool.true_and]
  exact lcb_ (f k) c
/-- the rule k foretells room; how often it is right -/
def rf1_ (v : tv_) (i k : Nat) : Bool := decide (fo_ (wn_ v i) (k / 6) (k % 6 + 1) ≤ v 2)
def rb_ (v : tv_) (k i : Nat) : Int32 := if rf1_ v i k = decide (pa_ v i ≤ v 2) then nI 1 else nI 0
def bx_ (v : tv_) (i : Nat) : Nat → Nat
  | 0 => 0
  | k + 1 => if sm_ (rb_ v (bx_ v i k)) i < sm_ (rb_ v (k + 1)) i then k + 1 else bx_ v i k
theorem bx_le {v : tv_} {i : Nat} : ∀ k, bx_ v i k ≤ k
  | 0 => Nat.le_refl _
  | k + 1 => by
    have := bx_le (v := v) (i := i) k
    unfold bx_
    split <;> omega
theorem sk_45 {x n : Nat} {m : mi_} {j : Nat} {z : Int32} : sk_ x n m (um_ m (x + 45) j z) := fun a j2 h1 h2 => um_a (by unfold sc_ at h2; omega)
section RIGHT
variable {l : Launch} {D : dd_} {b : Nat} {ty : ty_} {mi : mi_} {mr : mr_} {n x : Nat} {S : cS_}
theorem go_fore {v : tv_} {m : mi_} {mr2 : mr_} {Q : Outcome → so_ → Prop} {ls : List (Option Value)} {k sp : Nat} {y0 : Int64} (hks : ks_ ty x) (hs : ts_ ty mr2 (x + 23)) (hr : tr_ ty m mr2 x (x + 23) v) (hv : wf_ v) (hk : k < 6) (h1 : 1 ≤ sp) (h6 : sp ≤ 6) (K : G_ l D b (RX0, "mostRight", 8, some .int, rm_ 8 0 0, []) Q cX0_mostRight 78 ls [.int (fo_ v k sp), .long y0] (ty, m, mr2, n) 0 0) : G_ l D b (RX0, "mostRight", 8, some .int, rm_ 8 0 0, []) Q cX0_mostRight 75 ls [.int (nI sp), .ref (x + 23), .ref (x + 2 + k), .long y0] (ty, m, mr2, n) 0 0 := by
  have hT := (hks k hk).1
  match k, hk, hT with
  | 0, _, hT =>
    refine go_callU uX0_249_2 (ct_fore0 hT hs hr hv h1 h6) dX0_mostRight_75 (by assumption) rfl rfl rfl rfl rfl (Nat.le_of_ble_eq_true rfl) (Nat.le_of_ble_eq_true rfl) (Nat.le_of_ble_eq_true rfl) (Nat.le_of_ble_eq_true rfl) (Nat.le_of_ble_eq_true rfl) (kr_i ?_) kt_i
    exact K
  | 1, _, hT =>
    refine go_callU uX0_249_3 (ct_fore1 hT hs hr hv h1 h6) dX0_mostRight_75 (by assumption) rfl rfl rfl rfl rfl (Nat.le_of_ble_eq_true rfl) (Nat.le_of_ble_eq_true rfl) (Nat.le_of_ble_eq_true rfl) (Nat.le_of_ble_eq_true rfl) (Nat.le_of_ble_eq_true rfl) (kr_i ?_) kt_i
    exact K
  | 2, _, hT =>
    refine go_callU uX0_249_4 (ct_mean (d := 1) hs hr hv h1 h6) dX0_mostRight_75 (by assumption) rfl rfl rfl rfl rfl (Nat.le_of_ble_eq_true rfl) (Nat.le_of_ble_eq_true rfl) (Nat.le_of_ble_eq_true rfl) (Nat.le_of_ble_eq_true rfl) (Nat.le_of_ble_eq_true rfl) (kr_i ?_) kt_i
    exact K
  | 3, _, hT =>
    refine go_callU uX0_249_5 (ct_fore3 hT hs hr hv h1 h6) dX0_mostRight_75 (by assumption) rfl rfl rfl rfl rfl (Nat.le_of_ble_eq_true rfl) (Nat.le_of_ble_eq_true rfl) (Nat.le_of_ble_eq_true rfl) (Nat.le_of_ble_eq_true rfl) (Nat.le_of_ble_eq_true rfl) (kr_i ?_) kt_i
    exact K
  | 4, _, hT =>
    refine go_callU uX0_249_6 (ct_fore4 hT hs hr hv h1 h6) dX0_mostRight_75 (by assumption) rfl rfl rfl rfl rfl (Nat.le_of_ble_eq_true rfl) (Nat.le_of_ble_eq_true rfl) (Nat.le_of_ble_eq_true rfl) (Nat.le_of_ble_eq_true rfl) (Nat.le_of_ble_eq_true rfl) (kr_i ?_) kt_i
    exact K
  | 5, _, hT =>
    refine go_callU uX0_249_7 (ct_fore5 (v := v) h1 h6) dX0_mostRight_75 (by assumption) rfl rfl rfl rfl rfl (Nat.le_of_ble_eq_true rfl) (Nat.le_of_ble_eq_true rfl) (Nat.le_of_ble_eq_true rfl) (Nat.le_of_ble_eq_true rfl) (Nat.le_of_ble_eq_true rfl) (kr_i ?_) kt_i
    exact K
  | k + 6, h, _ => exact absurd h (by omega)
theorem ct_mostRight {k : Nat} (hc : ci_ ty mi mr n x S) (h60 : k ≤ 60) : CT_ l D b yX0_mostRight hX0_mostRight (rm_ 8 0 0) [.ref x, .int (nI k)] (ty, mi, mr, n) (qk_ (kq_ x n mi mr (nI (10 * (bx_ S.1 k 35 / 6) + bx_ S.1 k 35 % 6 + 1))) ty n) := by
  have a1 := hc.1.1
  have hv := hc.2.2.2.2.1
  have hn := hc.2.1
  have c0 := hc.1
  obtain ⟨c1, c2, c3, c4, c5, c6, c7, c8, c9, c10, c11, c12, c13, c14, c15, c16, c17, c18, c19, c20, c21, c22, c23, c24, c25, c26, c27, c28⟩ := c0
  refine ct_of [some (.ref x), some (.int (nI k)), none, none, none, none, none, none] (by decide) rfl rfl ?_
  refine go_iconst (v := nI 0) dX0_mostRight_0 (by decide) ?_
  refine go_istore_n (ls2 := [_, _, _, _, _, _, _, _]) dX0_mostRight_1 rfl rfl ?_
  refine go_forI (α := mi_) 36 (fun s _ => [some (.ref x), some (.int (nI k)), some (.int (nI s)), none, none, none, none, none]) (fun s m => (ty, m, mr, n)) (fun s m => sk_ x n mi m ∧ ∀ j, j < s → m (x + 45) j = nI 0) 0 mi (by omega) ⟨sk_.rf, fun j h => absurd h (Nat.not_lt_zero _)⟩ (fun s m _ hs hI ih => ?_) (fun m0 hI => ?_)
  · refine go_iload_n dX0_mostRight_2 rfl ?_
    refine go_aload_n dX0_mostRight_3 rfl ?_
    refine go_getR fX0_104_0 dX0_mostRight_4 (by assumption) rfl (by assumption) ?_
    refine go_alen (v := nI _) dX0_mostRight_7 (by assumption) rfl ?_
    refine go_icmp_ge (tgt := 24) dX0_mostRight_8 (by decide) (fun h0_ => absurd h0_ (nI_ge (by omega) (by omega))) (fun _ => ?_)
    refine go_aload_n dX0_mostRight_11 rfl ?_
    refine go_getR fX0_104_0 dX0_mostRight_12 (by assumption) rfl (by assumption) ?_
    refine go_iload_n dX0_mostRight_15 rfl ?_
    refine go_iconst (v := nI 0) dX0_mostRight_16 (by decide) ?_
    refine go_iast dX0_mostRight_17 (by assumption) ⟨rfl, by omega, by decide⟩ ?_
    refine go_iinc (ls2 := [_, _, _, _, _, _, _, _]) dX0_mostRight_18 rfl (nI_inc _) rfl rfl ?_
    refine go_goto (tgt := 2) dX0_mostRight_21 (by decide) ?_
    refine ih _ ⟨hI.1.tr sk_45, fun j hj => ?_⟩
    by_cases h : j = s
    · subst h; exact um_s
    · exact (um_k h).trans (hI.2 j (by omega))
  · obtain ⟨z1, z2⟩ := hI
    refine go_iload_n dX0_mostRight_2 rfl ?_
    refine go_aload_n dX0_mostRight_3 rfl ?_
    refine go_getR fX0_104_0 dX0_mostRight_4 (by assumption) rfl (by assumption) ?_
    refine go_alen (v := nI _) dX0_mostRight_7 (by assumption) rfl ?_
    refine go_icmp_ge (tgt := 24) dX0_mostRight_8 (by decide) (fun _ => ?_) (fun h0_ => absurd (nI_le (by omega) (by omega)) h0_)
    refine go_aload_n dX0_mostRight_24 rfl ?_
    refine go_callV vX0_142_0 (ct_openMind (hc.sk z1 sr_.rf)) dX0_mostRight_25 (by assumption) rfl rfl rfl rfl rfl (Nat.le_of_ble_eq_true rfl) (Nat.le_of_ble_eq_true rfl) (Nat.le_of_ble_eq_true rfl) (Nat.le_of_ble_eq_true rfl) (Nat.le_of_ble_eq_true rfl) (kr_z (fun mA mr2 hp => ?_)) kt_z
    obtain ⟨p1, p2, p3⟩ := hp
    have a2 : ty (x + 23) = some (.inl 15) := p3.2.1.1
    have r45 : mr2 x 23 = some (x + 45) := (p2 _ _ (by omega) (by omega) (by omega)).trans c27
    have r0 : mr2 x 0 = some (x + 1) := (p2 _ _ (by omega) (by omega) (by omega)).trans c3
    have r1 : ∀ j, j < 6 → mr2 (x + 1) j = some (x + 2 + j) := fun j hj => (p2 _ _ (by omega) (by omega) (by omega)).trans (c5 j hj)
    refine go_astore_n (ls2 := [_, _, _, _, _, _, _, _]) dX0_mostRight_28 rfl rfl ?_
    refine go_iconst (v := nI 0) dX0_mostRight_29 (by decide) ?_
    refine go_istore_n (ls2 := [_, _, _, _, _, _, _, _]) dX0_mostRight_30 rfl rfl ?_
    refine go_forI (α := mi_ × Option Value × Option Value × Option Value) k (fun i c => [some (.ref x), some (.int (nI k)), some (.ref (x + 23)), some (.int (nI i)), c.2.1, c.2.2.1, none, c.2.2.2]) (fun i c => (ty, c.1, mr2, n)) (fun i c => md_ ty c.1 mr2 x (wn_ S.1 i) ∧ sk_ x n mi c.1 ∧ ∀ j, j < 36 → c.1 (x + 45) j = sm_ (rb_ S.1 j) i) 0 (mA, none, none, none) (by omega) ⟨p3, z1.tr (sk_mind p1), fun j hj => (p1 _ _ (by omega)).trans (z2 j hj)⟩ (fun i c _ hi hI ih => ?_) (fun c hI => ?_)
    · obtain ⟨m, o4, o5, o7⟩ := c
      obtain ⟨i1, i2, i3⟩ := hI
      dsimp only at i1 i2 i3 ⊢
      have f0 : m (x + 23) 0 = S.1 2 := i1.1.1.trans (wn_lo hv (by decide) (by decide) (by decide) i)
      refine go_iload_n dX0_mostRight_31 rfl ?_
      refine go_iload_n dX0_mostRight_32 rfl ?_
      refine go_icmp_ge (tgt := 174) dX0_mostRight_33 (by decide) (fun h0_ => absurd h0_ (nI_ge (by omega) (by omega))) (fun _ => ?_)
      refine go_iconst (v := nI 0) dX0_mostRight_36 (by decide) ?_
      refine go_istore (ls2 := [_, _, _, _, _, _, _, _]) dX0_mostRight_37 rfl rfl ?_
      refine go_lconst (v := lN 0) dX0_mostRight_39 (by decide) ?_
      refine go_lstore (ls2 := [_, _, _, _, _, _, _, _]) dX0_mostRight_40 rfl rfl ?_
      refine go_iconst (v := nI 0) dX0_mostRight_42 (by decide) ?_
      refine go_istore (ls2 := [_, _, _, _, _, _, _, _]) dX0_mostRight_43 rfl rfl ?_
      refine go_for 36 (fun q => [some (.ref x), some (.int (nI k)), some (.ref (x + 23)), some (.int (nI i)), some (.int (nI 0)), some (.long (lwq_ (rf1_ S.1 i) q)), none, some (.int (nI q))]) (fun _ => (ty, m, mr2, n)) 0 (by omega) (fun q _ hq ihq => ?_) ?_
      · have hq6 := r1 (q / 6) (by omega)
        refine go_iload dX0_mostRight_45 rfl ?_
        refine go_aload_n dX0_mostRight_47 rfl ?_
        refine go_getR fX0_104_0 dX0_mostRight_48 (by assumption) rfl (by assumption) ?_
        refine go_alen (v := nI _) dX0_mostRight_51 (by assumption) rfl ?_
        refine go_icmp_ge (tgt := 102) dX0_mostRight_52 (by decide) (fun h0_ => absurd h0_ (nI_ge (by omega) (by omega))) (fun _ => ?_)
        refine go_lload dX0_mostRight_55 rfl ?_
        refine go_aload_n dX0_mostRight_57 rfl ?_
        refine go_getR fX0_42_0 dX0_mostRight_58 (by assumption) rfl (by assumption) ?_
        refine go_iload dX0_mostRight_61 rfl ?_
        refine go_bipush (v := nI 6) dX0_mostRight_63 (by decide) ?_
        refine go_idiv dX0_mostRight_65 (by decide) ?_
        refine go_aald dX0_mostRight_66 (by assumption) ⟨pk_div (by omega) (by omega) (by omega), by omega, by decide⟩ (by assumption) ?_
        refine go_aload_n dX0_mostRight_67 rfl ?_
        refine go_iload dX0_mostRight_68 rfl ?_
        refine go_bipush (v := nI 6) dX0_mostRight_70 (by decide) ?_
        refine go_irem dX0_mostRight_72 (by decide) ?_
        rw [pk_rem (by omega) (by omega) (by omega)]
        refine go_iconst (v := nI 1) dX0_mostRight_73 (by decide) ?_
        refine go_iadd dX0_mostRight_74 ?_
        rw [nI_add]
        refine go_fore c2 p3.2.1 i1.1 (wn_wf hv i) (by omega) (by omega) (by omega) ?_
        refine go_aload_n dX0_mostRight_78 rfl ?_
        refine go_getI fX0_171_15 dX0_mostRight_79 (by assumption) rfl ?_
        rw [f0]
        refine go_icmp_gt (tgt := 92) dX0_mostRight_82 (by decide) (fun h => ?_) (fun h => ?_)
        · refine go_lconst (v := lN 0) dX0_mostRight_92 (by decide) ?_
          refine go_lor dX0_mostRight_93 ?_
          refine go_lstore (ls2 := [_, _, _, _, _, _, _, _]) dX0_mostRight_94 rfl rfl ?_
          refine go_iinc (ls2 := [_, _, _, _, _, _, _, _]) dX0_mostRight_96 rfl (nI_inc _) rfl rfl ?_
          refine go_goto (tgt := 45) dX0_mostRight_99 (by decide) ?_
          have e : lwq_ (rf1_ S.1 i) q ||| lN 0 = lwq_ (rf1_ S.1 i) (q + 1) := by
            show _ = lwq_ (rf1_ S.1 i) q ||| _
            rw [if_neg]
            unfold rf1_
            rw [decide_eq_true_eq]
            simpa using h
          rw [e]
          exact ihq
        · refine go_lconst (v := lN 1) dX0_mostRight_85 (by decide) ?_
          refine go_iload dX0_mostRight_86 rfl ?_
          refine go_lshl dX0_mostRight_88 ?_
          refine go_goto (tgt := 93) dX0_mostRight_89 (by decide) ?_
          refine go_lor dX0_mostRight_93 ?_
          refine go_lstore (ls2 := [_, _, _, _, _, _, _, _]) dX0_mostRight_94 rfl rfl ?_
          refine go_iinc (ls2 := [_, _, _, _, _, _, _, _]) dX0_mostRight_96 rfl (nI_inc _) rfl rfl ?_
          refine go_goto (tgt := 45) dX0_mostRight_99 (by decide) ?_
          have e : lwq_ (rf1_ S.1 i) q ||| (lN 1 <<< ((nI q).toInt64 &&& 63)) = lwq_ (rf1_ S.1 i) (q + 1) := by
            show _ = lwq_ (rf1_ S.1 i) q ||| _
            rw [if_pos]
            unfold rf1_
            rw [decide_eq_true_eq]
            simpa using h
          rw [e]
          exact ihq
      · refine go_iload dX0_mostRight_45 rfl ?_
        refine go_aload_n dX0_mostRight_47 rfl ?_
        refine go_getR fX0_104_0 dX0_mostRight_48 (by assumption) rfl (by assumption) ?_
        refine go_alen (v := nI _) dX0_mostRight_51 (by assumption) rfl ?_
        refine go_icmp_ge (tgt := 102) dX0_mostRight_52 (by decide) (fun _ => ?_) (fun h0_ => absurd (nI_le (by omega) (by omega)) h0_)
        refine go_aload_n dX0_mostRight_102 rfl ?_
        refine go_callV vX0_146_15 (ct_week i1.2.2.1 i1.2.1 i1.1 (wn_wf hv i) (by omega)) dX0_mostRight_103 (by assumption) rfl rfl rfl rfl rfl (Nat.le_of_ble_eq_true rfl) (Nat.le_of_ble_eq_true rfl) (Nat.le_of_ble_eq_true rfl) (Nat.le_of_ble_eq_true rfl) (Nat.le_of_ble_eq_true rfl) (kr_p (fun r mB hp => ?_)) kt_p
        obtain ⟨e1, e2, e3, -⟩ := hp
        subst e1
        have f1 : mB (x + 23) 0 = S.1 2 := e2.1.trans (wn_lo hv (by decide) (by decide) (by decide) (i + 1))
        refine go_aload_n dX0_mostRight_106 rfl ?_
        refine go_getI fX0_171_15 dX0_mostRight_107 (by assumption) rfl ?_
        rw [f1]
        refine go_ticmp_gt (m := nI 0) (n := nI 1) (t1 := 117) (t2 := 118) dX0_mostRight_110 (by decide) dX0_mostRight_113 (by decide) dX0_mostRight_114 (by decide) dX0_mostRight_117 (by decide) rfl ?_
        rw [bo_le]
        refine go_istore (ls2 := [_, _, _, _, _, _, _, _]) dX0_mostRight_118 rfl rfl ?_
        refine go_iconst (v := nI 0) dX0_mostRight_120 (by decide) ?_
        refine go_istore (ls2 := [_, _, _, _, _, _, _, _]) dX0_mostRight_121 rfl rfl ?_
        refine go_forI (α := mi_) 36 (fun q _ => [some (.ref x), some (.int (nI k)), some (.ref (x + 23)), some (.int (nI i)), some (.int (bo_ (decide (pr_ (wn_ S.1 i) ≤ S.1 2)))), some (.long (lwq_ (rf1_ S.1 i) 36)), none, some (.int (nI q))]) (fun _ m => (ty, m, mr2, n)) (fun q m => (∀ a j, a ≠ x + 45 → m a j = mB a j) ∧ (∀ j, j < q → m (x + 45) j = sm_ (rb_ S.1 j) (i + 1)) ∧ ∀ j, q ≤ j → j < 36 → m (x + 45) j = sm_ (rb_ S.1 j) i) 0 mB (by omega) ⟨fun _ _ _ => rfl, fun j h => absurd h (Nat.not_lt_zero _), fun j _ h => (e3 _ _ (by omega)).trans (i3 j h)⟩ (fun q m1 _ hq hI ihq => ?_) (fun m1 hI => ?_)
        · obtain ⟨q1, q2, q3⟩ := hI
          refine go_iload dX0_mostRight_123 rfl ?_
          refine go_aload_n dX0_mostRight_125 rfl ?_
          refine go_getR fX0_104_0 dX0_mostRight_126 (by assumption) rfl (by assumption) ?_
          refine go_alen (v := nI _) dX0_mostRight_129 (by assumption) rfl ?_
          refine go_icmp_ge (tgt := 168) dX0_mostRight_130 (by decide) (fun h0_ => absurd h0_ (nI_ge (by omega) (by omega))) (fun _ => ?_)
          refine go_aload_n dX0_mostRight_133 rfl ?_
          refine go_getR fX0_104_0 dX0_mostRight_134 (by assumption) rfl (by assumption) ?_
          refine go_iload dX0_mostRight_137 rfl ?_
          refine go_dup2 dX0_mostRight_139 rfl rfl ?_
          refine go_iald dX0_mostRight_140 (by assumption) ⟨rfl, by omega, by decide⟩ ?_
          rw [q3 q (by omega) hq]
          refine go_lload dX0_mostRight_141 rfl ?_
          refine go_iload dX0_mostRight_143 rfl ?_
          refine go_lshr dX0_mostRight_145 ?_
          refine go_lconst (v := lN 1) dX0_mostRight_146 (by decide) ?_
          refine go_land dX0_mostRight_147 ?_
          refine go_iload dX0_mostRight_148 rfl ?_
          refine go_i2l dX0_mostRight_150 ?_
          refine go_lcmp dX0_mostRight_151 ?_
          refine go_tif_ne (m := nI 0) (n := nI 1) (t1 := 159) (t2 := 160) dX0_mostRight_152 (by decide) dX0_mostRight_155 (by decide) dX0_mostRight_156 (by decide) dX0_mostRight_159 (by decide) rfl ?_
          rw [lwq_c hq]
          refine go_iadd dX0_mostRight_160 ?_
          refine go_iast dX0_mostRight_161 (by assumption) ⟨rfl, by omega, by decide⟩ ?_
          refine go_iinc (ls2 := [_, _, _, _, _, _, _, _]) dX0_mostRight_162 rfl (nI_inc _) rfl rfl ?_
          refine go_goto (tgt := 123) dX0_mostRight_165 (by decide) ?_
          refine ihq _ ⟨fun a j h => (um_a h).trans (q1 a j h), fun j hj => ?_, fun j hj hj2 => (um_k (by omega)).trans (q3 j (by omega) hj2)⟩
          by_cases h : j = q
          · subst h
            exact um_s
          · exact (um_k h).trans (q2 j (by omega))
        · obtain ⟨q1, q2, q3⟩ := hI
          refine go_iload dX0_mostRight_123 rfl ?_
          refine go_aload_n dX0_mostRight_125 rfl ?_
          refine go_getR fX0_104_0 dX0_mostRight_126 (by assumption) rfl (by assumption) ?_
          refine go_alen (v := nI _) dX0_mostRight_129 (by assumption) rfl ?_
          refine go_icmp_ge (tgt := 168) dX0_mostRight_130 (by decide) (fun _ => ?_) (fun h0_ => absurd (nI_le (by omega) (by omega)) h0_)
          refine go_iinc (ls2 := [_, _, _, _, _, _, _, _]) dX0_mostRight_168 rfl (nI_inc _) rfl rfl ?_
          refine go_goto (tgt := 31) dX0_mostRight_171 (by decide) ?_
          refine ih (m1, some (.int _), some (.long _), some (.int _)) ⟨⟨tr_fr e2 (fun _ _ _ h => h) (fun a j h1 _ => q1 a j (by omega)) (fun _ _ _ _ => rfl) (by omega), i1.2⟩, fun a j h1 h2 => ?_, q2⟩
          exact (q1 a j (by unfold sc_ at h2; omega)).trans ((e3 a j (by unfold sc_ at h2; omega)).trans (i2 a j h1 h2))
    · obtain ⟨m, o4, o5, o7⟩ := c
      obtain ⟨i1, i2, i3⟩ := hI
      dsimp only at i1 i2 i3 ⊢
      refine go_iload_n dX0_mostRight_31 rfl ?_
      refine go_iload_n dX0_mostRight_32 rfl ?_
      refine go_icmp_ge (tgt := 174) dX0_mostRight_33 (by decide) (fun _ => ?_) (fun h0_ => absurd (nI_le (by omega) (by omega)) h0_)
      refine go_iconst (v := nI 0) dX0_mostRight_174 (by decide) ?_
      refine go_istore_n (ls2 := [_, _, _, _, _, _, _, _]) dX0_mostRight_175 rfl rfl ?_
      refine go_iconst (v := nI 1) dX0_mostRight_176 (by decide) ?_
      refine go_istore (ls2 := [_, _, _, _, _, _, _, _]) dX0_mostRight_177 rfl rfl ?_
      refine go_for 36 (fun q => [some (.ref x), some (.int (nI k)), some (.ref (x + 23)), some (.int (nI (bx_ S.1 k (q - 1)))), some (.int (nI q)), o5, none, o7]) (fun _ => (ty, m, mr2, n)) 1 (by omega) (fun q hq1 hq ihq => ?_) ?_
      · have hb := bx_le (v := S.1) (i := k) (q - 1)
        have hb2 : bx_ S.1 k (q + 1 - 1) = if sm_ (rb_ S.1 (bx_ S.1 k (q - 1))) k < sm_ (rb_ S.1 q) k then q else bx_ S.1 k (q - 1) := by
          have e : q + 1 - 1 = (q - 1) + 1 := by omega
          have e2 : q - 1 + 1 = q := by omega
          rw [e]
          show (if sm_ (rb_ S.1 (bx_ S.1 k (q - 1))) k < sm_ (rb_ S.1 (q - 1 + 1)) k then q - 1 + 1 else bx_ S.1 k (q - 1)) = _
          rw [e2]
        generalize bx_ S.1 k (q - 1) = B at hb hb2 ⊢
        refine go_iload dX0_mostRight_179 rfl ?_
        refine go_aload_n dX0_mostRight_181 rfl ?_
        refine go_getR fX0_104_0 dX0_mostRight_182 (by assumption) rfl (by assumption) ?_
        refine go_alen (v := nI _) dX0_mostRight_185 (by assumption) rfl ?_
        refine go_icmp_ge (tgt := 218) dX0_mostRight_186 (by decide) (fun h0_ => absurd h0_ (nI_ge (by omega) (by omega))) (fun _ => ?_)
        refine go_aload_n dX0_mostRight_189 rfl ?_
        refine go_getR fX0_104_0 dX0_mostRight_190 (by assumption) rfl (by assumption) ?_
        refine go_iload dX0_mostRight_193 rfl ?_
        refine go_iald dX0_mostRight_195 (by assumption) ⟨rfl, by omega, by decide⟩ ?_
        refine go_aload_n dX0_mostRight_196 rfl ?_
        refine go_getR fX0_104_0 dX0_mostRight_197 (by assumption) rfl (by assumption) ?_
        refine go_iload_n dX0_mostRight_200 rfl ?_
        refine go_iald dX0_mostRight_201 (by assumption) ⟨rfl, by omega, by decide⟩ ?_
        rw [i3 q hq, i3 B (by omega)]
        refine go_icmp_le (tgt := 210) dX0_mostRight_202 (by decide) (fun h => ?_) (fun h => ?_)
        · rw [if_neg (by simpa using h)] at hb2
          rw [hb2] at ihq
          refine go_iload_n dX0_mostRight_210 rfl ?_
          refine go_istore_n (ls2 := [_, _, _, _, _, _, _, _]) dX0_mostRight_211 rfl rfl ?_
          refine go_iinc (ls2 := [_, _, _, _, _, _, _, _]) dX0_mostRight_212 rfl (nI_inc _) rfl rfl ?_
          refine go_goto (tgt := 179) dX0_mostRight_215 (by decide) ?_
          exact ihq
        · rw [if_pos (by simpa using h)] at hb2
          rw [hb2] at ihq
          refine go_iload dX0_mostRight_205 rfl ?_
          refine go_goto (tgt := 211) dX0_mostRight_207 (by decide) ?_
          refine go_istore_n (ls2 := [_, _, _, _, _, _, _, _]) dX0_mostRight_211 rfl rfl ?_
          refine go_iinc (ls2 := [_, _, _, _, _, _, _, _]) dX0_mostRight_212 rfl (nI_inc _) rfl rfl ?_
          refine go_goto (tgt := 179) dX0_mostRight_215 (by decide) ?_
          exact ihq
      · have hb := bx_le (v := S.1) (i := k) 35
        refine go_iload dX0_mostRight_179 rfl ?_
        refine go_aload_n dX0_mostRight_181 rfl ?_
        refine go_getR fX0_104_0 dX0_mostRight_182 (by assumption) rfl (by assumption) ?_
        refine go_alen (v := nI _) dX0_mostRight_185 (by assumption) rfl ?_
        refine go_icmp_ge (tgt := 218) dX0_mostRight_186 (by decide) (fun _ => ?_) (fun h0_ => absurd (nI_le (by omega) (by omega)) h0_)
        show G_ l D b _ _ cX0_mostRight 218 [some (.ref x), some (.int (nI k)), some (.ref (x + 23)), some (.int (nI (bx_ S.1 k 35))), some (.int (nI 36)), o5, none, o7] [] _ 0 0
        refine go_bipush (v := nI 10) dX0_mostRight_218 (by decide) ?_
        refine go_iload_n dX0_mostRight_220 rfl ?_
        refine go_bipush (v := nI 6) dX0_mostRight_221 (by decide) ?_
        refine go_idiv dX0_mostRight_223 (by decide) ?_
        rw [pk_div (by omega) (by omega) (by omega)]
        refine go_imul dX0_mostRight_224 ?_
        refine go_iload_n dX0_mostRight_225 rfl ?_
        refine go_bipush (v := nI 6) dX0_mostRight_226 (by decide) ?_
        refine go_irem dX0_mostRight_228 (by decide) ?_
        rw [pk_rem (by omega) (by omega) (by omega), pk_mul]
        refine go_iadd dX0_mostRight_229 ?_
        refine go_iconst (v := nI 1) dX0_mostRight_230 (by decide) ?_
        refine go_iadd dX0_mostRight_231 ?_
        rw [nI_add, nI_add]
        refine go_iret rfl dX0_mostRight_232 (Nat.le_of_ble_eq_true rfl) (Nat.le_of_ble_eq_true rfl) ?_
        exact ⟨_, _, _, rfl, rfl, rfl, i2, p2⟩
end RIGHT
