/-! TERNARIES: c ? m : n with constants; a cut at a joint -/
set_option maxRecDepth 100000
section TERN
variable {l : Launch} {D : dd_} {b : Nat} {M : mc_} {Q : Outcome → so_ → Prop} {cc : ByteArray} {pc : Nat} {ls : List (Option Value)} {st : List Value} {σ : so_} {kc ks : Nat}
theorem go_tif_eq {x : Int32} {m n : Int32} {off off2 nm nn : Int} {t1 t2 : Nat} (d : decode cc pc = .ok (.ifCond .eq off, 3)) (ht : (pc : Int) + off = (t1 : Int)) (d1 : decode cc (pc + 3) = .ok (.iconst nn, 1)) (hn : Int32.ofInt nn = n) (d2 : decode cc (pc + 4) = .ok (.goto off2, 3)) (ht2 : ((pc + 4 : Nat) : Int) + off2 = (t2 : Int)) (d3 : decode cc t1 = .ok (.iconst nm, 1)) (hm : Int32.ofInt nm = m) (e2 : t1 + 1 = t2) (k : G_ l D b M Q cc t2 ls (.int (if x = 0 then m else n) :: st) σ kc ks) : G_ l D b M Q cc pc ls (.int x :: st) σ kc ks := by
  subst e2
  refine go_if_eq (tgt := t1) d ht (fun h => ?_) (fun h => ?_)
  · rw [if_pos h] at k
    exact go_iconst d3 hm k
  · rw [if_neg h] at k
    exact go_iconst d1 hn (go_goto d2 ht2 k)
theorem go_tif_ne {x : Int32} {m n : Int32} {off off2 nm nn : Int} {t1 t2 : Nat} (d : decode cc pc = .ok (.ifCond .ne off, 3)) (ht : (pc : Int) + off = (t1 : Int)) (d1 : decode cc (pc + 3) = .ok (.iconst nn, 1)) (hn : Int32.ofInt nn = n) (d2 : decode cc (pc + 4) = .ok (.goto off2, 3)) (ht2 : ((pc + 4 : Nat) : Int) + off2 = (t2 : Int)) (d3 : decode cc t1 = .ok (.iconst nm, 1)) (hm : Int32.ofInt nm = m) (e2 : t1 + 1 = t2) (k : G_ l D b M Q cc t2 ls (.int (if ¬ x = 0 then m else n) :: st) σ kc ks) : G_ l D b M Q cc pc ls (.int x :: st) σ kc ks := by
  subst e2
  refine go_if_ne (tgt := t1) d ht (fun h => ?_) (fun h => ?_)
  · rw [if_pos h] at k
    exact go_iconst d3 hm k
  · rw [if_neg (not_not_intro h)] at k
    exact go_iconst d1 hn (go_goto d2 ht2 k)
theorem go_tif_lt {x : Int32} {m n : Int32} {off off2 nm nn : Int} {t1 t2 : Nat} (d : decode cc pc = .ok (.ifCond .lt off, 3)) (ht : (pc : Int) + off = (t1 : Int)) (d1 : decode cc (pc + 3) = .ok (.iconst nn, 1)) (hn : Int32.ofInt nn = n) (d2 : decode cc (pc + 4) = .ok (.goto off2, 3)) (ht2 : ((pc + 4 : Nat) : Int) + off2 = (t2 : Int)) (d3 : decode cc t1 = .ok (.iconst nm, 1)) (hm : Int32.ofInt nm = m) (e2 : t1 + 1 = t2) (k : G_ l D b M Q cc t2 ls (.int (if x < 0 then m else n) :: st) σ kc ks) : G_ l D b M Q cc pc ls (.int x :: st) σ kc ks := by
  subst e2
  refine go_if_lt (tgt := t1) d ht (fun h => ?_) (fun h => ?_)
  · rw [if_pos h] at k
    exact go_iconst d3 hm k
  · rw [if_neg h] at k
    exact go_iconst d1 hn (go_goto d2 ht2 k)
theorem go_tif_ge {x : Int32} {m n : Int32} {off off2 nm nn : Int} {t1 t2 : Nat} (d : decode cc pc = .ok (.ifCond .ge off, 3)) (ht : (pc : Int) + off = (t1 : Int)) (d1 : decode cc (pc + 3) = .ok (.iconst nn, 1)) (hn : Int32.ofInt nn = n) (d2 : decode cc (pc + 4) = .ok (.goto off2, 3)) (ht2 : ((pc + 4 : Nat) : Int) + off2 = (t2 : Int)) (d3 : decode cc t1 = .ok (.iconst nm, 1)) (hm : Int32.ofInt nm = m) (e2 : t1 + 1 = t2) (k : G_ l D b M Q cc t2 ls (.int (if 0 ≤ x then m else n) :: st) σ kc ks) : G_ l D b M Q cc pc ls (.int x :: st) σ kc ks := by
  subst e2
  refine go_if_ge (tgt := t1) d ht (fun h => ?_) (fun h => ?_)
  · rw [if_pos h] at k
    exact go_iconst d3 hm k
  · rw [if_neg h] at k
    exact go_iconst d1 hn (go_goto d2 ht2 k)
theorem go_tif_gt {x : Int32} {m n : Int32} {off off2 nm nn : Int} {t1 t2 : Nat} (d : decode cc pc = .ok (.ifCond .gt off, 3)) (ht : (pc : Int) + off = (t1 : Int)) (d1 : decode cc (pc + 3) = .ok (.iconst nn, 1)) (hn : Int32.ofInt nn = n) (d2 : decode cc (pc + 4) = .ok (.goto off2, 3)) (ht2 : ((pc + 4 : Nat) : Int) + off2 = (t2 : Int)) (d3 : decode cc t1 = .ok (.iconst nm, 1)) (hm : Int32.ofInt nm = m) (e2 : t1 + 1 = t2) (k : G_ l D b M Q cc t2 ls (.int (if 0 < x then m else n) :: st) σ kc ks) : G_ l D b M Q cc pc ls (.int x :: st) σ kc ks := by
  subst e2
  refine go_if_gt (tgt := t1) d ht (fun h => ?_) (fun h => ?_)
  · rw [if_pos h] at k
    exact go_iconst d3 hm k
  · rw [if_neg h] at k
    exact go_iconst d1 hn (go_goto d2 ht2 k)
theorem go_tif_le {x : Int32} {m n : Int32} {off off2 nm nn : Int} {t1 t2 : Nat} (d : decode cc pc = .ok (.ifCond .le off, 3)) (ht : (pc : Int) + off = (t1 : Int)) (d1 : decode cc (pc + 3) = .ok (.iconst nn, 1)) (hn : Int32.ofInt nn = n) (d2 : decode cc (pc + 4) = .ok (.goto off2, 3)) (ht2 : ((pc + 4 : Nat) : Int) + off2 = (t2 : Int)) (d3 : decode cc t1 = .ok (.iconst nm, 1)) (hm : Int32.ofInt nm = m) (e2 : t1 + 1 = t2) (k : G_ l D b M Q cc t2 ls (.int (if x ≤ 0 then m else n) :: st) σ kc ks) : G_ l D b M Q cc pc ls (.int x :: st) σ kc ks := by
  subst e2
  refine go_if_le (tgt := t1) d ht (fun h => ?_) (fun h => ?_)
  · rw [if_pos h] at k
    exact go_iconst d3 hm k
  · rw [if_neg h] at k
    exact go_iconst d1 hn (go_goto d2 ht2 k)
theorem go_ticmp_eq {x y : Int32} {m n : Int32} {off off2 nm nn : Int} {t1 t2 : Nat} (d : decode cc pc = .ok (.if_icmp .eq off, 3)) (ht : (pc : Int) + off = (t1 : Int)) (d1 : decode cc (pc + 3) = .ok (.iconst nn, 1)) (hn : Int32.ofInt nn = n) (d2 : decode cc (pc + 4) = .ok (.goto off2, 3)) (ht2 : ((pc + 4 : Nat) : Int) + off2 = (t2 : Int)) (d3 : decode cc t1 = .ok (.iconst nm, 1)) (hm : Int32.ofInt nm = m) (e2 : t1 + 1 = t2) (k : G_ l D b M Q cc t2 ls (.int (if x = y then m else n) :: st) σ kc ks) : G_ l D b M Q cc pc ls (.int y :: .int x :: st) σ kc ks := by
  subst e2
  refine go_icmp_eq (tgt := t1) d ht (fun h => ?_) (fun h => ?_)
  · rw [if_pos h] at k
    exact go_iconst d3 hm k
  · rw [if_neg h] at k
    exact go_iconst d1 hn (go_goto d2 ht2 k)
theorem go_ticmp_ne {x y : Int32} {m n : Int32} {off off2 nm nn : Int} {t1 t2 : Nat} (d : decode cc pc = .ok (.if_icmp .ne off, 3)) (ht : (pc : Int) + off = (t1 : Int)) (d1 : decode cc (pc + 3) = .ok (.iconst nn, 1)) (hn : Int32.ofInt nn = n) (d2 : decode cc (pc + 4) = .ok (.goto off2, 3)) (ht2 : ((pc + 4 : Nat) : Int) + off2 = (t2 : Int)) (d3 : decode cc t1 = .ok (.iconst nm, 1)) (hm : Int32.ofInt nm = m) (e2 : t1 + 1 = t2) (k : G_ l D b M Q cc t2 ls (.int (if ¬ x = y then m else n) :: st) σ kc ks) : G_ l D b M Q cc pc ls (.int y :: .int x :: st) σ kc ks := by
  subst e2
  refine go_icmp_ne (tgt := t1) d ht (fun h => ?_) (fun h => ?_)
  · rw [if_pos h] at k
    exact go_iconst d3 hm k
  · rw [if_neg (not_not_intro h)] at k
    exact go_iconst d1 hn (go_goto d2 ht2 k)
theorem go_ticmp_lt {x y : Int32} {m n : Int32} {off off2 nm nn : Int} {t1 t2 : Nat} (d : decode cc pc = .ok (.if_icmp .lt off, 3)) (ht : (pc : Int) + off = (t1 : Int)) (d1 : decode cc (pc + 3) = .ok (.iconst nn, 1)) (hn : Int32.ofInt nn = n) (d2 : decode cc (pc + 4) = .ok (.goto off2, 3)) (ht2 : ((pc + 4 : Nat) : Int) + off2 = (t2 : Int)) (d3 : decode cc t1 = .ok (.iconst nm, 1)) (hm : Int32.ofInt nm = m) (e2 : t1 + 1 = t2) (k : G_ l D b M Q cc t2 ls (.int (if x < y then m else n) :: st) σ kc ks) : G_ l D b M Q cc pc ls (.int y :: .int x :: st) σ kc ks := by
  subst e2
  refine go_icmp_lt (tgt := t1) d ht (fun h => ?_) (fun h => ?_)
  · rw [if_pos h] at k
    exact go_iconst d3 hm k
  · rw [if_neg h] at k
    exact go_iconst d1 hn (go_goto d2 ht2 k)
theorem go_ticmp_ge {x y : Int32} {m n : Int32} {off off2 nm nn : Int} {t1 t2 : Nat} (d : decode cc pc = .ok (.if_icmp .ge off, 3)) (ht : (pc : Int) + off = (t1 : Int)) (d1 : decode cc (pc + 3) = .ok (.iconst nn, 1)) (hn : Int32.ofInt nn = n) (d2 : decode cc (pc + 4) = .ok (.goto off2, 3)) (ht2 : ((pc + 4 : Nat) : Int) + off2 = (t2 : Int)) (d3 : decode cc t1 = .ok (.iconst nm, 1)) (hm : Int32.ofInt nm = m) (e2 : t1 + 1 = t2) (k : G_ l D b M Q cc t2 ls (.int (if y ≤ x then m else n) :: st) σ kc ks) : G_ l D b M Q cc pc ls (.int y :: .int x :: st) σ kc ks := by
  subst e2
  refine go_icmp_ge (tgt := t1) d ht (fun h => ?_) (fun h => ?_)
  · rw [if_pos h] at k
    exact go_iconst d3 hm k
  · rw [if_neg h] at k
    exact go_iconst d1 hn (go_goto d2 ht2 k)
theorem go_ticmp_gt {x y : Int32} {m n : Int32} {off off2 nm nn : Int} {t1 t2 : Nat} (d : decode cc pc = .ok (.if_icmp .gt off, 3)) (ht : (pc : Int) + off = (t1 : Int)) (d1 : decode cc (pc + 3) = .ok (.iconst nn, 1)) (hn : Int32.ofInt nn = n) (d2 : decode cc (pc + 4) = .ok (.goto off2, 3)) (ht2 : ((pc + 4 : Nat) : Int) + off2 = (t2 : Int)) (d3 : decode cc t1 = .ok (.iconst nm, 1)) (hm : Int32.ofInt nm = m) (e2 : t1 + 1 = t2) (k : G_ l D b M Q cc t2 ls (.int (if y < x then m else n) :: st) σ kc ks) : G_ l D b M Q cc pc ls (.int y :: .int x :: st) σ kc ks := by
  subst e2
  refine go_icmp_gt (tgt := t1) d ht (fun h => ?_) (fun h => ?_)
  · rw [if_pos h] at k
    exact go_iconst d3 hm k
  · rw [if_neg h] at k
    exact go_iconst d1 hn (go_goto d2 ht2 k)
theorem go_ticmp_le {x y : Int32} {m n : Int32} {off off2 nm nn : Int} {t1 t2 : Nat} (d : decode cc pc = .ok (.if_icmp .le off, 3)) (ht : (pc : Int) + off = (t1 : Int)) (d1 : decode cc (pc + 3) = .ok (.iconst nn, 1)) (hn : Int32.ofInt nn = n) (d2 : decode cc (pc + 4) = .ok (.goto off2, 3)) (ht2 : ((pc + 4 : Nat) : Int) + off2 = (t2 : Int)) (d3 : decode cc t1 = .ok (.iconst nm, 1)) (hm : Int32.ofInt nm = m) (e2 : t1 + 1 = t2) (k : G_ l D b M Q cc t2 ls (.int (if x ≤ y then m else n) :: st) σ kc ks) : G_ l D b M Q cc pc ls (.int y :: .int x :: st) σ kc ks := by
  subst e2
  refine go_icmp_le (tgt := t1) d ht (fun h => ?_) (fun h => ?_)
  · rw [if_pos h] at k
    exact go_iconst d3 hm k
  · rw [if_neg h] at k
    exact go_iconst d1 hn (go_goto d2 ht2 k)
theorem go_cut (pc2 : Nat) (st0 : List Value) (P : Int32 → Prop) (k1 : ∀ x, P x → G_ l D b M Q cc pc2 ls (.int x :: st0) σ kc ks) (k2 : (∀ x, P x → G_ l D b M Q cc pc2 ls (.int x :: st0) σ kc ks) → G_ l D b M Q cc pc ls st σ kc ks) : G_ l D b M Q cc pc ls st σ kc ks := k2 k1
theorem go_cut0 (pc2 : Nat) (st0 : List Value) (k1 : G_ l D b M Q cc pc2 ls st0 σ kc ks) (k2 : G_ l D b M Q cc pc2 ls st0 σ kc ks → G_ l D b M Q cc pc ls st σ kc ks) : G_ l D b M Q cc pc ls st σ kc ks := k2 k1
theorem go_st {st2 : List Value} (h : st = st2) (k : G_ l D b M Q cc pc ls st2 σ kc ks) : G_ l D b M Q cc pc ls st σ kc ks := h ▸ k
theorem go_top {x y : Int32} (h : x = y) (k : G_ l D b M Q cc pc ls (.int y :: st) σ kc ks) : G_ l D b M Q cc pc ls (.int x :: st) σ kc ks := h ▸ k
theorem go_so {σ2 : so_} (h : σ = σ2) (k : G_ l D b M Q cc pc ls st σ2 kc ks) : G_ l D b M Q cc pc ls st σ kc ks := h ▸ k
theorem go_mi {ty : ty_} {mi mi2 : mi_} {mr : mr_} {n : Nat} (h : mi = mi2) (k : G_ l D b M Q cc pc ls st (ty, mi2, mr, n) kc ks) : G_ l D b M Q cc pc ls st (ty, mi, mr, n) kc ks := h ▸ k
end TERN
