/-! System.arraycopy of a whole array -/
set_option maxRecDepth 100000
def cp_ {α : Type} (mi : Nat → Nat → α) (src dst : Nat) : Nat → Nat → α := fun x k => if x = dst then mi src k else mi x k
theorem cp_d {α : Type} {mi : Nat → Nat → α} {src dst k : Nat} : cp_ mi src dst dst k = mi src k := if_pos rfl
theorem cp_a {α : Type} {mi : Nat → Nat → α} {src dst x k : Nat} (h : x ≠ dst) : cp_ mi src dst x k = mi x k := if_neg h
theorem arrV_congr {c : ClassId} {N : Nat} {f g : Nat → Value} (h : ∀ j, j < N → f j = g j) : arrV c N f = arrV c N g := by
  unfold arrV
  congr 1
  congr 1
  funext j
  exact h j.val j.isLt
/-- an object that may lie in an array of E -/
def el_ (ty : ty_) (E : String) (y : Nat) : Prop := ∃ (cv : Nat) (qv : vw_C), ty y = some (.inl cv) ∧ CL_[cv]? = some qv ∧ (qv.1 = E ∨ Cond.castable qv.1 E ∈ nw_)
section CPY
variable {l : Launch} {D : dd_} {b : Nat} {M : mc_} {Q : Outcome → so_ → Prop} {cc : ByteArray} {pc : Nat} {ls : List (Option Value)} {st : List Value} {ty : ty_} {mi : mi_} {mr : mr_} {n : Nat} {kc ks : Nat}
theorem go_copyI {idx a0 a N : Nat} {z0 z1 zn : Int32} (hlk : Cond.methodLink M.1 idx arraycopyName ∈ lw_all) (hT0 : ty a0 = some (.inr (.int, N))) (hT1 : ty a = some (.inr (.int, N))) (hN : N < 65536) (hz0 : z0 = nI 0) (hz1 : z1 = nI 0) (hzn : zn = nI N) (hrest : (st.map fun v => v.category).sum ≤ 8) (hR1 : 1 ≤ M.2.2.2.2.1.frames) (hR2 : 8 + (nativeFrameWords "java/lang/System" "arraycopy" 5 + 11) ≤ M.2.2.2.2.1.locals) (d : decode cc pc = .ok (.invokestatic idx, 3)) (kk : G_ l D b M Q cc (pc + 3) ls st (ty, cp_ mi a0 a, mr, n) kc ks) : G_ l D b M Q cc pc ls (.int zn :: .int z1 :: .ref a :: .int z0 :: .ref a0 :: st) (ty, mi, mr, n) kc ks := by
  intro p e s m args below meth c0 H locs la C hw hs hl
  have hts := C.2.2.2.2.2.2.1
  obtain ⟨hb0, hAT, hc0⟩ := hw.2.1.2.2.2 a0 _ hT0
  obtain ⟨hba, -, hc1⟩ := hw.2.1.2.2.2 a _ hT1
  dsimp only at hc0 hc1
  have k0 : (nI 0).toNatClampNeg = 0 := nI_clamp (by omega)
  have kN : (nI N).toNatClampNeg = N := nI_clamp (by omega)
  subst hz0; subst hz1; subst hzn
  intro T hT X
  obtain ⟨-, kA, hkA, cm, hkk⟩ := (hw.1.2.1 _ hAT).1 N (fun j => sv_ .int (mi a0 j) (mr a0 j))
  obtain ⟨vm', X', step⟩ := X.arraycopy C.1 C.2.2.2.2.2.1 (hts _ hlk) (hts _ q654) (hts _ q653) (hts _ q106) (src := a0) (dst := a) (cs := arrV (D.2.2.1 .int) N (fun j => sv_ .int (mi a0 j) (mr a0 j))) (cd := arrV (D.2.2.1 .int) N (fun j => sv_ .int (mi a j) (mr a j))) (srcPos := nI 0) (destPos := nI 0) (n := nI N) (by rw [hT]; exact hc0) (by rw [hT]; exact hc1)
    (fun _ h => by cases h) (fun _ h => by cases h) (fun h => by cases h) (fun h => by cases h) hkA hkA hkk hkk (by rfl) (nI_pos (by omega)) (nI_pos (by omega)) (nI_pos (by omega))
    (by rw [nI_toInt (by omega), nI_toInt (by omega), arrV_size]; omega)
    (by rw [nI_toInt (by omega), nI_toInt (by omega), arrV_size]; omega)
    (fun vm₁ _ i hi => by
      rw [kN] at hi
      have e : (arrV (D.2.2.1 .int) N (fun j => sv_ .int (mi a0 j) (mr a0 j))).slots.getD ((nI 0).toNatClampNeg + i) .null = .int (mi a0 i) := by
        rw [k0, Array.getD_eq_getD_getElem?, arrV_read _ _ (by omega), Nat.zero_add]
        rfl
      rw [e]
      exact ⟨rfl, trivial⟩)
    (g := F0 m pc la (.int (nI N) :: .int (nI 0) :: .ref a :: .int (nI 0) :: .ref a0 :: st)) rfl (hl.1.trans C.2.2.1.symm) (rest := st) rfl (by rw [C.2.1]; exact d) hR1 (by show 2 * 0 + _ + _ ≤ _; omega)
  have e1 : copied (arrV (D.2.2.1 .int) N (fun j => sv_ .int (mi a0 j) (mr a0 j))) (arrV (D.2.2.1 .int) N (fun j => sv_ .int (mi a j) (mr a j))) (nI 0) (nI 0) (nI N) = arrV (D.2.2.1 .int) N (fun j => sv_ .int (cp_ mi a0 a a j) (mr a j)) := by
    have e2 : copied (arrV (D.2.2.1 .int) N (fun j => sv_ .int (mi a0 j) (mr a0 j))) (arrV (D.2.2.1 .int) N (fun j => sv_ .int (mi a j) (mr a j))) (nI 0) (nI 0) (nI N) = _ := va_copied (fun z => Value.int z) (D.2.2.1 .int) (D.2.2.1 .int) (n0 := N) (n1 := N) (sp := (nI 0).toNatClampNeg) (dp := (nI 0).toNatClampNeg) (n := (nI N).toNatClampNeg) (mi a0) (mi a) (by rw [k0, kN]; omega)
    rw [e2, k0, kN]
    refine arrV_congr fun j hj => ?_
    rw [cp_d, pk_cpy_in (by omega) (by omega)]
    simp only [Nat.zero_add, Nat.sub_zero]
    rfl
  rw [e1] at X' step
  have hlt : a < H.size := (Array.getElem?_eq_some_iff.mp hc1).1
  have hheap : ((T.setVm vm').setCell a (arrV (D.2.2.1 .int) N (fun j => sv_ .int (cp_ mi a0 a a j) (mr a j)))).heap = H.setIfInBounds a (arrV (D.2.2.1 .int) N (fun j => sv_ .int (cp_ mi a0 a a j) (mr a j))) := by rw [← hT]; rfl
  have oq : ∀ q : Nat, q ≠ a → (H.setIfInBounds a (arrV (D.2.2.1 .int) N (fun j => sv_ .int (cp_ mi a0 a a j) (mr a j))))[q]? = H[q]? := fun q hq => by simp [Array.getElem?_setIfInBounds, Ne.symm hq]
  have hr2 : rp_ D b (ty, cp_ mi a0 a, mr, n) (H.setIfInBounds a (arrV (D.2.2.1 .int) N (fun j => sv_ .int (cp_ mi a0 a a j) (mr a j)))) :=
    hw.2.1.upd (by simp) oq (fun a2 k2 h => ⟨cp_a h, rfl⟩) hT1 ⟨hAT, by simp [Array.getElem?_setIfInBounds, hlt]⟩
  obtain ⟨t, a1, b1⟩ := kk p e s m args below meth c0 _ _ la C (hw.to hr2 (fun q hq => oq q (Nat.ne_of_lt (Nat.lt_of_lt_of_le hq hba)))) ⟨by simp; exact hs.1, fun q g1 => by rw [oq q (Nat.ne_of_lt (Nat.lt_of_lt_of_le g1 hba))]; exact hs.2.1 q g1, fun q hq => by
      rcases List.mem_append.mp hq with h | h
      · exact hs.2.2 q h
      · obtain ⟨z, -, hz⟩ := List.mem_map.mp h
        rw [← hz]
        exact hba⟩ hl _ hheap X'
  exact ⟨t, step t a1, b1⟩
theorem go_copyR {idx a0 a N : Nat} {E : String} {z0 z1 zn : Int32} (hlk : Cond.methodLink M.1 idx arraycopyName ∈ lw_all) (hT0 : ty a0 = some (.inr (.object E, N))) (hT1 : ty a = some (.inr (.object E, N))) (hel : ∀ i, i < N → ∀ y, mr a0 i = some y → el_ ty E y) (hN : N < 65536) (hz0 : z0 = nI 0) (hz1 : z1 = nI 0) (hzn : zn = nI N) (hrest : (st.map fun v => v.category).sum ≤ 8) (hR1 : 1 ≤ M.2.2.2.2.1.frames) (hR2 : 8 + (nativeFrameWords "java/lang/System" "arraycopy" 5 + 11) ≤ M.2.2.2.2.1.locals) (d : decode cc pc = .ok (.invokestatic idx, 3)) (kk : G_ l D b M Q cc (pc + 3) ls st (ty, mi, cp_ mr a0 a, n) kc ks) : G_ l D b M Q cc pc ls (.int zn :: .int z1 :: .ref a :: .int z0 :: .ref a0 :: st) (ty, mi, mr, n) kc ks := by
  intro p e s m args below meth c0 H locs la C hw hs hl
  have hts := C.2.2.2.2.2.2.1
  obtain ⟨hb0, hAT, hc0⟩ := hw.2.1.2.2.2 a0 _ hT0
  obtain ⟨hba, -, hc1⟩ := hw.2.1.2.2.2 a _ hT1
  dsimp only at hc0 hc1
  have k0 : (nI 0).toNatClampNeg = 0 := nI_clamp (by omega)
  have kN : (nI N).toNatClampNeg = N := nI_clamp (by omega)
  subst hz0; subst hz1; subst hzn
  intro T hT X
  obtain ⟨-, kA, hkA, cm, hkk⟩ := (hw.1.2.1 _ hAT).1 N (fun j => sv_ (.object E) (mi a0 j) (mr a0 j))
  obtain ⟨vm', X', step⟩ := X.arraycopy C.1 C.2.2.2.2.2.1 (hts _ hlk) (hts _ q654) (hts _ q653) (hts _ q106) (src := a0) (dst := a) (cs := arrV (D.2.2.1 (.object E)) N (fun j => sv_ (.object E) (mi a0 j) (mr a0 j))) (cd := arrV (D.2.2.1 (.object E)) N (fun j => sv_ (.object E) (mi a j) (mr a j))) (srcPos := nI 0) (destPos := nI 0) (n := nI N) (by rw [hT]; exact hc0) (by rw [hT]; exact hc1)
    (fun _ h => by cases h) (fun _ h => by cases h) (fun h => by cases h) (fun h => by cases h) hkA hkA hkk hkk (by rfl) (nI_pos (by omega)) (nI_pos (by omega)) (nI_pos (by omega))
    (by rw [nI_toInt (by omega), nI_toInt (by omega), arrV_size]; omega)
    (by rw [nI_toInt (by omega), nI_toInt (by omega), arrV_size]; omega)
    (fun vm₁ hal i hi => by
      rw [kN] at hi
      have e : (arrV (D.2.2.1 (.object E)) N (fun j => sv_ (.object E) (mi a0 j) (mr a0 j))).slots.getD ((nI 0).toNatClampNeg + i) .null = va_rf (mr a0 i) := by
        rw [k0, Array.getD_eq_getD_getElem?, arrV_read _ _ (by omega), Nat.zero_add]
        rfl
      rw [e]
      cases hy : mr a0 i with
      | none => exact ⟨rfl, trivial⟩
      | some y =>
        obtain ⟨cv, qv, t1, t2, t3⟩ := hel i hi y hy
        obtain ⟨-, r, h1, ⟨cellV, g1, g2, g3, -⟩, -⟩ := hw.2.1.2.2.2 y _ t1
        obtain ⟨hf, kC, hkC, hkind⟩ := (hw.1.1 cv qv t2).2
        obtain ⟨kA2, comp, r1, r2, r3, -⟩ := (hw.1.2.1 _ hAT).2
        cases hkA.symm.trans r1
        cases hkk.symm.trans r2
        obtain ⟨kE, hkE, -⟩ := Vm.findClass_spec r3
        obtain ⟨kC', hkC', -⟩ := hal.2.2 _ _ hkC
        obtain ⟨kE', hkE', -⟩ := hal.2.2 _ _ hkE
        refine ⟨rfl, cellV, (show T.heap[y]? = some cellV by rw [hT]; exact g1), (fun q h => by rw [g3] at h; cases h), ⟨kC', by rw [g2]; exact hkC'⟩, ⟨kE', hkE'⟩, ?_⟩
        show vm₁.assignable _ _ = true
        rw [hal.assignable, g2]
        rcases t3 with e1 | e1
        · subst e1
          cases hf.symm.trans r3
          exact va_assign ⟨hf, kC, hkC, hkind⟩
        · obtain ⟨c2, t2, w1, w2, w3⟩ := Cond.castable_spec (hw.1.2.2.1 _ e1)
          cases hf.symm.trans w1
          cases r3.symm.trans w2
          exact w3)
    (g := F0 m pc la (.int (nI N) :: .int (nI 0) :: .ref a :: .int (nI 0) :: .ref a0 :: st)) rfl (hl.1.trans C.2.2.1.symm) (rest := st) rfl (by rw [C.2.1]; exact d) hR1 (by show 2 * 0 + _ + _ ≤ _; omega)
  have e1 : copied (arrV (D.2.2.1 (.object E)) N (fun j => sv_ (.object E) (mi a0 j) (mr a0 j))) (arrV (D.2.2.1 (.object E)) N (fun j => sv_ (.object E) (mi a j) (mr a j))) (nI 0) (nI 0) (nI N) = arrV (D.2.2.1 (.object E)) N (fun j => sv_ (.object E) (mi a j) (cp_ mr a0 a a j)) := by
    have e2 : copied (arrV (D.2.2.1 (.object E)) N (fun j => sv_ (.object E) (mi a0 j) (mr a0 j))) (arrV (D.2.2.1 (.object E)) N (fun j => sv_ (.object E) (mi a j) (mr a j))) (nI 0) (nI 0) (nI N) = _ := va_copied (fun z => va_rf z) (D.2.2.1 (.object E)) (D.2.2.1 (.object E)) (n0 := N) (n1 := N) (sp := (nI 0).toNatClampNeg) (dp := (nI 0).toNatClampNeg) (n := (nI N).toNatClampNeg) (mr a0) (mr a) (by rw [k0, kN]; omega)
    rw [e2, k0, kN]
    refine arrV_congr fun j hj => ?_
    rw [cp_d, pk_cpy_in (by omega) (by omega)]
    simp only [Nat.zero_add, Nat.sub_zero]
    rfl
  rw [e1] at X' step
  have hlt : a < H.size := (Array.getElem?_eq_some_iff.mp hc1).1
  have hheap : ((T.setVm vm').setCell a (arrV (D.2.2.1 (.object E)) N (fun j => sv_ (.object E) (mi a j) (cp_ mr a0 a a j)))).heap = H.setIfInBounds a (arrV (D.2.2.1 (.object E)) N (fun j => sv_ (.object E) (mi a j) (cp_ mr a0 a a j))) := by rw [← hT]; rfl
  have oq : ∀ q : Nat, q ≠ a → (H.setIfInBounds a (arrV (D.2.2.1 (.object E)) N (fun j => sv_ (.object E) (mi a j) (cp_ mr a0 a a j))))[q]? = H[q]? := fun q hq => by simp [Array.getElem?_setIfInBounds, Ne.symm hq]
  have hr2 : rp_ D b (ty, mi, cp_ mr a0 a, n) (H.setIfInBounds a (arrV (D.2.2.1 (.object E)) N (fun j => sv_ (.object E) (mi a j) (cp_ mr a0 a a j)))) :=
    hw.2.1.upd (by simp) oq (fun a2 k2 h => ⟨rfl, cp_a h⟩) hT1 ⟨hAT, by simp [Array.getElem?_setIfInBounds, hlt]⟩
  obtain ⟨t, a1, b1⟩ := kk p e s m args below meth c0 _ _ la C (hw.to hr2 (fun q hq => oq q (Nat.ne_of_lt (Nat.lt_of_lt_of_le hq hba)))) ⟨by simp; exact hs.1, fun q g1 => by rw [oq q (Nat.ne_of_lt (Nat.lt_of_lt_of_le g1 hba))]; exact hs.2.1 q g1, fun q hq => by
      rcases List.mem_append.mp hq with h | h
      · exact hs.2.2 q h
      · obtain ⟨z, -, hz⟩ := List.mem_map.mp h
        rw [← hz]
        exact hba⟩ hl _ hheap X'
  exact ⟨t, step t a1, b1⟩
end CPY
