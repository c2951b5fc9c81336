/-! ROWS OVER THE STORE: fields, arrays, new, the ends -/
set_option maxRecDepth 100000
theorem rp_at.kept {D : dd_} {mi mi2 : mi_} {mr mr2 : mr_} {H H1 : Heap} {a : Nat} {t : tg_} (h : rp_at D mi mr H a t) (hq : H1[a]? = H[a]?) (hm : ∀ k, mi2 a k = mi a k ∧ mr2 a k = mr a k) : rp_at D mi2 mr2 H1 a t := by
  obtain c | ⟨t, n⟩ := t
  · obtain ⟨r, h1, h2, h3⟩ := h
    exact ⟨r, h1, (h2.kept hq).to (fun k _ => by rw [(hm k).1, (hm k).2]), fun cell hc => h3 cell (by rw [← hq]; exact hc)⟩
  · refine ⟨h.1, ?_⟩
    rw [hq, h.2]
    congr 2
    funext j
    rw [(hm j).1, (hm j).2]
theorem rp_at.lt {D : dd_} {mi : mi_} {mr : mr_} {H : Heap} {a : Nat} {t : tg_} (h : rp_at D mi mr H a t) : a < H.size := by
  obtain c | ⟨t, n⟩ := t
  · obtain ⟨r, -, ⟨cell, h3, -⟩, -⟩ := h
    exact (Array.getElem?_eq_some_iff.mp h3).1
  · exact (Array.getElem?_eq_some_iff.mp h.2).1
theorem rp_.upd {D : dd_} {b n a : Nat} {ty : ty_} {mi mi2 : mi_} {mr mr2 : mr_} {H H1 : Heap} {t : tg_} (h : rp_ D b (ty, mi, mr, n) H) (hz : H1.size = H.size) (ho : ∀ q : Nat, q ≠ a → H1[q]? = H[q]?) (hm : ∀ a2 k, a2 ≠ a → mi2 a2 k = mi a2 k ∧ mr2 a2 k = mr a2 k) (ha : ty a = some t) (hat : rp_at D mi2 mr2 H1 a t) : rp_ D b (ty, mi2, mr2, n) H1 := by
  obtain ⟨h1, h2, h3, h4⟩ := h
  have hlt : a < n := by
    have := (h4 a t ha).2.lt
    dsimp only at h1
    omega
  refine ⟨hz.trans h1, by omega, fun a2 k h => ?_, fun a2 t2 h => ?_⟩
  · have hne : a2 ≠ a := fun q => by subst q; exact absurd h (Nat.not_le.mpr hlt)
    show mi2 a2 k = 0 ∧ mr2 a2 k = none
    rw [(hm a2 k hne).1, (hm a2 k hne).2]
    exact h3 a2 k h
  · by_cases hne : a2 = a
    · subst hne
      cases ha.symm.trans h
      exact ⟨(h4 a2 _ h).1, hat⟩
    · exact ⟨(h4 a2 t2 h).1, (h4 a2 t2 h).2.kept (ho a2 hne) (fun k => hm a2 k hne)⟩
theorem rp_.new {D : dd_} {b n : Nat} {ty : ty_} {mi : mi_} {mr : mr_} {H H1 : Heap} {t : tg_} (h : rp_ D b (ty, mi, mr, n) H) (hz : H1.size = H.size + 1) (ho : ∀ q : Nat, q < H.size → H1[q]? = H[q]?) (hat : rp_at D mi mr H1 n t) : rp_ D b (ut_ ty n t, mi, mr, n + 1) H1 := by
  obtain ⟨h1, h2, h3, h4⟩ := h
  dsimp only at h1 h2 h3 h4
  refine ⟨by dsimp only; omega, by omega, fun a k h => h3 a k (by dsimp only at h; omega), fun a t2 h => ?_⟩
  dsimp only at h
  by_cases hne : a = n
  · subst hne
    rw [ut_s] at h
    cases h
    exact ⟨by omega, hat⟩
  · rw [ut_a hne] at h
    exact ⟨(h4 a t2 h).1, (h4 a t2 h).2.kept (ho a (h4 a t2 h).2.lt) (fun k => ⟨rfl, rfl⟩)⟩
theorem sx_.put {b a k : Nat} {s : State} {H H1 : Heap} {locs : List Loc} (h : sx_ b s H locs) (z : H1.size = H.size) (oq : ∀ q : Nat, q ≠ a → H1[q]? = H[q]?) (ha : b ≤ a) : sx_ b s H1 (locs ++ [⟨a, k⟩]) := by
  refine ⟨by rw [z]; exact h.1, fun q h1 => ?_, fun q hq => ?_⟩
  · rw [oq q (by omega)]
    exact h.2.1 q h1
  · rcases List.mem_append.mp hq with h1 | h1
    · exact h.2.2 q h1
    · rw [List.mem_singleton.mp h1]
      exact ha
theorem sx_.new {b : Nat} {s : State} {H H1 : Heap} {locs : List Loc} (h : sx_ b s H locs) (hb : b ≤ H.size) (z : H1.size = H.size + 1) (oq : ∀ q : Nat, q < H.size → H1[q]? = H[q]?) : sx_ b s H1 locs :=
  ⟨by have := h.1; omega, fun q h1 => by rw [oq q (by omega)]; exact h.2.1 q h1, h.2.2⟩
theorem W_mono {p : Program} {l : Launch} {e : Env} {R : Room} {s : State} {m : MethodId} {args : Array Value} {below : List Frame} {meth : Method} {c : Code} {H : Heap} {locs : List Loc} {cells slots : Nat} {Q Q2 : State → Prop} {g : JFrame} (h : ∀ t, Q t → Q2 t) (k : W p l e R s m args below meth c H locs cells slots Q g) : W p l e R s m args below meth c H locs cells slots Q2 g := by
  intro T hT X
  obtain ⟨t, a, b⟩ := k T hT X
  exact ⟨t, a, h t b⟩
/-- the entry idx of the class own's pool is the field k of the class numbered c (its own, or a nest mate's) -/
def fl_ (own : String) (idx c k : Nat) : Prop := ∃ q : vw_C, CL_[c]? = some q ∧ k < q.2.2 ∧ ∃ ref : String, (Cond.fieldLink own idx ref (q.2.1 k).2.1 (q.2.1 k).2.2.1 ∈ lw_all ∨ ∃ host : String, Cond.fieldLinkNest own idx ref (q.2.1 k).2.1 (q.2.1 k).2.2.1 host ∈ nw_) ∧ (ref = (q.2.1 k).1 ∨ Cond.sameField ref (q.2.1 k).1 (q.2.1 k).2.1 (q.2.1 k).2.2.1 ∈ lw_all)
/-- the field may be written: not final, or by the constructor of the class that declares it -/
def fp_ (own nm : String) (c k : Nat) : Prop := ∀ q : vw_C, CL_[c]? = some q → (q.2.1 k).2.2.2 = false ∨ (nm = "<init>" ∧ (q.2.1 k).1 = own)
/-- a field's default value, by its type -/
theorem sv_dv {t : FieldType} (h : t = .int ∨ t = .boolean ∨ t.isReference = true) : defaultValue t = sv_ t 0 none := by
  rcases h with rfl | rfl | h
  · rfl
  · rfl
  · cases t <;> first | (exact absurd h (by decide)) | rfl
theorem ft_dv : ∀ (c : Nat) (q : vw_C), CL_[c]? = some q → ∀ k, k < q.2.2 → defaultValue (ft_ c k) = sv_ (ft_ c k) 0 none :=
  cl_all (P := fun c q => ∀ k, k < q.2.2 → defaultValue (ft_ c k) = sv_ (ft_ c k) 0 none) (fun k hk => sv_dv ((by decide +kernel : ∀ k, k < 24 → (tyX0 k = .int ∨ tyX0 k = .boolean ∨ (tyX0 k).isReference = true)) k hk)) no_lt no_lt no_lt no_lt no_lt no_lt no_lt no_lt no_lt no_lt no_lt no_lt no_lt no_lt (fun k hk => sv_dv ((by decide +kernel : ∀ k, k < 14 → (tyX15 k = .int ∨ tyX15 k = .boolean ∨ (tyX15 k).isReference = true)) k hk)) (fun k hk => sv_dv ((by decide +kernel : ∀ k, k < 27 → (tyX16 k = .int ∨ tyX16 k = .boolean ∨ (tyX16 k).isReference = true)) k hk)) no_lt (fun k hk => sv_dv ((by decide +kernel : ∀ k, k < 7 → (tyX18 k = .int ∨ tyX18 k = .boolean ∨ (tyX18 k).isReference = true)) k hk)) (fun k hk => sv_dv ((by decide +kernel : ∀ k, k < 3 → (tyX19 k = .int ∨ tyX19 k = .boolean ∨ (tyX19 k).isReference = true)) k hk)) (fun k hk => sv_dv ((by decide +kernel : ∀ k, k < 7 → (tyX20 k = .int ∨ tyX20 k = .boolean ∨ (tyX20 k).isReference = true)) k hk)) no_lt (fun k hk => sv_dv ((by decide +kernel : ∀ k, k < 2 → (tyX22 k = .int ∨ tyX22 k = .boolean ∨ (tyX22 k).isReference = true)) k hk)) (fun k hk => sv_dv ((by decide +kernel : ∀ k, k < 2 → (tyX23 k = .int ∨ tyX23 k = .boolean ∨ (tyX23 k).isReference = true)) k hk)) (fun k hk => sv_dv ((by decide +kernel : ∀ k, k < 2 → (tyX24 k = .int ∨ tyX24 k = .boolean ∨ (tyX24 k).isReference = true)) k hk)) (fun k hk => sv_dv ((by decide +kernel : ∀ k, k < 6 → (tyX25 k = .int ∨ tyX25 k = .boolean ∨ (tyX25 k).isReference = true)) k hk)) (fun k hk => sv_dv ((by decide +kernel : ∀ k, k < 3 → (tyX26 k = .int ∨ tyX26 k = .boolean ∨ (tyX26 k).isReference = true)) k hk))
section HEAP
variable {l : Launch} {D : dd_} {b : Nat} {M : mc_} {Q : Outcome → so_ → Prop} {cc : ByteArray} {pc : Nat} {ls : List (Option Value)} {st : List Value} {ty : ty_} {mi : mi_} {mr : mr_} {n : Nat} {kc ks : Nat}
theorem go_get {idx c k a : Nat} (f : fl_ M.1 idx c k) (d : decode cc pc = .ok (.getfield idx, 3)) (hT : ty a = some (.inl c)) {v : Value} (hv : sv_ (ft_ c k) (mi a k) (mr a k) = v) (kk : G_ l D b M Q cc (pc + 3) ls (v :: st) (ty, mi, mr, n) kc ks) : G_ l D b M Q cc pc ls (.ref a :: st) (ty, mi, mr, n) kc ks := by
  intro p e s m args below meth c0 H locs la C hw hs hl
  obtain ⟨q, hc, hk, ref, hlink, hsame⟩ := f
  obtain ⟨hba, r, h1, ⟨cell, q1, q2, q3, q4⟩, hmo⟩ := hw.2.1.2.2.2 a _ hT
  have hr : r = q := Option.some.inj (h1.symm.trans hc)
  subst hr
  obtain ⟨hS, hfc, kC, hkC, hkind⟩ := hw.1.1 c _ hc
  obtain ⟨cf, kf, fi, f, hi, hsl⟩ := hS k hk
  have hts := C.2.2.2.2.2.2.1
  have hst := (u_facts hfc hkC (u_lays hts (cl_in c _ hc) hk) hi).1
  have hsf : s.fieldFound? ref (r.2.1 k).2.1 (r.2.1 k).2.2.1 = some (cf, kf, fi, f) := by
    rcases hsame with e1 | e1
    · rw [e1]; exact hi
    · exact u_same (hts _ e1) _ hi
  have hvv : cell.slots[f.slot]? = some v := by
    rw [hsl, q4 k hk]
    exact congrArg some hv
  have kw := kk p e s m args below meth c0 H locs la C hw hs hl
  rcases hlink with hlink | ⟨host, hlink⟩
  · exact W.getf C.1 C.2.1 C.2.2.2.2.2.1 (hts _ hlink) hsf hst q1 (by rw [q3]; exact fun h => by cases h) hvv rfl rfl d kw
  · exact va_Wgetf C.1 C.2.1 C.2.2.2.2.2.1 (va_Nw.use rfl (hw.1.2.2.1 _ hlink)) hsf hst q1 (by rw [q3]; exact fun h => by cases h) hvv rfl rfl d kw
theorem go_getI {idx c k a : Nat} (f : fl_ M.1 idx c k) (d : decode cc pc = .ok (.getfield idx, 3)) (hT : ty a = some (.inl c)) (hr : (ft_ c k).isReference = false) (kk : G_ l D b M Q cc (pc + 3) ls (.int (mi a k) :: st) (ty, mi, mr, n) kc ks) : G_ l D b M Q cc pc ls (.ref a :: st) (ty, mi, mr, n) kc ks :=
  go_get f d hT (v := .int (mi a k)) (by unfold sv_; rw [hr]; rfl) kk
theorem go_getR {idx c k a q : Nat} (f : fl_ M.1 idx c k) (d : decode cc pc = .ok (.getfield idx, 3)) (hT : ty a = some (.inl c)) (hr : (ft_ c k).isReference = true) (hq : mr a k = some q) (kk : G_ l D b M Q cc (pc + 3) ls (.ref q :: st) (ty, mi, mr, n) kc ks) : G_ l D b M Q cc pc ls (.ref a :: st) (ty, mi, mr, n) kc ks :=
  go_get f d hT (v := .ref q) (by unfold sv_; rw [hr, hq]; rfl) kk
theorem go_put {idx c k a : Nat} {v : Value} {mi2 : mi_} {mr2 : mr_} (f : fl_ M.1 idx c k) (fp : fp_ M.1 M.2.1 c k) (hn : narrow (ft_ c k) v = v) (hfit : fits (ft_ c k) v = true) (d : decode cc pc = .ok (.putfield idx, 3)) (hT : ty a = some (.inl c)) (hm : ∀ a2 k2, a2 ≠ a → mi2 a2 k2 = mi a2 k2 ∧ mr2 a2 k2 = mr a2 k2) (hm2 : ∀ k2, sv_ (ft_ c k2) (mi2 a k2) (mr2 a k2) = updV (fun k => sv_ (ft_ c k) (mi a k) (mr a k)) k v k2) (kk : G_ l D b M Q cc (pc + 3) ls st (ty, mi2, mr2, n) kc ks) : G_ l D b M Q cc pc ls (v :: .ref a :: st) (ty, mi, mr, n) kc ks := by
  intro p e s m args below meth c0 H locs la C hw hs hl
  obtain ⟨q, hc, hk, ref, hlink, hsame⟩ := f
  obtain ⟨hba, r, h1, ⟨cell, q1, q2, q3, q4⟩, hmo⟩ := hw.2.1.2.2.2 a _ hT
  have hr : r = q := Option.some.inj (h1.symm.trans hc)
  subst hr
  have hts := C.2.2.2.2.2.2.1
  have hin := cl_in c _ hc
  obtain ⟨hS, hfc, kC, hkC, hkind⟩ := hw.1.1 c _ hc
  have hap : ∀ x y, x < r.2.2 → y < r.2.2 → x ≠ y → (D.2.1 c) x ≠ (D.2.1 c) y := by
    intro x y hx hy hne
    obtain ⟨_, _, _, fa, hia, ea⟩ := hS x hx
    obtain ⟨_, _, _, fb, hib, eb⟩ := hS y hy
    rw [← ea, ← eb]
    refine u_apart (u_lays hts hin hx) (u_lays hts hin hy) hia hib ?_
    rw [(State.fieldFound?_type hia (cl_ty c _ hc x hx)).1, (State.fieldFound?_type hib (cl_ty c _ hc y hy)).1]
    exact cl_nm c _ hc x hx y hy hne
  obtain ⟨cf, kf, fi, f, hi, hsl⟩ := hS k hk
  have hst := (u_facts hfc hkC (u_lays hts hin hk) hi).1
  have hsf : s.fieldFound? ref (r.2.1 k).2.1 (r.2.1 k).2.2.1 = some (cf, kf, fi, f) := by
    rcases hsame with e1 | e1
    · rw [e1]; exact hi
    · exact u_same (hts _ e1) _ hi
  have hd := cl_ty c _ hc k hk
  have hlay := hts _ (hin _ (u_in_lay hk))
  unfold u_lay at hlay
  have fin : ∀ (H1 : Heap) (L1 : Loc), L1.base = a → H1[a]? = some (cell.setSlot f.slot v) → H1.size = H.size → (∀ q, q ≠ a → H1[q]? = H[q]?) → W p l e M.2.2.2.2.1 s m args below meth c0 H1 (locs ++ [L1]) kc ks (mq_ D b below Q s M.2.2.2.2.1.cells M.2.2.2.2.1.slots) (F0 m (pc + 3) la st) := by
    intro H1 L1 hL1 e1 e2 e3
    obtain ⟨La, Li⟩ := L1
    cases hL1
    rw [hsl] at e1
    have hr2 : rp_ D b (ty, mi2, mr2, n) H1 := hw.2.1.upd e2 e3 hm hT ⟨r, h1, t_OB.to ⟨_, e1, q2, q3, t_set q4 hap hk v⟩ (fun j _ => (hm2 j).symm), fun c2 hc2 => by rw [e1] at hc2; cases hc2; exact hmo cell q1⟩
    exact kk p e s m args below meth c0 H1 _ la C (hw.to hr2 (fun q hq => e3 q (Nat.ne_of_lt (Nat.lt_of_lt_of_le hq hba)))) (hs.put e2 e3 hba) hl
  rcases fp r hc with hf | ⟨hnm, hdecl⟩
  · rw [if_neg (by rw [hf]; decide)] at hlay
    have h6 := u_store hfc hkC hkind hlay hi hd hn hfit
    rcases hlink with hlink | ⟨host, hlink⟩
    · exact W.putK C.1 C.2.1 (f := f) ⟨C.2.2.2.2.2.1, hts _ hlink, ⟨_, _, _, hsf⟩, hst⟩ (by rw [q2]; exact h6) q1 q3 (by rw [hsl]; exact k2_hasslot (q4 k hk)) rfl rfl d (fun H1 e1 e2 e3 => fin H1 _ rfl e1 e2 e3)
    · exact va_WputK C.1 C.2.1 C.2.2.2.2.2.1 (va_Nw.use rfl (hw.1.2.2.1 _ hlink)) hsf hst (by rw [q2]; exact h6) q1 q3 (by rw [hsl]; exact k2_hasslot (q4 k hk)) rfl rfl d (fun H1 e1 e2 e3 => fin H1 _ rfl e1 e2 e3)
  · by_cases hf : (r.2.1 k).2.2.2 = true
    · rw [if_pos hf] at hlay
      have hcf : m.cls = cf := by
        obtain ⟨_, _, c', _, _, _, -, -, hf', -, -, -, hown2, -⟩ := Cond.laysFinal_spec hlay
        have e1 : c' = cf := by have := hi.symm.trans hf'; simp at this; exact this.1.symm
        rw [hdecl] at hown2
        rw [← e1]; exact Option.some.inj (C.2.2.2.2.2.1.symm.trans hown2)
      have h6 := u_fits hfc hkC hkind (Or.inr hlay) hi hd hn hfit
      rcases hlink with hlink | ⟨host, hlink⟩
      · exact W.putFinK C.1 C.2.1 C.2.2.2.2.2.1 (hts _ hlink) hsf hst hcf (C.2.2.2.2.2.2.2.1.trans hnm) (by rw [q2]; exact h6) q1 q3 (by rw [hsl]; exact k2_hasslot (q4 k hk)) rfl rfl d (fun H1 e1 e2 e3 => fin H1 _ rfl e1 e2 e3)
      · have ha : a < H.size := (Array.getElem?_eq_some_iff.mp q1).1
        refine va_Wputf C.1 C.2.1 C.2.2.2.2.2.1 (va_Nw.use rfl (hw.1.2.2.1 _ hlink)) hsf hst (Or.inr ⟨hcf, C.2.2.2.2.2.2.2.1.trans hnm⟩) q1 (by rw [q3]; exact fun h => by cases h) (by rw [hsl]; exact k2_hasslot (q4 k hk)) h6.1 (by rw [q2, q3]; exact h6.2) rfl rfl d ?_
        refine fin _ _ rfl ?_ ?_ ?_
        · simp [Array.getElem?_setIfInBounds, ha]
        · simp
        · intro q hq
          simp [Array.getElem?_setIfInBounds, Ne.symm hq]
    · rw [if_neg hf] at hlay
      have h6 := u_store hfc hkC hkind hlay hi hd hn hfit
      rcases hlink with hlink | ⟨host, hlink⟩
      · exact W.putK C.1 C.2.1 (f := f) ⟨C.2.2.2.2.2.1, hts _ hlink, ⟨_, _, _, hsf⟩, hst⟩ (by rw [q2]; exact h6) q1 q3 (by rw [hsl]; exact k2_hasslot (q4 k hk)) rfl rfl d (fun H1 e1 e2 e3 => fin H1 _ rfl e1 e2 e3)
      · exact va_WputK C.1 C.2.1 C.2.2.2.2.2.1 (va_Nw.use rfl (hw.1.2.2.1 _ hlink)) hsf hst (by rw [q2]; exact h6) q1 q3 (by rw [hsl]; exact k2_hasslot (q4 k hk)) rfl rfl d (fun H1 e1 e2 e3 => fin H1 _ rfl e1 e2 e3)
theorem go_putI {idx c k a : Nat} {x : Int32} (f : fl_ M.1 idx c k) (fp : fp_ M.1 M.2.1 c k) (hr : (ft_ c k).isReference = false) (hn : narrow (ft_ c k) (.int x) = .int x) (hfit : fits (ft_ c k) (.int x) = true) (d : decode cc pc = .ok (.putfield idx, 3)) (hT : ty a = some (.inl c)) (kk : G_ l D b M Q cc (pc + 3) ls st (ty, um_ mi a k x, mr, n) kc ks) : G_ l D b M Q cc pc ls (.int x :: .ref a :: st) (ty, mi, mr, n) kc ks := by
  refine go_put f fp hn hfit d hT (fun a2 k2 h => ⟨um_a h, rfl⟩) (fun k2 => ?_) kk
  unfold updV
  by_cases h : k2 = k
  · subst h
    rw [if_pos rfl, um_s]
    unfold sv_
    rw [hr]
    rfl
  · rw [if_neg h, um_k h]
theorem go_putR {idx c k a : Nat} {x : Option Nat} {v : Value} (f : fl_ M.1 idx c k) (fp : fp_ M.1 M.2.1 c k) (hr : (ft_ c k).isReference = true) (hx : va_rf x = v) (hn : narrow (ft_ c k) v = v) (hfit : fits (ft_ c k) v = true) (d : decode cc pc = .ok (.putfield idx, 3)) (hT : ty a = some (.inl c)) (kk : G_ l D b M Q cc (pc + 3) ls st (ty, mi, ur_ mr a k x, n) kc ks) : G_ l D b M Q cc pc ls (v :: .ref a :: st) (ty, mi, mr, n) kc ks := by
  refine go_put f fp hn hfit d hT (fun a2 k2 h => ⟨rfl, ur_a h⟩) (fun k2 => ?_) kk
  unfold updV
  by_cases h : k2 = k
  · subst h
    rw [if_pos rfl, ur_s]
    unfold sv_
    rw [hr, ← hx]
    rfl
  · rw [if_neg h, ur_k h]
/-- an index within -/
def ix_ (i : Int32) (j N : Nat) : Prop := i = nI j ∧ j < N ∧ N < 2 ^ 31
theorem ix_.in {i : Int32} {j N : Nat} (h : ix_ i j N) : vp_in i N := by rw [h.1]; exact vp_in_nI h.2.1 h.2.2
theorem ix_.cl {i : Int32} {j N : Nat} (h : ix_ i j N) : i.toNatClampNeg = j := by rw [h.1]; exact nI_clamp (by have := h.2.1; have := h.2.2; omega)
theorem go_alen {a N : Nat} {t : FieldType} {v : Int32} (d : decode cc pc = .ok (.arraylength, 1)) (hT : ty a = some (.inr (t, N))) (hv : Int32.ofNat N = v) (kk : G_ l D b M Q cc (pc + 1) ls (.int v :: st) (ty, mi, mr, n) kc ks) : G_ l D b M Q cc pc ls (.ref a :: st) (ty, mi, mr, n) kc ks := by
  intro p e s m args below meth c0 H locs la C hw hs hl
  obtain ⟨hba, hAT, hcell⟩ := hw.2.1.2.2.2 a _ hT
  exact W.alen (n := v) C.1 C.2.1 hcell ((hw.1.2.1 t hAT).1 N _) (by rw [arrV_size]; exact hv) rfl rfl d (kk p e s m args below meth c0 H locs la C hw hs hl)
theorem go_iald {a N j : Nat} {i : Int32} (d : decode cc pc = .ok (.iaload, 1)) (hT : ty a = some (.inr (.int, N))) (hi : ix_ i j N) (kk : G_ l D b M Q cc (pc + 1) ls (.int (mi a j) :: st) (ty, mi, mr, n) kc ks) : G_ l D b M Q cc pc ls (.int i :: .ref a :: st) (ty, mi, mr, n) kc ks := by
  intro p e s m args below meth c0 H locs la C hw hs hl
  obtain ⟨hba, hAT, hcell⟩ := hw.2.1.2.2.2 a _ hT
  have hcl := hi.cl
  exact W.iald (v := .int (mi a j)) C.1 C.2.1 hcell ((hw.1.2.1 _ hAT).1 N _) (fun q => by cases q) (by rw [arrV_size]; exact hi.in) (by rw [hcl, arrV_read _ _ hi.2.1]; rfl) rfl rfl d (kk p e s m args below meth c0 H locs la C hw hs hl)
theorem go_bald {a N j : Nat} {i : Int32} (d : decode cc pc = .ok (.baload, 1)) (hT : ty a = some (.inr (.byte, N))) (hi : ix_ i j N) (kk : G_ l D b M Q cc (pc + 1) ls (.int (mi a j) :: st) (ty, mi, mr, n) kc ks) : G_ l D b M Q cc pc ls (.int i :: .ref a :: st) (ty, mi, mr, n) kc ks := by
  intro p e s m args below meth c0 H locs la C hw hs hl
  obtain ⟨hba, hAT, hcell⟩ := hw.2.1.2.2.2 a _ hT
  have hcl := hi.cl
  exact W.bald (v := .int (mi a j)) C.1 C.2.1 hcell ((hw.1.2.1 _ hAT).1 N _) (fun q => by cases q) (by rw [arrV_size]; exact hi.in) (by rw [hcl, arrV_read _ _ hi.2.1]; rfl) rfl rfl d (kk p e s m args below meth c0 H locs la C hw hs hl)
theorem go_zald {a N j : Nat} {i : Int32} (d : decode cc pc = .ok (.baload, 1)) (hT : ty a = some (.inr (.boolean, N))) (hi : ix_ i j N) (kk : G_ l D b M Q cc (pc + 1) ls (.int (mi a j) :: st) (ty, mi, mr, n) kc ks) : G_ l D b M Q cc pc ls (.int i :: .ref a :: st) (ty, mi, mr, n) kc ks := by
  intro p e s m args below meth c0 H locs la C hw hs hl
  obtain ⟨hba, hAT, hcell⟩ := hw.2.1.2.2.2 a _ hT
  have hcl := hi.cl
  exact W.zald (v := .int (mi a j)) C.1 C.2.1 hcell ((hw.1.2.1 _ hAT).1 N _) (fun q => by cases q) (by rw [arrV_size]; exact hi.in) (by rw [hcl, arrV_read _ _ hi.2.1]; rfl) rfl rfl d (kk p e s m args below meth c0 H locs la C hw hs hl)
theorem go_cald {a N j : Nat} {i : Int32} (d : decode cc pc = .ok (.caload, 1)) (hT : ty a = some (.inr (.char, N))) (hi : ix_ i j N) (kk : G_ l D b M Q cc (pc + 1) ls (.int (mi a j) :: st) (ty, mi, mr, n) kc ks) : G_ l D b M Q cc pc ls (.int i :: .ref a :: st) (ty, mi, mr, n) kc ks := by
  intro p e s m args below meth c0 H locs la C hw hs hl
  obtain ⟨hba, hAT, hcell⟩ := hw.2.1.2.2.2 a _ hT
  have hcl := hi.cl
  exact W.cald (v := .int (mi a j)) C.1 C.2.1 hcell ((hw.1.2.1 _ hAT).1 N _) (fun q => by cases q) (by rw [arrV_size]; exact hi.in) (by rw [hcl, arrV_read _ _ hi.2.1]; rfl) rfl rfl d (kk p e s m args below meth c0 H locs la C hw hs hl)
theorem go_aald {a N j q : Nat} {i : Int32} {Cn : String} (d : decode cc pc = .ok (.aaload, 1)) (hT : ty a = some (.inr (.object Cn, N))) (hi : ix_ i j N) (hq : mr a j = some q) (kk : G_ l D b M Q cc (pc + 1) ls (.ref q :: st) (ty, mi, mr, n) kc ks) : G_ l D b M Q cc pc ls (.int i :: .ref a :: st) (ty, mi, mr, n) kc ks := by
  intro p e s m args below meth c0 H locs la C hw hs hl
  obtain ⟨hba, hAT, hcell⟩ := hw.2.1.2.2.2 a _ hT
  have hcl := hi.cl
  exact W.aald (v := .ref q) (ty := .object Cn) C.1 C.2.1 hcell ((hw.1.2.1 _ hAT).1 N _) rfl (fun q => by cases q) (by rw [arrV_size]; exact hi.in) (by rw [hcl, arrV_read _ _ hi.2.1]; show some (va_rf (mr a j)) = _; rw [hq]; rfl) rfl rfl d (kk p e s m args below meth c0 H locs la C hw hs hl)
theorem go_iast {a N j : Nat} {i x : Int32} (d : decode cc pc = .ok (.iastore, 1)) (hT : ty a = some (.inr (.int, N))) (hi : ix_ i j N) (kk : G_ l D b M Q cc (pc + 1) ls st (ty, um_ mi a j x, mr, n) kc ks) : G_ l D b M Q cc pc ls (.int x :: .int i :: .ref a :: st) (ty, mi, mr, n) kc ks := by
  intro p e s m args below meth c0 H locs la C hw hs hl
  obtain ⟨hba, hAT, hcell⟩ := hw.2.1.2.2.2 a _ hT
  have hcl := hi.cl
  refine W.iast C.1 C.2.1 hcell ((hw.1.2.1 _ hAT).1 N _) (fun q => by cases q) (by rw [arrV_size]; exact hi.in) rfl rfl d fun H1 e1 e2 e3 => ?_
  have hr2 : rp_ D b (ty, um_ mi a j x, mr, n) H1 := by
    refine hw.2.1.upd e2 e3 (fun a2 k2 h => ⟨um_a h, rfl⟩) hT ⟨hAT, ?_⟩
    rw [e1, hcl, arrV_store]
    congr 2
    funext q
    unfold updV
    by_cases hq : q = j
    · subst hq
      rw [if_pos rfl, um_s]
      first | rfl | (simp [sv_, vp_nar, FieldType.isReference]; try rfl)
    · rw [if_neg hq, um_k hq]
  exact kk p e s m args below meth c0 H1 _ la C (hw.to hr2 (fun q hq => e3 q (Nat.ne_of_lt (Nat.lt_of_lt_of_le hq hba)))) (hs.put e2 e3 hba) hl
theorem go_bast {a N j : Nat} {i x : Int32} (d : decode cc pc = .ok (.bastore, 1)) (hT : ty a = some (.inr (.byte, N))) (hi : ix_ i j N) (kk : G_ l D b M Q cc (pc + 1) ls st (ty, um_ mi a j (vp_nar .byte x), mr, n) kc ks) : G_ l D b M Q cc pc ls (.int x :: .int i :: .ref a :: st) (ty, mi, mr, n) kc ks := by
  intro p e s m args below meth c0 H locs la C hw hs hl
  obtain ⟨hba, hAT, hcell⟩ := hw.2.1.2.2.2 a _ hT
  have hcl := hi.cl
  refine W.bast C.1 C.2.1 hcell ((hw.1.2.1 _ hAT).1 N _) (fun q => by cases q) (by rw [arrV_size]; exact hi.in) rfl rfl d fun H1 e1 e2 e3 => ?_
  have hr2 : rp_ D b (ty, um_ mi a j (vp_nar .byte x), mr, n) H1 := by
    refine hw.2.1.upd e2 e3 (fun a2 k2 h => ⟨um_a h, rfl⟩) hT ⟨hAT, ?_⟩
    rw [e1, hcl, arrV_store]
    congr 2
    funext q
    unfold updV
    by_cases hq : q = j
    · subst hq
      rw [if_pos rfl, um_s]
      first | rfl | (simp [sv_, vp_nar, FieldType.isReference]; try rfl)
    · rw [if_neg hq, um_k hq]
  exact kk p e s m args below meth c0 H1 _ la C (hw.to hr2 (fun q hq => e3 q (Nat.ne_of_lt (Nat.lt_of_lt_of_le hq hba)))) (hs.put e2 e3 hba) hl
theorem go_zast {a N j : Nat} {i x : Int32} (d : decode cc pc = .ok (.bastore, 1)) (hT : ty a = some (.inr (.boolean, N))) (hi : ix_ i j N) (kk : G_ l D b M Q cc (pc + 1) ls st (ty, um_ mi a j (vp_nar .boolean x), mr, n) kc ks) : G_ l D b M Q cc pc ls (.int x :: .int i :: .ref a :: st) (ty, mi, mr, n) kc ks := by
  intro p e s m args below meth c0 H locs la C hw hs hl
  obtain ⟨hba, hAT, hcell⟩ := hw.2.1.2.2.2 a _ hT
  have hcl := hi.cl
  refine W.zast C.1 C.2.1 hcell ((hw.1.2.1 _ hAT).1 N _) (fun q => by cases q) (by rw [arrV_size]; exact hi.in) rfl rfl d fun H1 e1 e2 e3 => ?_
  have hr2 : rp_ D b (ty, um_ mi a j (vp_nar .boolean x), mr, n) H1 := by
    refine hw.2.1.upd e2 e3 (fun a2 k2 h => ⟨um_a h, rfl⟩) hT ⟨hAT, ?_⟩
    rw [e1, hcl, arrV_store]
    congr 2
    funext q
    unfold updV
    by_cases hq : q = j
    · subst hq
      rw [if_pos rfl, um_s]
      first | rfl | (simp [sv_, vp_nar, FieldType.isReference]; try rfl)
    · rw [if_neg hq, um_k hq]
  exact kk p e s m args below meth c0 H1 _ la C (hw.to hr2 (fun q hq => e3 q (Nat.ne_of_lt (Nat.lt_of_lt_of_le hq hba)))) (hs.put e2 e3 hba) hl
theorem go_cast {a N j : Nat} {i x : Int32} (d : decode cc pc = .ok (.castore, 1)) (hT : ty a = some (.inr (.char, N))) (hi : ix_ i j N) (kk : G_ l D b M Q cc (pc + 1) ls st (ty, um_ mi a j (vp_nar .char x), mr, n) kc ks) : G_ l D b M Q cc pc ls (.int x :: .int i :: .ref a :: st) (ty, mi, mr, n) kc ks := by
  intro p e s m args below meth c0 H locs la C hw hs hl
  obtain ⟨hba, hAT, hcell⟩ := hw.2.1.2.2.2 a _ hT
  have hcl := hi.cl
  refine W.cast C.1 C.2.1 hcell ((hw.1.2.1 _ hAT).1 N _) (fun q => by cases q) (by rw [arrV_size]; exact hi.in) rfl rfl d fun H1 e1 e2 e3 => ?_
  have hr2 : rp_ D b (ty, um_ mi a j (vp_nar .char x), mr, n) H1 := by
    refine hw.2.1.upd e2 e3 (fun a2 k2 h => ⟨um_a h, rfl⟩) hT ⟨hAT, ?_⟩
    rw [e1, hcl, arrV_store]
    congr 2
    funext q
    unfold updV
    by_cases hq : q = j
    · subst hq
      rw [if_pos rfl, um_s]
      first | rfl | (simp [sv_, vp_nar, FieldType.isReference]; try rfl)
    · rw [if_neg hq, um_k hq]
  exact kk p e s m args below meth c0 H1 _ la C (hw.to hr2 (fun q hq => e3 q (Nat.ne_of_lt (Nat.lt_of_lt_of_le hq hba)))) (hs.put e2 e3 hba) hl
theorem go_aast {a N j v cv : Nat} {i : Int32} {Cn : String} {qv : vw_C} (d : decode cc pc = .ok (.aastore, 1)) (hT : ty a = some (.inr (.object Cn, N))) (hi : ix_ i j N) (hV : ty v = some (.inl cv)) (hcv : CL_[cv]? = some qv) (hcast : qv.1 = Cn ∨ Cond.castable qv.1 Cn ∈ nw_) (kk : G_ l D b M Q cc (pc + 1) ls st (ty, mi, ur_ mr a j (some v), n) kc ks) : G_ l D b M Q cc pc ls (.ref v :: .int i :: .ref a :: st) (ty, mi, mr, n) kc ks := by
  intro p e s m args below meth c0 H locs la C hw hs hl
  obtain ⟨hba, hAT, hcell⟩ := hw.2.1.2.2.2 a _ hT
  obtain ⟨-, r, h1, ⟨cellV, g1, g2, g3, -⟩, -⟩ := hw.2.1.2.2.2 v _ hV
  have hcl := hi.cl
  have hcls := (hw.1.1 cv qv hcv).2
  obtain ⟨kA, comp, k1, k2, k3, -⟩ := (hw.1.2.1 _ hAT).2
  obtain ⟨hf, kC, hkC, hkind⟩ := hcls
  have has : s.vm.assignable cellV.cls comp = true ∧ ∃ kc, s.vm.classes[comp]? = some kc := by
    rcases hcast with e1 | e1
    · subst e1
      cases hf.symm.trans k3
      rw [g2]
      exact ⟨va_assign ⟨hf, kC, hkC, hkind⟩, kC, hkC⟩
    · have hz := hw.1.2.2.1 _ e1
      obtain ⟨c2, t2, w1, w2, w3⟩ := Cond.castable_spec hz
      cases hf.symm.trans w1
      cases k3.symm.trans w2
      rw [g2]
      exact ⟨w3, (Vm.findClass_spec k3).imp (fun _ h => h.1)⟩
  obtain ⟨ha1, kcomp, ha2⟩ := has
  refine W.aast C.1 C.2.1 hcell (fun q h => by cases h) (fun h => by cases h) k1 k2 rfl ha2 ⟨fun q => hi.in (Or.inl q), by rw [arrV_size, hcl]; exact hi.2.1⟩ g1 (fun q h => by rw [g3] at h; cases h) (by rw [g2]; exact hkC) ha1 rfl rfl d fun H1 e1 e2 e3 => ?_
  have hr2 : rp_ D b (ty, mi, ur_ mr a j (some v), n) H1 := by
    refine hw.2.1.upd e2 e3 (fun a2 k2 h => ⟨rfl, ur_a h⟩) hT ⟨hAT, ?_⟩
    rw [e1, hcl, arrV_store]
    congr 2
    funext q
    unfold updV
    by_cases hq : q = j
    · subst hq
      rw [if_pos rfl, ur_s]
      rfl
    · rw [if_neg hq, ur_k hq]
  exact kk p e s m args below meth c0 H1 _ la C (hw.to hr2 (fun q hq => e3 q (Nat.ne_of_lt (Nat.lt_of_lt_of_le hq hba)))) (hs.put e2 e3 hba) hl
theorem go_new {idx c : Nat} {q : vw_C} (hc : CL_[c]? = some q) (hcl : Cond.classLink M.1 idx q.1 ∈ lw_all) (hini : Cond.initialized q.1 ∈ lw_all) (d : decode cc pc = .ok (.new idx, 3)) (h1 : kc + 1 ≤ M.2.2.2.2.1.cells) (h2 : ks + q.2.2 ≤ M.2.2.2.2.1.slots) (kk : G_ l D b M Q cc (pc + 3) ls (.ref n :: st) (ut_ ty n (.inl c), mi, mr, n + 1) (kc + 1) (ks + q.2.2)) : G_ l D b M Q cc pc ls st (ty, mi, mr, n) kc ks := by
  intro p e s m args below meth c0 H locs la C hw hs hl
  have hts := C.2.2.2.2.2.2.1
  have hKn := hw.1.1 c _ hc
  have hsz : H.size = n := hw.2.1.1
  refine W.newcK C.1 C.2.1 C.2.2.2.2.2.1 (hts _ hcl) (hts _ (cl_inst c _ hc)) (hts _ hini) rfl d h1 h2 hKn.2.1 hsz fun H1 kC hkC e1 z1 o1 => ?_
  subst hsz
  have hbl : ∀ a k, H.size ≤ a → mi a k = 0 ∧ mr a k = none := hw.2.1.2.2.1
  have hr2 : rp_ D b (ut_ ty H.size (.inl c), mi, mr, H.size + 1) H1 := by
    refine hw.2.1.new z1 o1 ⟨q, hc, (u_born (ft_ c) hts (cl_in c _ hc) hKn hkC e1 (cl_ty c _ hc)).to (fun k hk => ?_), fun c2 hc2 => by rw [e1] at hc2; cases hc2; exact ⟨rfl, rfl⟩⟩
    rw [(hbl H.size k (Nat.le_refl _)).1, (hbl H.size k (Nat.le_refl _)).2]
    exact ft_dv c q hc k hk
  exact kk p e s m args below meth c0 H1 _ la C (hw.to hr2 (fun q hq => o1 q (Nat.lt_of_lt_of_le hq hw.2.1.2.1))) (hs.new hw.2.1.2.1 z1 o1) hl
theorem go_newa {N : Nat} {t : FieldType} {i : Int32} {at_ : ArrayType} (hty : newarray.typeOf at_ = t) (hAT : t ∈ AT_) (hac : Cond.arrayClass t ∈ lw_all) (hdv : defaultValue t = .int 0) (hrf : t.isReference = false) (d : decode cc pc = .ok (.newarray at_, 2)) (hi : i = nI N) (hN : N < 65536) (hcb : componentBytes t ≤ 8) (h1 : kc + 1 ≤ M.2.2.2.2.1.cells) (h2 : ks + N ≤ M.2.2.2.2.1.slots) (kk : G_ l D b M Q cc (pc + 2) ls (.ref n :: st) (ut_ ty n (.inr (t, N)), mi, mr, n + 1) (kc + 1) (ks + N)) : G_ l D b M Q cc pc ls (.int i :: st) (ty, mi, mr, n) kc ks := by
  intro p e s m args below meth c0 H locs la C hw hs hl
  subst hty
  have hts := C.2.2.2.2.2.2.1
  have hsz : H.size = n := hw.2.1.1
  have hcl : i.toNatClampNeg = N := by rw [hi]; exact nI_clamp (by omega)
  refine va_newaK C.1 C.2.1 (hts _ hac) rfl d rfl (by rw [hi]; exact nI_pos (by omega)) hcl (Nat.le_trans (Nat.mul_le_mul_left N hcb) (by omega)) h1 h2 hsz fun H1 cA e1 z1 o1 hAr hNm => ?_
  subst hsz
  have hbl : ∀ a k, H.size ≤ a → mi a k = 0 ∧ mr a k = none := hw.2.1.2.2.1
  have hcA : cA = D.2.2.1 (newarray.typeOf at_) := by
    have h3 := (hw.1.2.1 _ hAT).2
    have h4 : s.vm.findClass ("[" ++ (newarray.typeOf at_).toString) = some (D.2.2.1 (newarray.typeOf at_)) := by
      cases at_ <;> exact h3
    exact Option.some.inj (hNm.symm.trans h4)
  have hr2 : rp_ D b (ut_ ty H.size (.inr (newarray.typeOf at_, N)), mi, mr, H.size + 1) H1 := by
    refine hw.2.1.new z1 (fun q hq => o1 q hq) ⟨hAT, ?_⟩
    rw [e1, hcA]
    congr 2
    funext j
    rw [(hbl H.size j (Nat.le_refl _)).1, hdv]
    unfold sv_
    rw [hrf]
    rfl
  exact kk p e s m args below meth c0 H1 _ la C (hw.to hr2 (fun q hq => o1 q (Nat.lt_of_lt_of_le hq hw.2.1.2.1))) (hs.new hw.2.1.2.1 z1 (fun q hq => o1 q hq)) hl
theorem go_newq {N idx : Nat} {Cn : String} {i : Int32} (hAT : FieldType.object Cn ∈ AT_) (hCn : Cn ∈ ["GoodHalfEmpty$Sort", "GoodHalfEmpty$Rule", "GoodHalfEmpty$Goer", "GoodHalfEmpty$Told"]) (hcl : Cond.classLink M.1 idx Cn ∈ lw_all) (d : decode cc pc = .ok (.anewarray idx, 3)) (hi : i = nI N) (hN : N < 65536) (h1 : kc + 1 ≤ M.2.2.2.2.1.cells) (h2 : ks + N ≤ M.2.2.2.2.1.slots) (kk : G_ l D b M Q cc (pc + 3) ls (.ref n :: st) (ut_ ty n (.inr (.object Cn, N)), mi, mr, n + 1) (kc + 1) (ks + N)) : G_ l D b M Q cc pc ls (.int i :: st) (ty, mi, mr, n) kc ks := by
  intro p e s m args below meth c0 H locs la C hw hs hl
  have hts := C.2.2.2.2.2.2.1
  have hsz : H.size = n := hw.2.1.1
  have hcN : i.toNatClampNeg = N := by rw [hi]; exact nI_clamp (by omega)
  subst hcN
  refine W.anew C.1 C.2.1 C.2.2.2.2.2.1 (hts _ hcl) (va_AO.use (hw.1.2.2.2 Cn hCn)) rfl d rfl (by rw [hi]; exact nI_pos (by omega)) (by omega) h1 h2 fun cA kA comp f1 f2 f3 f4 => ?_
  generalize hH1 : H.push ({ cls := cA, slots := Array.replicate i.toNatClampNeg .null, vm := .none } : Cell) = H1
  have z1 : H1.size = H.size + 1 := by rw [← hH1, Array.size_push]
  have e1 : H1[H.size]? = some (arrV cA i.toNatClampNeg (fun _ => .null)) := by rw [← hH1, Array.getElem?_push_size, ← arrV_new]
  have o1 : ∀ q : Nat, q < H.size → H1[q]? = H[q]? := fun q hq => by rw [← hH1, Array.getElem?_push, if_neg (Nat.ne_of_lt hq)]
  subst hsz
  have hbl : ∀ a k, H.size ≤ a → mi a k = 0 ∧ mr a k = none := hw.2.1.2.2.1
  have hcA : cA = D.2.2.1 (.object Cn) := by
    obtain ⟨kA2, comp2, -, -, -, h4⟩ := (hw.1.2.1 _ hAT).2
    exact Option.some.inj (f1.symm.trans h4)
  have hr2 : rp_ D b (ut_ ty H.size (.inr (.object Cn, i.toNatClampNeg)), mi, mr, H.size + 1) H1 := by
    refine hw.2.1.new z1 o1 ⟨hAT, ?_⟩
    rw [e1, hcA]
    congr 2
    funext j
    rw [(hbl H.size j (Nat.le_refl _)).2]
    rfl
  exact kk p e s m args below meth c0 H1 _ la C (hw.to hr2 (fun q hq => o1 q (Nat.lt_of_lt_of_le hq hw.2.1.2.1))) (hs.new hw.2.1.2.1 z1 o1) hl
theorem mq_of {p : Program} {e : Env} {R : Room} {s : State} {m : MethodId} {args : Array Value} {below : List Frame} {meth : Method} {c : Code} {H : Heap} {locs : List Loc} {g : JFrame} {mc ms : Nat} {σ : so_} (k : W p l e R s m args below meth c H locs mc ms (MQ below (fun _ st o t => Q o σ ∧ wd_ D b σ t t.heap ∧ fr_ b st t) args s mc ms (fun q => b ≤ q)) g) : W p l e R s m args below meth c H locs mc ms (mq_ D b below Q s mc ms) g := by
  refine W_mono (fun t h => ?_) k
  obtain ⟨o, h1, h2, ⟨h3, h4, h5⟩, L, h6, h7⟩ := h
  exact ⟨o, σ, h1, h2, h3, h4, h5, L, ⟨h6.2.1, h6.2.2⟩, h7⟩
theorem fr_of {s t : State} {H : Heap} {locs : List Loc} (hs : sx_ b s H locs) (ht : t.heap = H) : fr_ b s t := ⟨by rw [ht]; exact hs.1, fun q h => by rw [ht]; exact hs.2.1 q h⟩
theorem go_iret {v : Int32} {σ : so_} (hr : M.2.2.2.1 = some .int) (d : decode cc pc = .ok (.ireturn, 1)) (h1 : kc ≤ M.2.2.2.2.1.cells) (h2 : ks ≤ M.2.2.2.2.1.slots) (hq : Q (.returned (some (.int v))) σ) : G_ l D b M Q cc pc ls [.int v] σ kc ks := by
  intro p e s m args below meth c0 H locs la C hw hs hl
  refine W.widen h1 h2 (mq_of (σ := σ) ?_)
  have hlocks := C.2.2.2.2.1
  exact W.iret C.1 C.2.1 (C.2.2.2.1.trans hr) (fun t ht hW => ⟨hq, by rw [ht]; exact hw.warm hW, fr_of hs ht⟩) hs.2.2 d
theorem go_zret {v : Int32} {σ : so_} (hr : M.2.2.2.1 = some .boolean) (hn : narrow .boolean (.int v) = .int v) (d : decode cc pc = .ok (.ireturn, 1)) (h1 : kc ≤ M.2.2.2.2.1.cells) (h2 : ks ≤ M.2.2.2.2.1.slots) (hq : Q (.returned (some (.int v))) σ) : G_ l D b M Q cc pc ls [.int v] σ kc ks := by
  intro p e s m args below meth c0 H locs la C hw hs hl
  refine W.widen h1 h2 (mq_of (σ := σ) ?_)
  have hlocks := C.2.2.2.2.1
  exact W.zret C.1 C.2.1 (C.2.2.2.1.trans hr) hn (fun t ht hW => ⟨hq, by rw [ht]; exact hw.warm hW, fr_of hs ht⟩) hs.2.2 d
theorem go_vret {σ : so_} (hr : M.2.2.2.1 = none) (d : decode cc pc = .ok (.return_, 1)) (h1 : kc ≤ M.2.2.2.2.1.cells) (h2 : ks ≤ M.2.2.2.2.1.slots) (hq : Q (.returned none) σ) : G_ l D b M Q cc pc ls [] σ kc ks := by
  intro p e s m args below meth c0 H locs la C hw hs hl
  refine W.widen h1 h2 (mq_of (σ := σ) ?_)
  have hlocks := C.2.2.2.2.1
  exact W.vret C.1 C.2.1 (C.2.2.2.1.trans hr) (fun t ht hW => ⟨hq, by rw [ht]; exact hw.warm hW, fr_of hs ht⟩) hs.2.2 d
theorem go_aret {v : Nat} {σ : so_} {rt : String} (hr : M.2.2.2.1 = some (.object rt)) (d : decode cc pc = .ok (.areturn, 1)) (h1 : kc ≤ M.2.2.2.2.1.cells) (h2 : ks ≤ M.2.2.2.2.1.slots) (hq : Q (.returned (some (.ref v))) σ) : G_ l D b M Q cc pc ls [.ref v] σ kc ks := by
  intro p e s m args below meth c0 H locs la C hw hs hl
  refine W.widen h1 h2 (mq_of (σ := σ) ?_)
  have hlocks := C.2.2.2.2.1
  exact W.aret C.1 C.2.1 (C.2.2.2.1.trans hr) (Or.inl ⟨_, rfl⟩) (Or.inr ⟨_, rfl⟩) (fun t ht hW => ⟨hq, by rw [ht]; exact hw.warm hW, fr_of hs ht⟩) hs.2.2 d
theorem go_athrow {σ : so_} {x : Nat} (hh : M.2.2.2.2.2 = []) (d : decode cc pc = .ok (.athrow, 1)) (h1 : kc ≤ M.2.2.2.2.1.cells) (h2 : ks ≤ M.2.2.2.2.1.slots) (hq : Q (.threw x) σ) : G_ l D b M Q cc pc ls (.ref x :: st) σ kc ks := by
  intro p e s m args below meth c0 H locs la C hw hs hl
  refine W.widen h1 h2 ?_
  intro T hT X
  have hlocks := C.2.2.2.2.1
  have hno : c0.exceptionTable.toList = [] := List.map_eq_nil_iff.mp (C.2.2.2.2.2.2.2.2.1.trans hh)
  obtain ⟨a1, a2, a3, a4, a5⟩ := X.athrowLeaves C.1 (g := F0 m pc la (.ref x :: st)) rfl rfl rfl (by rw [hno]; intro y hy; cases hy) rfl (by rw [C.2.1]; exact d)
  exact ⟨_, a1, .threw x, σ, a2, a3, hq, by show wd_ D b σ _ T.heap; rw [hT]; exact hw.warm a4, fr_of hs hT, locs, ⟨a4, a5⟩, hs.2.2⟩
end HEAP
