/-! THE TYPED STORE: a heap as a table of types, of ints and of references -/
set_option maxRecDepth 100000
abbrev tg_ : Type := Nat ⊕ (FieldType × Nat)
abbrev ty_ : Type := Nat → Option tg_
abbrev mi_ : Type := Nat → Nat → Int32
abbrev mr_ : Type := Nat → Nat → Option Nat
abbrev so_ : Type := ty_ × mi_ × mr_ × Nat
/-- class numbers, slots, array classes; the law's script: its cell, length, ints -/
abbrev dd_ : Type := (Nat → ClassId) × (Nat → Nat → Nat) × (FieldType → ClassId) × Nat × Nat × (Nat → Int32)
def sv_ (t : FieldType) (i : Int32) (r : Option Nat) : Value := if t.isReference = true then va_rf r else .int i
def um_ (mi : mi_) (a k : Nat) (v : Int32) : mi_ := fun a' k' => if a' = a ∧ k' = k then v else mi a' k'
def ur_ (mr : mr_) (a k : Nat) (v : Option Nat) : mr_ := fun a' k' => if a' = a ∧ k' = k then v else mr a' k'
def ut_ (ty : ty_) (a : Nat) (t : tg_) : ty_ := fun a' => if a' = a then some t else ty a'
theorem um_s {mi : mi_} {a k : Nat} {v : Int32} : um_ mi a k v a k = v := if_pos ⟨rfl, rfl⟩
theorem um_a {mi : mi_} {a k a' k' : Nat} {v : Int32} (h : a' ≠ a) : um_ mi a k v a' k' = mi a' k' := if_neg fun q => h q.1
theorem um_k {mi : mi_} {a k a' k' : Nat} {v : Int32} (h : k' ≠ k) : um_ mi a k v a' k' = mi a' k' := if_neg fun q => h q.2
theorem ur_s {mr : mr_} {a k : Nat} {v : Option Nat} : ur_ mr a k v a k = v := if_pos ⟨rfl, rfl⟩
theorem ur_a {mr : mr_} {a k a' k' : Nat} {v : Option Nat} (h : a' ≠ a) : ur_ mr a k v a' k' = mr a' k' := if_neg fun q => h q.1
theorem ur_k {mr : mr_} {a k a' k' : Nat} {v : Option Nat} (h : k' ≠ k) : ur_ mr a k v a' k' = mr a' k' := if_neg fun q => h q.2
theorem ut_s {ty : ty_} {a : Nat} {t : tg_} : ut_ ty a t a = some t := if_pos rfl
theorem ut_a {ty : ty_} {a a' : Nat} {t : tg_} (h : a' ≠ a) : ut_ ty a t a' = ty a' := if_neg h
/-- the classes, by the numbers of their names; 1, 8, 17, 21 (abstract) stand for others -/
def CL_ : List vw_C := [(RX0, TX0, 24), (RX2, TX0, 0), (RX2, TX0, 0), (RX3, TX0, 0), (RX4, TX0, 0), (RX5, TX0, 0), (RX6, TX0, 0), (RX7, TX0, 0), (RX9, TX0, 0), (RX9, TX0, 0), (RX10, TX0, 0), (RX11, TX0, 0), (RX12, TX0, 0), (RX13, TX0, 0), (RX14, TX0, 0), (RX15, TX15, 14), (RX16, TX16, 27), (RX2, TX0, 0), (RX18, TX18, 7), (RX19, TX19, 3), (RX20, TX20, 7), (RX2, TX0, 0), (RX22, TX22, 2), (RX23, TX23, 2), (RX24, TX24, 2), (RX25, TX25, 6), (RX26, TX26, 3)]
def ft_ : Nat → Nat → FieldType := fun c => match c with
  | 15 => tyX15
  | 16 => tyX16
  | 18 => tyX18
  | 19 => tyX19
  | 20 => tyX20
  | 22 => tyX22
  | 23 => tyX23
  | 24 => tyX24
  | 25 => tyX25
  | 26 => tyX26
  | _ => tyX0
/-- a fact of every class, class by class -/
theorem cl_all {P : Nat → vw_C → Prop} (h0 : P 0 (RX0, TX0, 24)) (h1 : P 1 (RX2, TX0, 0)) (h2 : P 2 (RX2, TX0, 0)) (h3 : P 3 (RX3, TX0, 0)) (h4 : P 4 (RX4, TX0, 0)) (h5 : P 5 (RX5, TX0, 0)) (h6 : P 6 (RX6, TX0, 0)) (h7 : P 7 (RX7, TX0, 0)) (h8 : P 8 (RX9, TX0, 0)) (h9 : P 9 (RX9, TX0, 0)) (h10 : P 10 (RX10, TX0, 0)) (h11 : P 11 (RX11, TX0, 0)) (h12 : P 12 (RX12, TX0, 0)) (h13 : P 13 (RX13, TX0, 0)) (h14 : P 14 (RX14, TX0, 0)) (h15 : P 15 (RX15, TX15, 14)) (h16 : P 16 (RX16, TX16, 27)) (h17 : P 17 (RX2, TX0, 0)) (h18 : P 18 (RX18, TX18, 7)) (h19 : P 19 (RX19, TX19, 3)) (h20 : P 20 (RX20, TX20, 7)) (h21 : P 21 (RX2, TX0, 0)) (h22 : P 22 (RX22, TX22, 2)) (h23 : P 23 (RX23, TX23, 2)) (h24 : P 24 (RX24, TX24, 2)) (h25 : P 25 (RX25, TX25, 6)) (h26 : P 26 (RX26, TX26, 3)) : ∀ (c : Nat) (q : vw_C), CL_[c]? = some q → P c q := by
  intro c q h
  match c, h with
  | 0, h => cases h; exact h0
  | 1, h => cases h; exact h1
  | 2, h => cases h; exact h2
  | 3, h => cases h; exact h3
  | 4, h => cases h; exact h4
  | 5, h => cases h; exact h5
  | 6, h => cases h; exact h6
  | 7, h => cases h; exact h7
  | 8, h => cases h; exact h8
  | 9, h => cases h; exact h9
  | 10, h => cases h; exact h10
  | 11, h => cases h; exact h11
  | 12, h => cases h; exact h12
  | 13, h => cases h; exact h13
  | 14, h => cases h; exact h14
  | 15, h => cases h; exact h15
  | 16, h => cases h; exact h16
  | 17, h => cases h; exact h17
  | 18, h => cases h; exact h18
  | 19, h => cases h; exact h19
  | 20, h => cases h; exact h20
  | 21, h => cases h; exact h21
  | 22, h => cases h; exact h22
  | 23, h => cases h; exact h23
  | 24, h => cases h; exact h24
  | 25, h => cases h; exact h25
  | 26, h => cases h; exact h26
  | k + 27, h => simp [CL_] at h
theorem no_ws {C : String} {T : u_T} : ∀ w ∈ u_ws C T 0, w ∈ lw_all := fun w h => by cases h
theorem no_lt {P : Nat → Prop} : ∀ k, k < 0 → P k := fun k h => absurd h (Nat.not_lt_zero k)
theorem cl_in : ∀ (c : Nat) (q : vw_C), CL_[c]? = some q → ∀ w ∈ u_ws q.1 q.2.1 q.2.2, w ∈ lw_all :=
  cl_all (P := fun _ q => ∀ w ∈ u_ws q.1 q.2.1 q.2.2, w ∈ lw_all) in_X0 no_ws no_ws no_ws no_ws no_ws no_ws no_ws no_ws no_ws no_ws no_ws no_ws no_ws no_ws in_X15 in_X16 no_ws in_X18 in_X19 in_X20 no_ws in_X22 in_X23 in_X24 in_X25 in_X26
theorem cl_ty : ∀ (c : Nat) (q : vw_C), CL_[c]? = some q → ∀ k, k < q.2.2 → parseFieldDescriptor (q.2.1 k).2.2.1 = some (ft_ c k) :=
  cl_all (P := fun c q => ∀ k, k < q.2.2 → parseFieldDescriptor (q.2.1 k).2.2.1 = some (ft_ c k)) tyX0_ok no_lt no_lt no_lt no_lt no_lt no_lt no_lt no_lt no_lt no_lt no_lt no_lt no_lt no_lt tyX15_ok tyX16_ok no_lt tyX18_ok tyX19_ok tyX20_ok no_lt tyX22_ok tyX23_ok tyX24_ok tyX25_ok tyX26_ok
theorem cl_nm : ∀ (c : Nat) (q : vw_C), CL_[c]? = some q → ∀ a, a < q.2.2 → ∀ b, b < q.2.2 → a ≠ b → (q.2.1 a).2.1 ≠ (q.2.1 b).2.1 :=
  cl_all (P := fun _ q => ∀ a, a < q.2.2 → ∀ b, b < q.2.2 → a ≠ b → (q.2.1 a).2.1 ≠ (q.2.1 b).2.1) nmX0 no_lt no_lt no_lt no_lt no_lt no_lt no_lt no_lt no_lt no_lt no_lt no_lt no_lt no_lt nmX15 nmX16 no_lt nmX18 nmX19 nmX20 no_lt nmX22 nmX23 nmX24 nmX25 nmX26
theorem cl_inst : ∀ (c : Nat) (q : vw_C), CL_[c]? = some q → Cond.instantiable q.1 q.2.2 ∈ lw_all :=
  cl_all (P := fun _ q => Cond.instantiable q.1 q.2.2 ∈ lw_all) q109 q119 q119 q129 q136 q143 q150 q157 q166 q166 q176 q183 q190 q197 q204 q211 q1154 q119 q398 q471 q503 q119 q521 q553 q574 q576 q635
/-- the types of arrays that are used -/
def AT_ : List FieldType := [.int, .boolean, .byte, .char, .object "GoodHalfEmpty$Sort", .object "GoodHalfEmpty$Rule", .object "GoodHalfEmpty$Goer", .object "GoodHalfEmpty$Told"]
/-- the tables' words that don't ride in the lists, and are carried along -/
def nk_ (w : Cond) : Bool := match w with
  | .fieldLinkNest .. => true
  | .methodLinkNest .. => true
  | .declares _ => true
  | .castable .. => true
  | _ => false
def nw_ : List Cond := lw_tbl.filter nk_
theorem nw_in {w : Cond} (h : w ∈ lw_tbl) (k : nk_ w = true) : w ∈ nw_ := List.mem_filter.mpr ⟨h, k⟩
def rp_at (D : dd_) (mi : mi_) (mr : mr_) (H : Heap) (a : Nat) (t : tg_) : Prop := match t with
  | .inl c => ∃ r : vw_C, CL_[c]? = some r ∧ t_OB a (D.1 c) r.2.2 (D.2.1 c) H (fun k => sv_ (ft_ c k) (mi a k) (mr a k)) ∧ ∀ cell : Cell, H[a]? = some cell → cell.monitor.owner = none ∧ cell.monitor.count = 0
  | .inr (t, n) => t ∈ AT_ ∧ H[a]? = some (arrV (D.2.2.1 t) n (fun j => sv_ t (mi a j) (mr a j)))
def rp_ (D : dd_) (b : Nat) (σ : so_) (H : Heap) : Prop := H.size = σ.2.2.2 ∧ b ≤ H.size ∧ (∀ a k, σ.2.2.2 ≤ a → σ.2.1 a k = 0 ∧ σ.2.2.1 a k = none) ∧ ∀ (a : Nat) (t : tg_), σ.1 a = some t → b ≤ a ∧ rp_at D σ.2.1 σ.2.2.1 H a t
/-- what the tables say, all through -/
def kx_ (D : dd_) (U : State) : Prop := (∀ (c : Nat) (q : vw_C), CL_[c]? = some q → u_Kn U q.1 q.2.1 q.2.2 (D.1 c) (D.2.1 c)) ∧ (∀ t ∈ AT_, ArrOfT U (D.2.2.1 t) t ∧ va_RA U (D.2.2.1 t) t) ∧ (∀ w ∈ nw_, va_Nw w U) ∧ (∀ C ∈ ["GoodHalfEmpty$Sort", "GoodHalfEmpty$Rule", "GoodHalfEmpty$Goer", "GoodHalfEmpty$Told"], va_AO C U)
/-- the word laysStatic, as long as the cells below b stay -/
def zl_ (f d : String) (b : Nat) (U : State) (H : Heap) : Prop := ∀ (V : State) (A : Array Value), V.vm = U.vm → (∀ q : Nat, q < b → V.heap[q]? = H[q]?) → (Cond.laysStatic "java/lang/Throwable" f d).before A V = true
theorem zl_.moved {f d : String} {b : Nat} {s U : State} {H : Heap} (hvm : s.vm.Alike U.vm) (h : zl_ f d b s H) : zl_ f d b U H := fun V A hv hq => by
  have h1 := h (V.setVm s.vm) A rfl hq
  have h2 := Cond.laysStatic_setVm (s := V.setVm s.vm) (vm' := U.vm) hvm h1
  have h3 : (V.setVm s.vm).setVm U.vm = V := by rw [← hv]; rfl
  rw [h3] at h2
  exact h2
theorem zl_.kept {f d : String} {b : Nat} {U : State} {H H1 : Heap} (hq : ∀ q : Nat, q < b → H1[q]? = H[q]?) (h : zl_ f d b U H) : zl_ f d b U H1 := fun V A hv h2 => h V A hv (fun q hq' => (h2 q hq').trans (hq q hq'))
/-- what lies below b and stays: Throwable's statics, the script -/
def zx_ (D : dd_) (b : Nat) (U : State) (H : Heap) : Prop := va_Zq "java/lang/Throwable" "UNASSIGNED_STACK" "[Ljava/lang/StackTraceElement;" (fun q => b ≤ q) U H ∧ va_Zq "java/lang/Throwable" "SUPPRESSED_SENTINEL" "Ljava/util/List;" (fun q => b ≤ q) U H ∧ va_X D.2.2.2.1 D.2.2.2.2.1 D.2.2.2.2.2 U H ∧ D.2.2.2.1 < b ∧ zl_ "UNASSIGNED_STACK" "[Ljava/lang/StackTraceElement;" b U H ∧ zl_ "SUPPRESSED_SENTINEL" "Ljava/util/List;" b U H
def wd_ (D : dd_) (b : Nat) (σ : so_) (U : State) (H : Heap) : Prop := kx_ D U ∧ rp_ D b σ H ∧ zx_ D b U H
def sx_ (b : Nat) (s : State) (H : Heap) (locs : List Loc) : Prop := s.heap.size ≤ H.size ∧ (∀ q : Nat, q < b → H[q]? = s.heap[q]?) ∧ ∀ q ∈ locs, b ≤ q.base
theorem nw_warm {w : Cond} (h : w ∈ nw_) {s U : State} (hW : s.WarmedH U.vm) (hZ : va_Nw w s) : va_Nw w U := by
  have hk := (List.mem_filter.mp h).2
  cases w <;> first | (exact (Bool.false_ne_true hk).elim) | exact va_Nw.warmF hW hZ | exact va_Nw.warmM hW hZ | exact va_Nw.warmD hW hZ | exact va_Nw.warmC hW hZ
theorem kx_.warm {D : dd_} {s U : State} (hW : s.WarmedH U.vm) (h : kx_ D s) : kx_ D U :=
  ⟨fun c q hq => u_Kn_moved hW.alike (h.1 c q hq), fun t ht => ⟨arrOfT_moved hW.alike (h.2.1 t ht).1, (h.2.1 t ht).2.moved hW.alike⟩, fun w hw => nw_warm hw hW (h.2.2.1 w hw), fun C hC => (h.2.2.2 C hC).moved hW.alike⟩
theorem zx_.moved {D : dd_} {b : Nat} {s U : State} {H : Heap} (hvm : s.vm.Alike U.vm) (h : zx_ D b s H) : zx_ D b U H := ⟨h.1.moved hvm, h.2.1.moved hvm, h.2.2.1.moved hvm, h.2.2.2.1, h.2.2.2.2.1.moved hvm, h.2.2.2.2.2.moved hvm⟩
theorem zx_.kept {D : dd_} {b : Nat} {U : State} {H H1 : Heap} (hq : ∀ q : Nat, q < b → H1[q]? = H[q]?) (h : zx_ D b U H) : zx_ D b U H1 :=
  ⟨h.1.kept (fun q _ hn => hq q (Nat.not_le.mp hn)), h.2.1.kept (fun q _ hn => hq q (Nat.not_le.mp hn)), h.2.2.1.kept (hq _ h.2.2.2.1), h.2.2.2.1, h.2.2.2.2.1.kept hq, h.2.2.2.2.2.kept hq⟩
theorem wd_.warm {D : dd_} {b : Nat} {σ : so_} {s U : State} {H : Heap} (hW : s.WarmedH U.vm) (h : wd_ D b σ s H) : wd_ D b σ U H := ⟨h.1.warm hW, h.2.1, h.2.2.moved hW.alike⟩
theorem wd_.to {D : dd_} {b : Nat} {σ σ' : so_} {s : State} {H H1 : Heap} (h : wd_ D b σ s H) (hr : rp_ D b σ' H1) (hq : ∀ q : Nat, q < b → H1[q]? = H[q]?) : wd_ D b σ' s H1 := ⟨h.1, hr, h.2.2.kept hq⟩
