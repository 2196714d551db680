set_option maxRecDepth 100000
/-! THE TWO WORLDS: cells by number (t = 0: NetSearch and all that it holds; t = 1: NetSearchModel), their contents as functions -/
abbrev Mem : Type := (Nat → Nat → Int32) × (Nat → Nat → Int64) × (Nat → Nat)
/-- the classes' numbers, a cell's address by its number, the array classes, the six Ways' addresses -/
abbrev XE : Type := va_G × (Nat → Nat) × (Nat → ClassId) × (Nat → Nat)
abbrev clL : List vw_C := [(RX0, TX0, 33), (RX2, TX2, 11), (RX3, TX3, 4), (RX4, TX4, 44)]
def kdS : List Nat := [1,10,4,4,0,4,4,4,0,7, 9,0,0,0,4,0,0,0,0,0, 0,0,4,4,0,8,4,4,4,4, 4,4,4,4,0,0,0,0,0,0, 2,0,0,0,4,5,4,4,4,4, 4,0,0,0,0,0,0,0,0,0, 2,0,0,0,4,5,4,4,4,4, 4]
def lnS : List Nat := [0,6,6,6,0,5,5,5,0,22, 22,0,0,0,22,0,0,0,0,0, 0,0,22,22,0,64,64,22,22,22, 22,22,88,22,0,0,0,0,0,0, 0,0,0,0,22,22,22,22,22,22, 4096,0,0,0,0,0,0,0,0,0, 0,0,0,0,22,22,22,22,22,22, 4096]
def kdL : List Nat := [11,0,4,4,4,0,4,4,0,5, 4,4,4,4,0,4,4,5,4,4, 4,4,0,0,0,0,0,0,0,4, 4,0,4,4,4,4,6,4,4,4, 4,4,4,4,4]
def lnL : List Nat := [0,0,5,5,5,0,30,30,0,30, 30,30,30,30,0,30,30,30,30,30, 30,30,0,0,0,0,0,0,0,30, 30,0,64,1920,180,180,900,30,30,30, 30,30,30,30,30]
/-- the kind of a cell: 0 none, 1 NetSearch, 2 Sheet, 3 Face, 4 int array, 5 boolean array, 6 long array, 7 Face array, 8 shapes, 9 rows, 10 ways, 11 NetSearchModel -/
def kd (t k : Nat) : Nat := if t = 0 then (if k < 100 then kdS.getD k 0 else if k < 122 then 3 else if k < 200 then 0 else if k < 222 then 4 else if k < 300 then 0 else if k < 322 then 4 else if k < 400 then 0 else if k < 422 then 6 else if k < 500 then 0 else if k < 564 then 4 else 0) else kdL.getD k 0
def ln (t k : Nat) : Nat := if t = 0 then (if k < 100 then lnS.getD k 0 else if k < 122 then 0 else if k < 400 then 6 else 22) else lnL.getD k 0
def fsX (d : Nat → Nat) (a : Nat → Int32) : List Value := [.ref (d 1), .ref (d 2), .ref (d 3), .int (a 3), .ref (d 5), .ref (d 6), .ref (d 7), .int (a 7), .ref (d 9), .ref (d 10), .ref (d 40), .ref (d 60), .int (a 12), .ref (d 14), .int (a 14), .int (a 15), .int (a 16), .int (a 17), .int (a 18), .int (a 19), .int (a 20), .ref (d 22), .ref (d 23), .int (a 23), .ref (d 25), .ref (d 26), .ref (d 27), .ref (d 28), .ref (d 29), .ref (d 30), .ref (d 31), .ref (d 32), .ref (d 33)]
def fsS (d : Nat → Nat) (k : Nat) (a : Nat → Int32) : List Value := [.ref (d 9), .ref (d 2), .ref (d 3), .int (a 3), .ref (d (k + 4)), .ref (d (k + 5)), .ref (d (k + 6)), .ref (d (k + 7)), .ref (d (k + 8)), .ref (d (k + 9)), .ref (d (k + 10))]
def fsF (d : Nat → Nat) (k : Nat) (a : Nat → Int32) : List Value := [.int (a 0), .int (a 1), .ref (d (k + 100)), .ref (d (k + 200))]
def fsM (d : Nat → Nat) (a : Nat → Int32) : List Value := [.int (a 0), .ref (d 2), .ref (d 3), .ref (d 4), .int (a 4), .ref (d 6), .ref (d 7), .int (a 7), .ref (d 9), .ref (d 10), .ref (d 11), .ref (d 12), .ref (d 13), .int (a 13), .ref (d 15), .ref (d 16), .ref (d 17), .ref (d 18), .ref (d 19), .ref (d 20), .ref (d 21), .int (a 21), .int (a 22), .int (a 23), .int (a 24), .int (a 25), .int (a 26), .int (a 27), .ref (d 29), .ref (d 30), .int (a 30), .ref (d 32), .ref (d 33), .ref (d 34), .ref (d 35), .ref (d 36), .ref (d 37), .ref (d 38), .ref (d 39), .ref (d 40), .ref (d 41), .ref (d 42), .ref (d 43), .ref (d 44)]
def cw (t : Nat) (E : XE) (k : Nat) (a : Nat → Int32) (g : Nat → Int64) (P : Nat → Nat) : va_E := match kd t k with
  | 1 => .inr (0, fsX E.2.1 a)
  | 2 => .inr (1, fsS E.2.1 k a)
  | 3 => .inr (2, fsF E.2.1 k a)
  | 4 => .inl (E.2.2.1 0, ln t k, .inl a)
  | 5 => .inl (E.2.2.1 1, ln t k, .inl a)
  | 6 => .inl (E.2.2.1 2, ln t k, .inr (.inl g))
  | 7 => .inl (E.2.2.1 3, 22, .inr (.inr (.inr (.inr (fun j => some (E.2.1 (100 + j)))))))
  | 8 => .inl (E.2.2.1 4, 64, .inr (.inr (.inr (.inr (fun j => some (E.2.1 (500 + j)))))))
  | 9 => .inl (E.2.2.1 5, 22, .inr (.inr (.inr (.inr (fun j => some (E.2.1 (400 + P j)))))))
  | 10 => .inl (E.2.2.1 6, 6, .inr (.inr (.inr (.inr (fun j => some (E.2.2.2 j))))))
  | 11 => .inr (3, fsM E.2.1 a)
  | _ => .inl (0, 0, .inl a)
def XA (t : Nat) (E : XE) : Nat → Prop := fun q => ∃ k, kd t k ≠ 0 ∧ q = E.2.1 k
def XP (t : Nat) (E : XE) (M : Mem) (H : Heap) : Prop := (∀ i j, kd t i ≠ 0 → kd t j ≠ 0 → E.2.1 i = E.2.1 j → i = j) ∧ (∀ k, kd t k ≠ 0 → va_at E.1 clL (E.2.1 k, cw t E k (M.1 k) (M.2.1 k) M.2.2) H) ∧ ∀ j, j < 22 → M.2.2 j < 22
def XS (t : Nat) (E : XE) (H0 H : Heap) (locs : List Loc) : Prop := H.size = H0.size ∧ (∀ q : Nat, ¬ XA t E q → H[q]? = H0[q]?) ∧ ∀ l ∈ locs, XA t E l.base
def XI (t : Nat) (E : XE) (s : State) (H : Heap) (locs : List Loc) (M : Mem) : Prop := XP t E M H ∧ XS t E s.heap H locs
def up2 {α : Type} (A : Nat → Nat → α) (k i : Nat) (v : α) : Nat → Nat → α := fun b => if b = k then va_up (A k) i v else A b
theorem up2_s {α : Type} (A : Nat → Nat → α) (k i : Nat) (v : α) : up2 A k i v k = va_up (A k) i v := if_pos rfl
theorem up2_n {α : Type} (A : Nat → Nat → α) {k b : Nat} (i : Nat) (v : α) (h : b ≠ k) : up2 A k i v b = A b := if_neg h
/-- the nest mates' words, which ride in no list -/
def nwL : List Cond := [.fieldLinkNest "NetSearch" 229 "NetSearch$Sheet" "many" "I" "NetSearch", .fieldLinkNest "NetSearch" 238 "NetSearch$Sheet" "order" "[I" "NetSearch", .fieldLinkNest "NetSearch" 201 "NetSearch$Sheet" "lies" "[Z" "NetSearch", .fieldLinkNest "NetSearch" 219 "NetSearch$Sheet" "x" "[I" "NetSearch", .fieldLinkNest "NetSearch" 221 "NetSearch$Sheet" "y" "[I" "NetSearch", .fieldLinkNest "NetSearch" 223 "NetSearch$Sheet" "right" "[I" "NetSearch", .fieldLinkNest "NetSearch" 226 "NetSearch$Sheet" "up" "[I" "NetSearch", .fieldLinkNest "NetSearch" 117 "NetSearch$Face" "cube" "I" "NetSearch", .fieldLinkNest "NetSearch" 120 "NetSearch$Face" "way" "I" "NetSearch", .fieldLinkNest "NetSearch" 129 "NetSearch$Face" "across" "[I" "NetSearch", .fieldLinkNest "NetSearch" 166 "NetSearch$Face" "turned" "[I" "NetSearch", .fieldLinkNest "NetSearch" 104 "NetSearch$Way" "x" "I" "NetSearch", .fieldLinkNest "NetSearch" 107 "NetSearch$Way" "y" "I" "NetSearch", .fieldLinkNest "NetSearch" 110 "NetSearch$Way" "z" "I" "NetSearch", .fieldLinkNest "NetSearch$Sheet" 55 "NetSearch$Face" "way" "I" "NetSearch", .fieldLinkNest "NetSearch$Sheet" 64 "NetSearch$Face" "across" "[I" "NetSearch", .fieldLinkNest "NetSearch$Sheet" 70 "NetSearch$Face" "turned" "[I" "NetSearch"]
def NW (U : State) : Prop := ∀ (i : Nat) (w : Cond), nwL[i]? = some w → va_Nw w U
def wyX (j : Nat) : Int32 := [1, -1, 0, 0, 0, 0].getD j 0
def wyY (j : Nat) : Int32 := [0, 0, 1, -1, 0, 0].getD j 0
def wyZ (j : Nat) : Int32 := [0, 0, 0, 0, 1, -1].getD j 0
/-- what the tables and the constants give all through a run -/
def XK (t : Nat) (E : XE) (U : State) : Prop :=
  (∀ (c : Nat) (q : vw_C), clL[c]? = some q → u_Kn U q.1 q.2.1 q.2.2 (E.1.1 c) (E.1.2 c)) ∧
  (ArrOfT U (E.2.2.1 0) .int ∧ ArrOfT U (E.2.2.1 1) .boolean ∧ ArrOfT U (E.2.2.1 2) .long ∧ ArrOfT U (E.2.2.1 3) (.object "NetSearch$Face") ∧ ArrOfT U (E.2.2.1 4) (.array .int) ∧ ArrOfT U (E.2.2.1 5) (.array .long) ∧ ArrOfT U (E.2.2.1 6) (.object "NetSearch$Way")) ∧
  (∃ (k : Class) (comp : ClassId) (kc kv : Class), U.vm.classes[E.2.2.1 5]? = some k ∧ k.kind = .array comp (.array .long) ∧ U.vm.classes[comp]? = some kc ∧ U.vm.classes[E.2.2.1 2]? = some kv ∧ U.vm.assignable (E.2.2.1 2) comp = true) ∧
  (∀ j, j < 6 → va_OF "NetSearch$Way" "x" "I" (.int (wyX j)) (E.2.2.2 j) (XA t E) U U.heap ∧ va_OF "NetSearch$Way" "y" "I" (.int (wyY j)) (E.2.2.2 j) (XA t E) U U.heap ∧ va_OF "NetSearch$Way" "z" "I" (.int (wyZ j)) (E.2.2.2 j) (XA t E) U U.heap) ∧ NW U
theorem NW.warm {s U : State} (hW : s.WarmedH U.vm) (h : NW s) : NW U := by
  intro i w hw
  have hz := h i w hw
  match i, hw with
  | 0, hw => cases hw; exact va_Nw.warmF hW hz
  | 1, hw => cases hw; exact va_Nw.warmF hW hz
  | 2, hw => cases hw; exact va_Nw.warmF hW hz
  | 3, hw => cases hw; exact va_Nw.warmF hW hz
  | 4, hw => cases hw; exact va_Nw.warmF hW hz
  | 5, hw => cases hw; exact va_Nw.warmF hW hz
  | 6, hw => cases hw; exact va_Nw.warmF hW hz
  | 7, hw => cases hw; exact va_Nw.warmF hW hz
  | 8, hw => cases hw; exact va_Nw.warmF hW hz
  | 9, hw => cases hw; exact va_Nw.warmF hW hz
  | 10, hw => cases hw; exact va_Nw.warmF hW hz
  | 11, hw => cases hw; exact va_Nw.warmF hW hz
  | 12, hw => cases hw; exact va_Nw.warmF hW hz
  | 13, hw => cases hw; exact va_Nw.warmF hW hz
  | 14, hw => cases hw; exact va_Nw.warmF hW hz
  | 15, hw => cases hw; exact va_Nw.warmF hW hz
  | 16, hw => cases hw; exact va_Nw.warmF hW hz
  | i + 17, hw => cases hw
theorem XK.moved {t : Nat} {E : XE} {s U : State} (h : XK t E s) (hW : s.WarmedH U.vm) (hq : ∀ q : Nat, ¬ XA t E q → U.heap[q]? = s.heap[q]?) : XK t E U := by
  have hvm := hW.alike
  obtain ⟨h1, ⟨a0, a1, a2, a3, a4, a5, a6⟩, ⟨k, comp, kc, kv, b1, b2, b3, b4, b5⟩, h3, h4⟩ := h
  refine ⟨fun c q hc => u_Kn_moved hvm (h1 c q hc), ⟨arrOfT_moved hvm a0, arrOfT_moved hvm a1, arrOfT_moved hvm a2, arrOfT_moved hvm a3, arrOfT_moved hvm a4, arrOfT_moved hvm a5, arrOfT_moved hvm a6⟩, ?_, fun j hj => ?_, h4.warm hW⟩
  · obtain ⟨k', c1, c2⟩ := hvm.2.2 _ _ b1
    obtain ⟨kc', d1, d2⟩ := hvm.2.2 _ _ b3
    obtain ⟨kv', e1, e2⟩ := hvm.2.2 _ _ b4
    exact ⟨k', comp, kc', kv', c1, by rw [c2]; exact b2, d1, e1, by rw [hvm.assignable]; exact b5⟩
  · obtain ⟨x, y, z⟩ := h3 j hj
    exact ⟨va_OF.kept (va_OF.moved hvm x) (fun a _ ha => hq a ha), va_OF.kept (va_OF.moved hvm y) (fun a _ ha => hq a ha), va_OF.kept (va_OF.moved hvm z) (fun a _ ha => hq a ha)⟩
theorem XK.calling {t : Nat} {E : XE} {U : State} (h : XK t E U) (g : JFrame) (mk : MethodId) (a : Array Value) : XK t E (U.calling g mk a) := by
  obtain ⟨h1, ⟨a0, a1, a2, a3, a4, a5, a6⟩, h2, h3, h4⟩ := h
  have hvm : U.vm.Alike (U.calling g mk a).vm := Vm.Alike.refl U.vm
  refine ⟨fun c q hc => u_Kn_moved hvm (h1 c q hc), ⟨arrOfT_moved hvm a0, arrOfT_moved hvm a1, arrOfT_moved hvm a2, arrOfT_moved hvm a3, arrOfT_moved hvm a4, arrOfT_moved hvm a5, arrOfT_moved hvm a6⟩, h2, fun j hj => ?_, fun i w hw => va_Nw.same (u := U) (U := U.calling g mk a) ?_ rfl (h4 i w hw)⟩
  · obtain ⟨x, y, z⟩ := h3 j hj
    exact ⟨va_OF.moved hvm x, va_OF.moved hvm y, va_OF.moved hvm z⟩
  · have hall : nwL.all (fun w => w.onTables) = true := by decide +kernel
    exact List.all_eq_true.mp hall w (List.mem_of_getElem? hw)
/-- a method's start and end -/
def XPre (t : Nat) (E : XE) (av : List Value) (M : Mem) : Array Value → State → Prop := fun v U => v = av.toArray ∧ XK t E U ∧ XP t E M U.heap
def XPost (t : Nat) (E : XE) (r : Option Value) (M : Mem) : Array Value → State → Outcome → State → Prop := fun _ st oc u => oc = .returned r ∧ XP t E M u.heap ∧ u.heap.size = st.heap.size ∧ ∀ q : Nat, ¬ XA t E q → u.heap[q]? = st.heap[q]?
theorem XPre.blind {t : Nat} {E : XE} {av : List Value} {M : Mem} : FrameBlind (XPre t E av M) := fun a U g mk h => ⟨h.1, h.2.1.calling g mk a, h.2.2⟩
/-- what holds all through a method -/
def XC (t : Nat) (p : Program) (s : State) (m : MethodId) (args : Array Value) (meth : Method) (c : Code) (cc : ByteArray) (nL : Nat) (own : String) (ret : Option FieldType) (E : XE) : Prop :=
  p.tables.exec = Jvm.exec ∧ c.code = cc ∧ c.maxLocals = nL ∧ s.vm.findClass own = some m.cls ∧ (∀ w ∈ lw_all, w.before args s = true) ∧ meth.sig.returnType = ret ∧ meth.locks = false ∧ XK t E s
theorem XS.rf {t : Nat} {E : XE} {H : Heap} : XS t E H H [] := ⟨rfl, fun _ _ => rfl, fun _ h => by cases h⟩
theorem XS.put {t : Nat} {E : XE} {H0 H H1 : Heap} {locs : List Loc} {a k : Nat} (h : XS t E H0 H locs) (z : H1.size = H.size) (oq : ∀ q : Nat, q ≠ a → H1[q]? = H[q]?) (ha : XA t E a) : XS t E H0 H1 (locs ++ [⟨a, k⟩]) := by
  refine ⟨z.trans h.1, fun q h2 => ?_, fun q hq => ?_⟩
  · rw [oq q (fun e => h2 (by rw [e]; exact ha))]
    exact h.2.1 q h2
  · rcases List.mem_append.mp hq with h1 | h1
    · exact h.2.2 q h1
    · rw [List.mem_singleton.mp h1]
      exact ha
/-- one cell's ints have changed -/
theorem XP.seti {t : Nat} {E : XE} {M M1 : Mem} {H H1 : Heap} {k : Nat} (h : XP t E M H) (hk : kd t k ≠ 0) (oq : ∀ q : Nat, q ≠ E.2.1 k → H1[q]? = H[q]?) (hc : va_at E.1 clL (E.2.1 k, cw t E k (M1.1 k) (M.2.1 k) M.2.2) H1) (e : ∀ b, b ≠ k → M1.1 b = M.1 b) (e2 : M1.2 = M.2) : XP t E M1 H1 := by
  refine ⟨h.1, fun j hj => ?_, by rw [e2]; exact h.2.2⟩
  by_cases hjk : j = k
  · subst hjk
    rw [e2]; exact hc
  · rw [e j hjk, e2]
    exact (h.2.1 j hj).kept (oq _ (fun z => hjk (h.1 j k hj hk z)))
theorem XP.setl {t : Nat} {E : XE} {M M1 : Mem} {H H1 : Heap} {k : Nat} (h : XP t E M H) (hk : kd t k ≠ 0) (oq : ∀ q : Nat, q ≠ E.2.1 k → H1[q]? = H[q]?) (hc : va_at E.1 clL (E.2.1 k, cw t E k (M.1 k) (M1.2.1 k) M.2.2) H1) (e : ∀ b, b ≠ k → M1.2.1 b = M.2.1 b) (e1 : M1.1 = M.1) (e2 : M1.2.2 = M.2.2) : XP t E M1 H1 := by
  refine ⟨h.1, fun j hj => ?_, by rw [e2]; exact h.2.2⟩
  by_cases hjk : j = k
  · subst hjk
    rw [e2, e1]; exact hc
  · rw [e j hjk, e2, e1]
    exact (h.2.1 j hj).kept (oq _ (fun z => hjk (h.1 j k hj hk z)))
theorem kd_ne {t k n : Nat} (h : kd t k = n) (hn : n ≠ 0) : kd t k ≠ 0 := by rw [h]; exact hn
def inB (i : Int32) (n : Nat) : Bool := decide (¬ (i < 0 ∨ n ≤ i.toNatClampNeg))
theorem inB_in {i : Int32} {n : Nat} (h : inB i n = true) : vp_in i n := by
  unfold inB at h
  have h := of_decide_eq_true h
  exact h
theorem inB_lt {i : Int32} {n : Nat} (h : inB i n = true) : i.toNatClampNeg < n := Nat.not_le.mp fun q => inB_in h (Or.inr q)
/-- bounds, calls, names, branches of the methods' functions, and how a walk takes them apart -/
def gd {α : Type} (b : Bool) (x : Option α) : Option α := if b = true then x else none
theorem gd_el {α : Type} {b : Bool} {x : Option α} {r : α} (h : gd b x = some r) : b = true ∧ x = some r := by
  unfold gd at h
  split at h
  · exact ⟨by assumption, h⟩
  · cases h
theorem gd_t {α : Type} {b : Bool} {x : Option α} (h : b = true) : gd b x = x := if_pos h
def bd {α β : Type} (o : Option (α × Mem)) (k : α → Mem → Option β) : Option β := match o with
  | some q => k q.1 q.2
  | none => none
theorem bd_el {α β : Type} {o : Option (α × Mem)} {k : α → Mem → Option β} {r : β} (h : bd o k = some r) : ∃ a M1, o = some (a, M1) ∧ k a M1 = some r := by
  cases o with
  | none => cases h
  | some q => exact ⟨q.1, q.2, rfl, h⟩
theorem bd_s {α β : Type} {o : Option (α × Mem)} {k : α → Mem → Option β} {a : α} {M1 : Mem} (h : o = some (a, M1)) : bd o k = k a M1 := by rw [h]; rfl
def nm {α β : Type} (x : α) (k : α → Option β) : Option β := k x
theorem nm_el {α β : Type} {x : α} {k : α → Option β} {r : β} (h : nm x k = some r) : ∃ y, y = x ∧ k y = some r := ⟨x, rfl, h⟩
theorem br_el {α : Type} {c : Prop} [Decidable c] {x y : Option α} {r : α} (h : (if c then x else y) = some r) : (c → x = some r) ∧ (¬ c → y = some r) := ⟨fun hc => by rw [if_pos hc] at h; exact h, fun hc => by rw [if_neg hc] at h; exact h⟩
/-- the loops' fuel: a number that nobody unfolds -/
def FU : Nat := 1000000000
