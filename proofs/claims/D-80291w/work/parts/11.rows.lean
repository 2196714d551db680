set_option maxRecDepth 100000
/-! THE ROWS OF THE WORLDS: one instruction each -/
section XROWS
variable {p : Program} {l : Launch} {e : Env} {R : Room} {s : State} {m : MethodId} {args : Array Value} {below : List Frame} {meth : Method} {c : Code} {H : Heap} {locs : List Loc} {cells slots : Nat} {Q : State → Prop}
variable {t nL pc : Nat} {cc : ByteArray} {own : String} {ret : Option FieldType} {E : XE} {M : Mem} {ls : Array Slot} {rest : List Value}
theorem cw1 {k : Nat} {a : Nat → Int32} {g : Nat → Int64} {P : Nat → Nat} (h : kd t k = 1) : cw t E k a g P = .inr (0, fsX E.2.1 a) := by unfold cw; rw [h]
theorem cw2 {k : Nat} {a : Nat → Int32} {g : Nat → Int64} {P : Nat → Nat} (h : kd t k = 2) : cw t E k a g P = .inr (1, fsS E.2.1 k a) := by unfold cw; rw [h]
theorem cw3 {k : Nat} {a : Nat → Int32} {g : Nat → Int64} {P : Nat → Nat} (h : kd t k = 3) : cw t E k a g P = .inr (2, fsF E.2.1 k a) := by unfold cw; rw [h]
theorem cw4 {k : Nat} {a : Nat → Int32} {g : Nat → Int64} {P : Nat → Nat} (h : kd t k = 4) : cw t E k a g P = .inl (E.2.2.1 0, ln t k, .inl a) := by unfold cw; rw [h]
theorem cw5 {k : Nat} {a : Nat → Int32} {g : Nat → Int64} {P : Nat → Nat} (h : kd t k = 5) : cw t E k a g P = .inl (E.2.2.1 1, ln t k, .inl a) := by unfold cw; rw [h]
theorem cw6 {k : Nat} {a : Nat → Int32} {g : Nat → Int64} {P : Nat → Nat} (h : kd t k = 6) : cw t E k a g P = .inl (E.2.2.1 2, ln t k, .inr (.inl g)) := by unfold cw; rw [h]
theorem cw7 {k : Nat} {a : Nat → Int32} {g : Nat → Int64} {P : Nat → Nat} (h : kd t k = 7) : cw t E k a g P = .inl (E.2.2.1 3, 22, .inr (.inr (.inr (.inr (fun j => some (E.2.1 (100 + j))))))) := by unfold cw; rw [h]
theorem cw8 {k : Nat} {a : Nat → Int32} {g : Nat → Int64} {P : Nat → Nat} (h : kd t k = 8) : cw t E k a g P = .inl (E.2.2.1 4, 64, .inr (.inr (.inr (.inr (fun j => some (E.2.1 (500 + j))))))) := by unfold cw; rw [h]
theorem cw9 {k : Nat} {a : Nat → Int32} {g : Nat → Int64} {P : Nat → Nat} (h : kd t k = 9) : cw t E k a g P = .inl (E.2.2.1 5, 22, .inr (.inr (.inr (.inr (fun j => some (E.2.1 (400 + P j))))))) := by unfold cw; rw [h]
theorem cw10 {k : Nat} {a : Nat → Int32} {g : Nat → Int64} {P : Nat → Nat} (h : kd t k = 10) : cw t E k a g P = .inl (E.2.2.1 6, 6, .inr (.inr (.inr (.inr (fun j => some (E.2.2.2 j)))))) := by unfold cw; rw [h]
theorem cw11 {k : Nat} {a : Nat → Int32} {g : Nat → Int64} {P : Nat → Nat} (h : kd t k = 11) : cw t E k a g P = .inr (3, fsM E.2.1 a) := by unfold cw; rw [h]
theorem XI.at {k : Nat} {x : va_E} (hI : XI t E s H locs M) (hk : kd t k ≠ 0) (he : cw t E k (M.1 k) (M.2.1 k) M.2.2 = x) : va_at E.1 clL (E.2.1 k, x) H := by rw [← he]; exact hI.1.2.1 k hk
theorem XI.A {k : Nat} (hk : kd t k ≠ 0) : XA t E (E.2.1 k) := ⟨k, hk, rfl⟩
theorem XI.P1 {k : Nat} {x : va_E} (hI : XI t E s H locs M) (hk : kd t k ≠ 0) (he : cw t E k (M.1 k) (M.2.1 k) M.2.2 = x) : va_P E.1 clL [(E.2.1 k, x)] H := by
  intro i q h
  match i, h with
  | 0, h => cases h; exact hI.at hk he
  | i + 1, h => cases h
theorem XK.K0 (hK : XK t E s) : va_K E.1 clL [] s := ⟨hK.1, fun k q h => by cases h⟩
/-- a field, by a link of the tables -/
theorem xr_get (C : XC t p s m args meth c cc nL own ret E) (hI : XI t E s H locs M) {k ci : Nat} {fs : List Value} (hk : kd t k ≠ 0) (he : cw t E k (M.1 k) (M.2.1 k) M.2.2 = .inr (ci, fs)) {Cn : String} {T : u_T} {N : Nat} (hc : clL[ci]? = some (Cn, T, N)) (hin : ∀ w ∈ u_ws Cn T N, w ∈ lw_all) (j : Nat) (hj : j < N) {index : Nat} (hlink : Cond.fieldLink own index (T j).1 (T j).2.1 (T j).2.2.1 ∈ lw_all) {v : Value} (hv : fs[j]? = some v) (hdg : decode cc pc = .ok (.getfield index, 3))
    (kk : W p l e R s m args below meth c H locs cells slots Q (F0 m (pc + 3) ls (v :: rest))) : W p l e R s m args below meth c H locs cells slots Q (F0 m pc ls (.ref (E.2.1 k) :: rest)) := by
  obtain ⟨hx, hb, -, hown, hts, -, -, hK⟩ := C
  exact va_get hx hb hts hin hown hK.K0 (hI.P1 hk he) 0 rfl hc j hj (hts _ hlink) (fun _ h => h) hv hdg kk
/-- a field of a nest mate -/
theorem xr_getN (C : XC t p s m args meth c cc nL own ret E) (hI : XI t E s H locs M) {k ci : Nat} {fs : List Value} (hk : kd t k ≠ 0) (he : cw t E k (M.1 k) (M.2.1 k) M.2.2 = .inr (ci, fs)) {Cn : String} {T : u_T} {N : Nat} (hc : clL[ci]? = some (Cn, T, N)) (hin : ∀ w ∈ u_ws Cn T N, w ∈ lw_all) (j : Nat) (hj : j < N) {index : Nat} (i : Nat) (hlink : nwL[i]? = some (Cond.fieldLinkNest own index (T j).1 (T j).2.1 (T j).2.2.1 "NetSearch")) {v : Value} (hv : fs[j]? = some v) (hdg : decode cc pc = .ok (.getfield index, 3))
    (kk : W p l e R s m args below meth c H locs cells slots Q (F0 m (pc + 3) ls (v :: rest))) : W p l e R s m args below meth c H locs cells slots Q (F0 m pc ls (.ref (E.2.1 k) :: rest)) := by
  obtain ⟨hx, hb, -, hown, hts, -, -, hK⟩ := C
  exact va_getN hx hb hts hin hown hK.K0 (hI.P1 hk he) 0 rfl hc j hj (va_Nw.use rfl (hK.2.2.2.2 i _ hlink)) (fun _ h => h) hv hdg kk
theorem XI.seti {k : Nat} {M1 : Mem} {H1 : Heap} {i : Nat} (hI : XI t E s H locs M) (hk : kd t k ≠ 0) (oq : ∀ q : Nat, q ≠ E.2.1 k → H1[q]? = H[q]?) (z : H1.size = H.size) (hc : va_at E.1 clL (E.2.1 k, cw t E k (M1.1 k) (M.2.1 k) M.2.2) H1) (e1 : ∀ b, b ≠ k → M1.1 b = M.1 b) (e2 : M1.2 = M.2) : XI t E s H1 (locs ++ [⟨E.2.1 k, i⟩]) M1 :=
  ⟨hI.1.seti hk oq hc e1 e2, hI.2.put z oq (XI.A hk)⟩
/-- an int field is written -/
theorem xr_put (C : XC t p s m args meth c cc nL own ret E) (hI : XI t E s H locs M) {k ci : Nat} {fs : (Nat → Int32) → List Value} (hk : kd t k ≠ 0) (he : ∀ a, cw t E k a (M.2.1 k) M.2.2 = .inr (ci, fs a)) {Cn : String} {T : u_T} {N : Nat} (hc : clL[ci]? = some (Cn, T, N)) (hin : ∀ w ∈ u_ws Cn T N, w ∈ lw_all) {ty0 : Nat → FieldType} (hty : ∀ k, k < N → parseFieldDescriptor (T k).2.2.1 = some (ty0 k)) (hnm : ∀ a, a < N → ∀ b, b < N → a ≠ b → (T a).2.1 ≠ (T b).2.1) (j : Nat) (hj : j < N) {index : Nat} (hlink : Cond.fieldLink own index (T j).1 (T j).2.1 (T j).2.2.1 ∈ lw_all) {v : Int32} {ty : FieldType} (hfin : (T j).2.2.2 = false) (hd : ty0 j = ty) (hn : narrow ty (.int v) = .int v) (hf : fits ty (.int v) = true) (hlen : j < (fs (M.1 k)).length) (hset : (fs (M.1 k)).set j (.int v) = fs (va_up (M.1 k) j v)) (hdg : decode cc pc = .ok (.putfield index, 3))
    (kk : ∀ (H1 : Heap) (locs1 : List Loc), XI t E s H1 locs1 (up2 M.1 k j v, M.2) → W p l e R s m args below meth c H1 locs1 cells slots Q (F0 m (pc + 3) ls rest)) : W p l e R s m args below meth c H locs cells slots Q (F0 m pc ls (.int v :: .ref (E.2.1 k) :: rest)) := by
  obtain ⟨hx, hb, -, hown, hts, -, -, hK⟩ := C
  have hap := va_apart (own := own) hts hin ty0 hty hnm hK.K0 hc
  obtain ⟨r, h1, cell, q1, q2, q3, q4⟩ := hI.at hk (he (M.1 k))
  have hr : r = (Cn, T, N) := Option.some.inj (h1.symm.trans hc)
  subst hr
  obtain ⟨hS, hfc, kC, hkC, hkind⟩ := hK.1 ci _ hc
  obtain ⟨cf, kf, fi, f, hi, hsl⟩ := hS j hj
  have hlay := hts _ (hin _ (u_in_lay hj))
  unfold u_lay at hlay
  rw [if_neg (by rw [hfin]; decide)] at hlay
  have hst := (u_facts hfc hkC (u_lays hts hin hj) hi).1
  have h6 := u_store hfc hkC hkind hlay hi ((hty j hj).trans (by rw [hd])) hn hf
  refine W.putK hx hb (f := f) ⟨hown, hts _ hlink, ⟨_, _, _, hi⟩, hst⟩ (by rw [q2]; exact h6) q1 q3 (by rw [hsl]; exact k2_hasslot (q4 j hj)) rfl rfl hdg fun H' e1 e2 e3 => ?_
  rw [hsl] at e1 ⊢
  refine kk H' _ (hI.seti hk e3 e2 ?_ (fun b hb => up2_n _ _ _ hb) rfl)
  rw [up2_s, he, ← hset]
  exact ⟨_, hc, t_OB.to (V := updV (vp_V (fs (M.1 k))) j (.int v)) ⟨_, e1, q2, q3, t_set q4 hap hj (.int v)⟩ (fun i _ => vp_updV_set hlen _ i)⟩
theorem xr_putN (C : XC t p s m args meth c cc nL own ret E) (hI : XI t E s H locs M) {k ci : Nat} {fs : (Nat → Int32) → List Value} (hk : kd t k ≠ 0) (he : ∀ a, cw t E k a (M.2.1 k) M.2.2 = .inr (ci, fs a)) {Cn : String} {T : u_T} {N : Nat} (hc : clL[ci]? = some (Cn, T, N)) (hin : ∀ w ∈ u_ws Cn T N, w ∈ lw_all) {ty0 : Nat → FieldType} (hty : ∀ k, k < N → parseFieldDescriptor (T k).2.2.1 = some (ty0 k)) (hnm : ∀ a, a < N → ∀ b, b < N → a ≠ b → (T a).2.1 ≠ (T b).2.1) (j : Nat) (hj : j < N) {index : Nat} (i : Nat) (hlink : nwL[i]? = some (Cond.fieldLinkNest own index (T j).1 (T j).2.1 (T j).2.2.1 "NetSearch")) {v : Int32} {ty : FieldType} (hfin : (T j).2.2.2 = false) (hd : ty0 j = ty) (hn : narrow ty (.int v) = .int v) (hf : fits ty (.int v) = true) (hlen : j < (fs (M.1 k)).length) (hset : (fs (M.1 k)).set j (.int v) = fs (va_up (M.1 k) j v)) (hdg : decode cc pc = .ok (.putfield index, 3))
    (kk : ∀ (H1 : Heap) (locs1 : List Loc), XI t E s H1 locs1 (up2 M.1 k j v, M.2) → W p l e R s m args below meth c H1 locs1 cells slots Q (F0 m (pc + 3) ls rest)) : W p l e R s m args below meth c H locs cells slots Q (F0 m pc ls (.int v :: .ref (E.2.1 k) :: rest)) := by
  obtain ⟨hx, hb, -, hown, hts, -, -, hK⟩ := C
  have hap := va_apart (own := own) hts hin ty0 hty hnm hK.K0 hc
  obtain ⟨r, h1, cell, q1, q2, q3, q4⟩ := hI.at hk (he (M.1 k))
  have hr : r = (Cn, T, N) := Option.some.inj (h1.symm.trans hc)
  subst hr
  obtain ⟨hS, hfc, kC, hkC, hkind⟩ := hK.1 ci _ hc
  obtain ⟨cf, kf, fi, f, hi, hsl⟩ := hS j hj
  have hlay := hts _ (hin _ (u_in_lay hj))
  unfold u_lay at hlay
  rw [if_neg (by rw [hfin]; decide)] at hlay
  have hst := (u_facts hfc hkC (u_lays hts hin hj) hi).1
  have h6 := u_store hfc hkC hkind hlay hi ((hty j hj).trans (by rw [hd])) hn hf
  refine va_WputK hx hb (f := f) hown (va_Nw.use rfl (hK.2.2.2.2 i _ hlink)) hi hst (by rw [q2]; exact h6) q1 q3 (by rw [hsl]; exact k2_hasslot (q4 j hj)) rfl rfl hdg fun H' e1 e2 e3 => ?_
  rw [hsl] at e1 ⊢
  refine kk H' _ (hI.seti hk e3 e2 ?_ (fun b hb => up2_n _ _ _ hb) rfl)
  rw [up2_s, he, ← hset]
  exact ⟨_, hc, t_OB.to (V := updV (vp_V (fs (M.1 k))) j (.int v)) ⟨_, e1, q2, q3, t_set q4 hap hj (.int v)⟩ (fun i _ => vp_updV_set hlen _ i)⟩
/-- arrays of ints, booleans, longs: a read -/
theorem xr_ial (C : XC t p s m args meth c cc nL own ret E) (hI : XI t E s H locs M) {k n : Nat} (hk : kd t k = 4) (hn : ln t k = n) {i : Int32} (hin : inB i n = true) (hdg : decode cc pc = .ok (.iaload, 1))
    (kk : W p l e R s m args below meth c H locs cells slots Q (F0 m (pc + 1) ls (.int (M.1 k i.toNatClampNeg) :: rest))) : W p l e R s m args below meth c H locs cells slots Q (F0 m pc ls (.int i :: .ref (E.2.1 k) :: rest)) := by
  obtain ⟨hx, hb, -, hown, hts, -, -, hK⟩ := C
  subst hn
  have hlt := inB_lt hin
  exact W.iald (v := .int (M.1 k i.toNatClampNeg)) hx hb (hI.at (kd_ne hk (by decide)) (cw4 hk)) (hK.2.1.1 _ (fun j => .int (M.1 k j))) (fun q => by cases q) (by show ¬ (i < 0 ∨ (arrV _ _ _).slots.size ≤ _); rw [arrV_size]; exact inB_in hin) (by show (arrV _ _ _).slots[_]? = _; rw [arrV_read _ _ hlt]) rfl rfl hdg kk
theorem xr_zal (C : XC t p s m args meth c cc nL own ret E) (hI : XI t E s H locs M) {k n : Nat} (hk : kd t k = 5) (hn : ln t k = n) {i : Int32} (hin : inB i n = true) (hdg : decode cc pc = .ok (.baload, 1))
    (kk : W p l e R s m args below meth c H locs cells slots Q (F0 m (pc + 1) ls (.int (M.1 k i.toNatClampNeg) :: rest))) : W p l e R s m args below meth c H locs cells slots Q (F0 m pc ls (.int i :: .ref (E.2.1 k) :: rest)) := by
  obtain ⟨hx, hb, -, hown, hts, -, -, hK⟩ := C
  subst hn
  have hlt := inB_lt hin
  exact W.zald (v := .int (M.1 k i.toNatClampNeg)) hx hb (hI.at (kd_ne hk (by decide)) (cw5 hk)) (hK.2.1.2.1 _ (fun j => .int (M.1 k j))) (fun q => by cases q) (by show ¬ (i < 0 ∨ (arrV _ _ _).slots.size ≤ _); rw [arrV_size]; exact inB_in hin) (by show (arrV _ _ _).slots[_]? = _; rw [arrV_read _ _ hlt]) rfl rfl hdg kk
theorem xr_lal (C : XC t p s m args meth c cc nL own ret E) (hI : XI t E s H locs M) {k n : Nat} (hk : kd t k = 6) (hn : ln t k = n) {i : Int32} (hin : inB i n = true) (hdg : decode cc pc = .ok (.laload, 1))
    (kk : W p l e R s m args below meth c H locs cells slots Q (F0 m (pc + 1) ls (.long (M.2.1 k i.toNatClampNeg) :: rest))) : W p l e R s m args below meth c H locs cells slots Q (F0 m pc ls (.int i :: .ref (E.2.1 k) :: rest)) := by
  obtain ⟨hx, hb, -, hown, hts, -, -, hK⟩ := C
  subst hn
  have hlt := inB_lt hin
  exact W.lald (v := .long (M.2.1 k i.toNatClampNeg)) hx hb (hI.at (kd_ne hk (by decide)) (cw6 hk)) (hK.2.1.2.2.1 _ (fun j => .long (M.2.1 k j))) (fun q => by cases q) (by show ¬ (i < 0 ∨ (arrV _ _ _).slots.size ≤ _); rw [arrV_size]; exact inB_in hin) (by show (arrV _ _ _).slots[_]? = _; rw [arrV_read _ _ hlt]) rfl rfl hdg kk
/-- arrays of references: the faces, the shapes, the rows, the ways -/
theorem xr_aaF (C : XC t p s m args meth c cc nL own ret E) (hI : XI t E s H locs M) {k : Nat} (hk : kd t k = 7) {i : Int32} (hin : inB i 22 = true) (hdg : decode cc pc = .ok (.aaload, 1))
    (kk : W p l e R s m args below meth c H locs cells slots Q (F0 m (pc + 1) ls (.ref (E.2.1 (100 + i.toNatClampNeg)) :: rest))) : W p l e R s m args below meth c H locs cells slots Q (F0 m pc ls (.int i :: .ref (E.2.1 k) :: rest)) := by
  obtain ⟨hx, hb, -, hown, hts, -, -, hK⟩ := C
  have hlt := inB_lt hin
  exact W.aald (v := .ref (E.2.1 (100 + i.toNatClampNeg))) (ty := .object "NetSearch$Face") hx hb (hI.at (kd_ne hk (by decide)) (cw7 hk)) (hK.2.1.2.2.2.1 _ (fun j => va_rf (some (E.2.1 (100 + j))))) rfl (fun q => by cases q) (by show ¬ (i < 0 ∨ (arrV _ _ _).slots.size ≤ _); rw [arrV_size]; exact inB_in hin) (by show (arrV _ _ _).slots[_]? = _; rw [arrV_read _ _ hlt]; rfl) rfl rfl hdg kk
theorem xr_aaS (C : XC t p s m args meth c cc nL own ret E) (hI : XI t E s H locs M) {k : Nat} (hk : kd t k = 8) {i : Int32} (hin : inB i 64 = true) (hdg : decode cc pc = .ok (.aaload, 1))
    (kk : W p l e R s m args below meth c H locs cells slots Q (F0 m (pc + 1) ls (.ref (E.2.1 (500 + i.toNatClampNeg)) :: rest))) : W p l e R s m args below meth c H locs cells slots Q (F0 m pc ls (.int i :: .ref (E.2.1 k) :: rest)) := by
  obtain ⟨hx, hb, -, hown, hts, -, -, hK⟩ := C
  have hlt := inB_lt hin
  exact W.aald (v := .ref (E.2.1 (500 + i.toNatClampNeg))) (ty := .array .int) hx hb (hI.at (kd_ne hk (by decide)) (cw8 hk)) (hK.2.1.2.2.2.2.1 _ (fun j => va_rf (some (E.2.1 (500 + j))))) rfl (fun q => by cases q) (by show ¬ (i < 0 ∨ (arrV _ _ _).slots.size ≤ _); rw [arrV_size]; exact inB_in hin) (by show (arrV _ _ _).slots[_]? = _; rw [arrV_read _ _ hlt]; rfl) rfl rfl hdg kk
theorem xr_aaR (C : XC t p s m args meth c cc nL own ret E) (hI : XI t E s H locs M) {k : Nat} (hk : kd t k = 9) {i : Int32} (hin : inB i 22 = true) (hdg : decode cc pc = .ok (.aaload, 1))
    (kk : W p l e R s m args below meth c H locs cells slots Q (F0 m (pc + 1) ls (.ref (E.2.1 (400 + M.2.2 i.toNatClampNeg)) :: rest))) : W p l e R s m args below meth c H locs cells slots Q (F0 m pc ls (.int i :: .ref (E.2.1 k) :: rest)) := by
  obtain ⟨hx, hb, -, hown, hts, -, -, hK⟩ := C
  have hlt := inB_lt hin
  exact W.aald (v := .ref (E.2.1 (400 + M.2.2 i.toNatClampNeg))) (ty := .array .long) hx hb (hI.at (kd_ne hk (by decide)) (cw9 hk)) (hK.2.1.2.2.2.2.2.1 _ (fun j => va_rf (some (E.2.1 (400 + M.2.2 j))))) rfl (fun q => by cases q) (by show ¬ (i < 0 ∨ (arrV _ _ _).slots.size ≤ _); rw [arrV_size]; exact inB_in hin) (by show (arrV _ _ _).slots[_]? = _; rw [arrV_read _ _ hlt]; rfl) rfl rfl hdg kk
theorem xr_aaW (C : XC t p s m args meth c cc nL own ret E) (hI : XI t E s H locs M) {k : Nat} (hk : kd t k = 10) {i : Int32} (hin : inB i 6 = true) (hdg : decode cc pc = .ok (.aaload, 1))
    (kk : W p l e R s m args below meth c H locs cells slots Q (F0 m (pc + 1) ls (.ref (E.2.2.2 i.toNatClampNeg) :: rest))) : W p l e R s m args below meth c H locs cells slots Q (F0 m pc ls (.int i :: .ref (E.2.1 k) :: rest)) := by
  obtain ⟨hx, hb, -, hown, hts, -, -, hK⟩ := C
  have hlt := inB_lt hin
  exact W.aald (v := .ref (E.2.2.2 i.toNatClampNeg)) (ty := .object "NetSearch$Way") hx hb (hI.at (kd_ne hk (by decide)) (cw10 hk)) (hK.2.1.2.2.2.2.2.2 _ (fun j => va_rf (some (E.2.2.2 j)))) rfl (fun q => by cases q) (by show ¬ (i < 0 ∨ (arrV _ _ _).slots.size ≤ _); rw [arrV_size]; exact inB_in hin) (by show (arrV _ _ _).slots[_]? = _; rw [arrV_read _ _ hlt]; rfl) rfl rfl hdg kk
/-- a Way's x, y, z -/
theorem xr_way (C : XC t p s m args meth c cc nL own ret E) (hI : XI t E s H locs M) {j : Nat} {n : String} {v : Int32} (hO : va_OF "NetSearch$Way" n "I" (.int v) (E.2.2.2 j) (XA t E) s s.heap) {index : Nat} (i : Nat) (hlink : nwL[i]? = some (Cond.fieldLinkNest own index "NetSearch$Way" n "I" "NetSearch")) (hdg : decode cc pc = .ok (.getfield index, 3))
    (kk : W p l e R s m args below meth c H locs cells slots Q (F0 m (pc + 3) ls (.int v :: rest))) : W p l e R s m args below meth c H locs cells slots Q (F0 m pc ls (.ref (E.2.2.2 j) :: rest)) := by
  obtain ⟨hx, hb, -, hown, hts, -, -, hK⟩ := C
  obtain ⟨cf, k, fi, f, cell, h1, h2, h3, h4, h5, h6⟩ := hO
  exact va_Wgetf hx hb hown (va_Nw.use rfl (hK.2.2.2.2 i _ hlink)) h1 h2 (by rw [hI.2.2.1 _ h6]; exact h3) h4 h5 rfl rfl hdg kk
/-- lengths -/
theorem xr_len4 (C : XC t p s m args meth c cc nL own ret E) (hI : XI t E s H locs M) {k n : Nat} (hk : kd t k = 4) (hn : ln t k = n) (hdg : decode cc pc = .ok (.arraylength, 1))
    (kk : W p l e R s m args below meth c H locs cells slots Q (F0 m (pc + 1) ls (.int (nI n) :: rest))) : W p l e R s m args below meth c H locs cells slots Q (F0 m pc ls (.ref (E.2.1 k) :: rest)) := by
  obtain ⟨hx, hb, -, hown, hts, -, -, hK⟩ := C
  subst hn
  exact W.alen hx hb (hI.at (kd_ne hk (by decide)) (cw4 hk)) (hK.2.1.1 _ (fun j => .int (M.1 k j))) (by show (arrV _ _ _).slots.size.toInt32 = _; rw [arrV_size]; rfl) rfl rfl hdg kk
theorem xr_len6 (C : XC t p s m args meth c cc nL own ret E) (hI : XI t E s H locs M) {k n : Nat} (hk : kd t k = 6) (hn : ln t k = n) (hdg : decode cc pc = .ok (.arraylength, 1))
    (kk : W p l e R s m args below meth c H locs cells slots Q (F0 m (pc + 1) ls (.int (nI n) :: rest))) : W p l e R s m args below meth c H locs cells slots Q (F0 m pc ls (.ref (E.2.1 k) :: rest)) := by
  obtain ⟨hx, hb, -, hown, hts, -, -, hK⟩ := C
  subst hn
  exact W.alen hx hb (hI.at (kd_ne hk (by decide)) (cw6 hk)) (hK.2.1.2.2.1 _ (fun j => .long (M.2.1 k j))) (by show (arrV _ _ _).slots.size.toInt32 = _; rw [arrV_size]; rfl) rfl rfl hdg kk
theorem xr_lenW (C : XC t p s m args meth c cc nL own ret E) (hI : XI t E s H locs M) {k : Nat} (hk : kd t k = 10) (hdg : decode cc pc = .ok (.arraylength, 1))
    (kk : W p l e R s m args below meth c H locs cells slots Q (F0 m (pc + 1) ls (.int 6 :: rest))) : W p l e R s m args below meth c H locs cells slots Q (F0 m pc ls (.ref (E.2.1 k) :: rest)) := by
  obtain ⟨hx, hb, -, hown, hts, -, -, hK⟩ := C
  exact W.alen hx hb (hI.at (kd_ne hk (by decide)) (cw10 hk)) (hK.2.1.2.2.2.2.2.2 _ (fun j => va_rf (some (E.2.2.2 j)))) (by show (arrV _ _ _).slots.size.toInt32 = _; rw [arrV_size]; rfl) rfl rfl hdg kk
/-- arrays: a write -/
theorem xr_ias (C : XC t p s m args meth c cc nL own ret E) (hI : XI t E s H locs M) {k n : Nat} (hk : kd t k = 4) (hn : ln t k = n) {i v : Int32} (hin : inB i n = true) (hdg : decode cc pc = .ok (.iastore, 1))
    (kk : ∀ (H1 : Heap) (locs1 : List Loc), XI t E s H1 locs1 (up2 M.1 k i.toNatClampNeg v, M.2) → W p l e R s m args below meth c H1 locs1 cells slots Q (F0 m (pc + 1) ls rest)) : W p l e R s m args below meth c H locs cells slots Q (F0 m pc ls (.int v :: .int i :: .ref (E.2.1 k) :: rest)) := by
  obtain ⟨hx, hb, -, hown, hts, -, -, hK⟩ := C
  subst hn
  have hk0 := kd_ne hk (by decide)
  refine W.iast hx hb (hI.at hk0 (cw4 hk)) (hK.2.1.1 _ (fun j => .int (M.1 k j))) (fun q => by cases q) (by show ¬ (i < 0 ∨ (arrV _ _ _).slots.size ≤ _); rw [arrV_size]; exact inB_in hin) rfl rfl hdg fun H1 e z oq => ?_
  refine kk H1 _ (hI.seti hk0 oq z ?_ (fun b hb => up2_n _ _ _ hb) rfl)
  rw [up2_s, cw4 hk]
  show H1[E.2.1 k]? = some (vp_cell _ _)
  rw [e, vp_cell_i, vp_cell_i, arrV_store]
  congr 2
  funext q
  by_cases hq : q = i.toNatClampNeg <;> simp [updV, va_up, hq]
theorem xr_zas (C : XC t p s m args meth c cc nL own ret E) (hI : XI t E s H locs M) {k n : Nat} (hk : kd t k = 5) (hn : ln t k = n) {i v : Int32} (hin : inB i n = true) (hv : narrow .boolean (.int v) = .int v) (hdg : decode cc pc = .ok (.bastore, 1))
    (kk : ∀ (H1 : Heap) (locs1 : List Loc), XI t E s H1 locs1 (up2 M.1 k i.toNatClampNeg v, M.2) → W p l e R s m args below meth c H1 locs1 cells slots Q (F0 m (pc + 1) ls rest)) : W p l e R s m args below meth c H locs cells slots Q (F0 m pc ls (.int v :: .int i :: .ref (E.2.1 k) :: rest)) := by
  obtain ⟨hx, hb, -, hown, hts, -, -, hK⟩ := C
  subst hn
  have hk0 := kd_ne hk (by decide)
  refine W.zast hx hb (hI.at hk0 (cw5 hk)) (hK.2.1.2.1 _ (fun j => .int (M.1 k j))) (fun q => by cases q) (by show ¬ (i < 0 ∨ (arrV _ _ _).slots.size ≤ _); rw [arrV_size]; exact inB_in hin) rfl rfl hdg fun H1 e z oq => ?_
  refine kk H1 _ (hI.seti hk0 oq z ?_ (fun b hb => up2_n _ _ _ hb) rfl)
  rw [up2_s, cw5 hk]
  show H1[E.2.1 k]? = some (vp_cell _ _)
  rw [e, hv, vp_cell_i, vp_cell_i, arrV_store]
  congr 2
  funext q
  by_cases hq : q = i.toNatClampNeg <;> simp [updV, va_up, hq]
theorem xr_las (C : XC t p s m args meth c cc nL own ret E) (hI : XI t E s H locs M) {k n : Nat} (hk : kd t k = 6) (hn : ln t k = n) {i : Int32} {v : Int64} (hin : inB i n = true) (hdg : decode cc pc = .ok (.lastore, 1))
    (kk : ∀ (H1 : Heap) (locs1 : List Loc), XI t E s H1 locs1 (M.1, up2 M.2.1 k i.toNatClampNeg v, M.2.2) → W p l e R s m args below meth c H1 locs1 cells slots Q (F0 m (pc + 1) ls rest)) : W p l e R s m args below meth c H locs cells slots Q (F0 m pc ls (.long v :: .int i :: .ref (E.2.1 k) :: rest)) := by
  obtain ⟨hx, hb, -, hown, hts, -, -, hK⟩ := C
  subst hn
  have hk0 := kd_ne hk (by decide)
  refine W.last hx hb (hI.at hk0 (cw6 hk)) (hK.2.1.2.2.1 _ (fun j => .long (M.2.1 k j))) (fun q => by cases q) (by show ¬ (i < 0 ∨ (arrV _ _ _).slots.size ≤ _); rw [arrV_size]; exact inB_in hin) rfl rfl hdg fun H1 e z oq => ?_
  refine kk H1 _ ⟨hI.1.setl hk0 oq ?_ (fun b hb => up2_n _ _ _ hb) rfl rfl, hI.2.put z oq (XI.A hk0)⟩
  rw [up2_s, cw6 hk]
  show H1[E.2.1 k]? = some (vp_cell _ _)
  rw [e, vp_cell_l, vp_cell_l, arrV_store]
  congr 2
  funext q
  by_cases hq : q = i.toNatClampNeg <;> simp [updV, va_up, hq]
/-- rows[i] = the row of number r -/
theorem xr_aas (C : XC 0 p s m args meth c cc nL own ret E) (hI : XI 0 E s H locs M) {i : Int32} {r : Nat} (hr : r < 22) (hin : inB i 22 = true) (hdg : decode cc pc = .ok (.aastore, 1))
    (kk : ∀ (H1 : Heap) (locs1 : List Loc), XI 0 E s H1 locs1 (M.1, M.2.1, va_up M.2.2 i.toNatClampNeg r) → W p l e R s m args below meth c H1 locs1 cells slots Q (F0 m (pc + 1) ls rest)) : W p l e R s m args below meth c H locs cells slots Q (F0 m pc ls (.ref (E.2.1 (400 + r)) :: .int i :: .ref (E.2.1 10) :: rest)) := by
  obtain ⟨hx, hb, -, hown, hts, -, -, hK⟩ := C
  have hlt := inB_lt hin
  have h0 : ¬ i < 0 := fun q => inB_in hin (Or.inl q)
  have hk : kd 0 10 = 9 := rfl
  have hk0 : kd 0 10 ≠ 0 := kd_ne hk (by decide)
  have hk6 : kd 0 (400 + r) = 6 := by unfold kd; simp only [if_true]; rw [if_neg (by omega), if_neg (by omega), if_neg (by omega), if_neg (by omega), if_neg (by omega), if_neg (by omega), if_neg (by omega), if_pos (by omega)]
  obtain ⟨k, comp, kc, kv, b1, b2, b3, b4, b5⟩ := hK.2.2.1
  have hrow := hI.at (kd_ne hk6 (by decide)) (cw6 hk6)
  refine W.aast hx hb (hI.at hk0 (cw9 hk)) (fun q h => by cases h) (fun h => by cases h) b1 b2 rfl b3 ⟨h0, by show _ < (arrV _ _ _).slots.size; rw [arrV_size]; exact hlt⟩ hrow (fun q h => by cases h) b4 b5 rfl rfl hdg fun H1 e z oq => ?_
  refine kk H1 _ ⟨⟨hI.1.1, fun j hj => ?_, fun j hj => ?_⟩, hI.2.put z oq (XI.A hk0)⟩
  · by_cases hjk : j = 10
    · subst hjk
      rw [cw9 hk]
      show H1[E.2.1 10]? = some (vp_cell _ _)
      rw [e, vp_cell_q, vp_cell_q, arrV_store]
      congr 2
      funext q
      by_cases hq : q = i.toNatClampNeg
      · subst hq
        simp [updV, va_up, va_rf]
      · simp [updV, va_up, hq]
    · have e9 : cw 0 E j (M.1 j) (M.2.1 j) (va_up M.2.2 i.toNatClampNeg r) = cw 0 E j (M.1 j) (M.2.1 j) M.2.2 := by
        unfold cw
        split <;> first | rfl | skip
        exfalso
        rename_i h9
        unfold kd at h9
        simp only [if_true] at h9
        split at h9
        · rename_i hj1
          have : ∀ j, j < 100 → kdS.getD j 0 = 9 → j = 10 := by decide
          exact hjk (this j hj1 h9)
        · repeat (split at h9; · cases h9)
          cases h9
      show va_at E.1 clL (E.2.1 j, cw 0 E j (M.1 j) (M.2.1 j) (va_up M.2.2 i.toNatClampNeg r)) H1
      rw [e9]
      exact (hI.1.2.1 j hj).kept (oq _ (fun z => hjk (hI.1.1 j 10 hj hk0 z)))
  · show va_up M.2.2 i.toNatClampNeg r j < 22
    unfold va_up
    split
    · exact hr
    · exact hI.1.2.2 j hj
end XROWS
