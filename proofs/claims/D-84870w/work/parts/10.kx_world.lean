/-! ===== THE MACHINE IN ONE THEOREM, part 1: an abstract heap (what is known at an address; how many cells there are), and the kit's rows over it ===== -/
abbrev kx_E : Type := (Nat × vp_A) ⊕ (Nat × List Value)
abbrev kx_G : Type := va_G × (Nat → ClassId)
abbrev kx_X : Type := (Nat → Option kx_E) × Nat
def kx_e (D : kx_G) (x : kx_E) : va_E := match x with
  | .inl a => .inl (D.2 a.1, a.2)
  | .inr o => .inr o
def kx_R (D : kx_G) (cl : List vw_C) (X : kx_X) (H : Heap) : Prop := H.size = X.2 ∧ ∀ (a : Nat) (x : kx_E), X.1 a = some x → va_at D.1 cl (a, kx_e D x) H
def kx_set (X : kx_X) (a : Nat) (x : kx_E) : kx_X := (fun q => if q = a then some x else X.1 q, X.2)
def kx_push (X : kx_X) (x : kx_E) : kx_X := (fun q => if q = X.2 then some x else X.1 q, X.2 + 1)
/-- what the tables say of an array of arrays -/
def kx_RB (U : State) (cA : ClassId) (ty : FieldType) : Prop := match ty with
  | .array t => ∃ (kA : Class) (comp : ClassId), U.vm.classes[cA]? = some kA ∧ kA.kind = .array comp (.array t) ∧ U.vm.findClass (FieldType.array t).toString = some comp
  | _ => True
def kx_K (tl : List FieldType) (D : kx_G) (cl : List vw_C) (U : State) : Prop := (∀ (c : Nat) (q : vw_C), cl[c]? = some q → u_Kn U q.1 q.2.1 q.2.2 (D.1.1 c) (D.1.2 c)) ∧ ∀ (k : Nat) (ty : FieldType), tl[k]? = some ty → (ArrOfT U (D.2 k) ty ∧ va_RA U (D.2 k) ty) ∧ kx_RB U (D.2 k) ty
theorem kx_RB.moved {u U : State} (hvm : u.vm.Alike U.vm) {cA : ClassId} {ty : FieldType} (h : kx_RB u cA ty) : kx_RB U cA ty := by
  cases ty with
  | array t =>
    obtain ⟨kA, comp, h1, h2, h3⟩ := h
    obtain ⟨k', hk', he⟩ := hvm.2.2 _ _ h1
    exact ⟨k', comp, hk', by rw [he]; exact h2, by rw [hvm.findClass]; exact h3⟩
  | _ => trivial
theorem kx_K.moved {tl : List FieldType} {D : kx_G} {cl : List vw_C} {u U : State} (hvm : u.vm.Alike U.vm) (h : kx_K tl D cl u) : kx_K tl D cl U :=
  ⟨fun c q hq => u_Kn_moved hvm (h.1 c q hq), fun k ty hk => ⟨⟨arrOfT_moved hvm (h.2 k ty hk).1.1, (h.2 k ty hk).1.2.moved hvm⟩, (h.2 k ty hk).2.moved hvm⟩⟩
theorem kx_K.one {tl : List FieldType} {D : kx_G} {cl : List vw_C} {U : State} (h : kx_K tl D cl U) {k : Nat} {ty : FieldType} (hk : tl[k]? = some ty) : va_K D.1 cl [(D.2 k, ty)] U := by
  refine ⟨h.1, fun j q hj => ?_⟩
  have hz : j < 1 := (List.getElem?_eq_some_iff.mp hj).1
  rw [show j = 0 by omega] at hj
  cases hj
  exact (h.2 k ty hk).1
theorem kx_K.none {tl : List FieldType} {D : kx_G} {cl : List vw_C} {U : State} (h : kx_K tl D cl U) : va_K D.1 cl [] U := ⟨h.1, fun j q hj => by simp at hj⟩
theorem kx_R.one {D : kx_G} {cl : List vw_C} {X : kx_X} {H : Heap} (h : kx_R D cl X H) {a : Nat} {x : kx_E} (ha : X.1 a = some x) : va_P D.1 cl [(a, kx_e D x)] H := by
  intro j q hj
  have hz : j < 1 := (List.getElem?_eq_some_iff.mp hj).1
  rw [show j = 0 by omega] at hj
  cases hj
  exact h.2 a x ha
theorem kx_R.lt {D : kx_G} {cl : List vw_C} {X : kx_X} {H : Heap} (h : kx_R D cl X H) {a : Nat} {x : kx_E} (ha : X.1 a = some x) : a < X.2 := by
  have := (h.2 a x ha).lt
  rw [← h.1]
  exact this
theorem kx_R.put {D : kx_G} {cl : List vw_C} {X : kx_X} {H H1 : Heap} (h : kx_R D cl X H) {a : Nat} {x : kx_E} (he : va_at D.1 cl (a, kx_e D x) H1) (z : H1.size = H.size) (oq : ∀ q : Nat, q ≠ a → H1[q]? = H[q]?) : kx_R D cl (kx_set X a x) H1 := by
  refine ⟨z.trans h.1, fun q y hq => ?_⟩
  by_cases hqa : q = a
  · subst hqa
    simp only [kx_set, if_pos] at hq
    cases hq
    exact he
  · simp only [kx_set, if_neg hqa] at hq
    exact (h.2 q y hq).kept (oq q hqa)
theorem kx_R.add {D : kx_G} {cl : List vw_C} {X : kx_X} {H H1 : Heap} (h : kx_R D cl X H) {x : kx_E} (he : va_at D.1 cl (X.2, kx_e D x) H1) (z : H1.size = X.2 + 1) (oq : ∀ q : Nat, q < X.2 → H1[q]? = H[q]?) : kx_R D cl (kx_push X x) H1 := by
  refine ⟨z, fun q y hq => ?_⟩
  by_cases hqa : q = X.2
  · subst hqa
    simp only [kx_push, if_pos] at hq
    cases hq
    exact he
  · simp only [kx_push, if_neg hqa] at hq
    exact (h.2 q y hq).kept (oq q (h.lt hq))
theorem kx_S.add {A : Nat → Prop} {H0 H H1 : Heap} {locs : List Loc} {sz : Nat} (h : va_S A H0 H locs) (hz0 : H.size = sz) (z : H1.size = sz + 1) (oq : ∀ q : Nat, q < sz → H1[q]? = H[q]?) : va_S A H0 H1 locs :=
  ⟨Nat.le_trans h.1 (by omega), fun q h1 h2 => (oq q (by have := h.1; omega)).trans (h.2.1 q h1 h2), h.2.2⟩
section KXR
variable {p : Program} {l : Launch} {e : Env} {R : Room} {s : State} {m : MethodId} {args : Array Value} {below : List Frame} {meth : Method} {c : Code} {H : Heap} {locs : List Loc} {cells slots : Nat} {Q : State → Prop}
variable {cc : ByteArray} {pc : Nat} {ls : Array Slot} {rest : List Value} {D : kx_G} {cl : List vw_C} {tl : List FieldType} {A : Nat → Prop} {a : Nat} {X : kx_X} {H0 : Heap}
theorem kx_get (hexec : p.tables.exec = Jvm.exec) (hb : c.code = cc) {own ref C : String} {T : u_T} {N ci index : Nat} {Ts : List Cond} (hts : ∀ w ∈ Ts, w.before args s = true) (hin : ∀ w ∈ u_ws C T N, w ∈ Ts) (hown : s.vm.findClass own = some m.cls) (hK : kx_K tl D cl s) (hR : kx_R D cl X H) {fs : List Value} (he : X.1 a = some (.inr (ci, fs))) (hc : cl[ci]? = some (C, T, N)) (k : Nat) (hk : k < N) (hlink : (Cond.fieldLink own index ref (T k).2.1 (T k).2.2.1).before args s = true) (hsame : ∀ x, s.fieldFound? (T k).1 (T k).2.1 (T k).2.2.1 = some x → s.fieldFound? ref (T k).2.1 (T k).2.2.1 = some x) {v : Value} (hv : fs[k]? = some v) (hdg : decode cc pc = .ok (.getfield index, 3))
    (kk : W p l e R s m args below meth c H locs cells slots Q (F0 m (pc + 3) ls (v :: rest))) : W p l e R s m args below meth c H locs cells slots Q (F0 m pc ls (.ref a :: rest)) :=
  va_get hexec hb hts hin hown hK.none (hR.one he) 0 rfl hc k hk hlink hsame hv hdg kk
theorem kx_put (hexec : p.tables.exec = Jvm.exec) (hb : c.code = cc) {own ref C : String} {T : u_T} {N ci index : Nat} {Ts : List Cond} (hts : ∀ w ∈ Ts, w.before args s = true) (hin : ∀ w ∈ u_ws C T N, w ∈ Ts) (ty0 : Nat → FieldType) (hty : ∀ k, k < N → parseFieldDescriptor (T k).2.2.1 = some (ty0 k)) (hnm : ∀ a, a < N → ∀ b, b < N → a ≠ b → (T a).2.1 ≠ (T b).2.1) (hown : s.vm.findClass own = some m.cls) (hK : kx_K tl D cl s) (hR : kx_R D cl X H) (hS0 : va_S A H0 H locs) {fs : List Value} (he : X.1 a = some (.inr (ci, fs))) (hA : A a) (hc : cl[ci]? = some (C, T, N)) (k : Nat) (hk : k < N) (hlink : (Cond.fieldLink own index ref (T k).2.1 (T k).2.2.1).before args s = true) (hsame : ∀ x, s.fieldFound? (T k).1 (T k).2.1 (T k).2.2.1 = some x → s.fieldFound? ref (T k).2.1 (T k).2.2.1 = some x) (hfin : (T k).2.2.2 = false) {ty : FieldType} {v : Value} (hd : parseFieldDescriptor (T k).2.2.1 = some ty) (hn : narrow ty v = v) (hfit : fits ty v = true) (hl : k < fs.length)
    (hdg : decode cc pc = .ok (.putfield index, 3)) (kk : ∀ (H1 : Heap) (locs1 : List Loc), kx_R D cl (kx_set X a (.inr (ci, fs.set k v))) H1 → va_S A H0 H1 locs1 → W p l e R s m args below meth c H1 locs1 cells slots Q (F0 m (pc + 3) ls rest)) : W p l e R s m args below meth c H locs cells slots Q (F0 m pc ls (v :: .ref a :: rest)) := by
  have hap := va_apart (own := own) hts hin ty0 hty hnm hK.none hc
  obtain ⟨r, h1, cell, q1, q2, q3, q4⟩ := hR.2 a _ he
  have hr : r = (C, T, N) := Option.some.inj (h1.symm.trans hc)
  subst hr
  obtain ⟨hS, hfc, kC, hkC, hkind⟩ := hK.1 ci _ hc
  obtain ⟨cf, kf, fi, f, hi, hsl⟩ := hS k hk
  have hlay := hts _ (hin _ (u_in_lay hk))
  unfold u_lay at hlay
  rw [if_neg (by rw [hfin]; decide)] at hlay
  have hst := (u_facts hfc hkC (u_lays hts hin hk) hi).1
  have h6 := u_store hfc hkC hkind hlay hi hd hn hfit
  refine W.putK hexec hb (f := f) ⟨hown, hlink, ⟨_, _, _, hsame _ hi⟩, hst⟩ (by rw [q2]; exact h6) q1 q3 (by rw [hsl]; exact k2_hasslot (q4 k hk)) rfl rfl hdg fun H' e1 e2 e3 => ?_
  rw [hsl] at e1 ⊢
  exact kk H' _ (hR.put ⟨_, hc, t_OB.to (V := updV (vp_V fs) k v) ⟨_, e1, q2, q3, t_set q4 hap hk v⟩ (fun j _ => vp_updV_set hl v j)⟩ e2 e3) (hS0.put e2 e3 hA)
theorem kx_putF (hexec : p.tables.exec = Jvm.exec) (hb : c.code = cc) {own ref C : String} {T : u_T} {N ci index : Nat} {Ts : List Cond} (hts : ∀ w ∈ Ts, w.before args s = true) (hin : ∀ w ∈ u_ws C T N, w ∈ Ts) (ty0 : Nat → FieldType) (hty : ∀ k, k < N → parseFieldDescriptor (T k).2.2.1 = some (ty0 k)) (hnm : ∀ a, a < N → ∀ b, b < N → a ≠ b → (T a).2.1 ≠ (T b).2.1) (hown : s.vm.findClass own = some m.cls) (hK : kx_K tl D cl s) (hR : kx_R D cl X H) (hS0 : va_S A H0 H locs) {fs : List Value} (he : X.1 a = some (.inr (ci, fs))) (hA : A a) (hc : cl[ci]? = some (C, T, N)) (k : Nat) (hk : k < N) (hlink : (Cond.fieldLink own index ref (T k).2.1 (T k).2.2.1).before args s = true) (hsame : ∀ x, s.fieldFound? (T k).1 (T k).2.1 (T k).2.2.1 = some x → s.fieldFound? ref (T k).2.1 (T k).2.2.1 = some x) (hfin : (T k).2.2.2 = true) (hin2 : meth.name = "<init>") (hdecl : (T k).1 = own) {ty : FieldType} {v : Value} (hd : parseFieldDescriptor (T k).2.2.1 = some ty) (hn : narrow ty v = v) (hfit : fits ty v = true) (hl : k < fs.length)
    (hdg : decode cc pc = .ok (.putfield index, 3)) (kk : ∀ (H1 : Heap) (locs1 : List Loc), kx_R D cl (kx_set X a (.inr (ci, fs.set k v))) H1 → va_S A H0 H1 locs1 → W p l e R s m args below meth c H1 locs1 cells slots Q (F0 m (pc + 3) ls rest)) : W p l e R s m args below meth c H locs cells slots Q (F0 m pc ls (v :: .ref a :: rest)) := by
  have hap := va_apart (own := own) hts hin ty0 hty hnm hK.none hc
  obtain ⟨r, h1, cell, q1, q2, q3, q4⟩ := hR.2 a _ he
  have hr : r = (C, T, N) := Option.some.inj (h1.symm.trans hc)
  subst hr
  obtain ⟨hS, hfc, kC, hkC, hkind⟩ := hK.1 ci _ hc
  obtain ⟨cf, kf, fi, f, hi, hsl⟩ := hS k hk
  have hlay := hts _ (hin _ (u_in_lay hk))
  unfold u_lay at hlay
  rw [if_pos hfin] at hlay
  have hst := (u_facts hfc hkC (u_lays hts hin hk) hi).1
  have hcf : m.cls = cf := by
    obtain ⟨_, _, c', _, _, _, -, -, hf', -, -, -, hown2, -⟩ := Cond.laysFinal_spec hlay
    have e1 : c' = cf := by have := hi.symm.trans hf'; simp at this; exact this.1.symm
    rw [hdecl] at hown2
    rw [← e1]; exact Option.some.inj (hown.symm.trans hown2)
  have h6 := u_fits hfc hkC hkind (Or.inr hlay) hi hd hn hfit
  refine W.putFinK hexec hb hown hlink (hsame _ hi) hst hcf hin2 (by rw [q2]; exact h6) q1 q3 (by rw [hsl]; exact k2_hasslot (q4 k hk)) rfl rfl hdg fun H' e1 e2 e3 => ?_
  rw [hsl] at e1 ⊢
  exact kk H' _ (hR.put ⟨_, hc, t_OB.to (V := updV (vp_V fs) k v) ⟨_, e1, q2, q3, t_set q4 hap hk v⟩ (fun j _ => vp_updV_set hl v j)⟩ e2 e3) (hS0.put e2 e3 hA)
theorem kx_iald (hexec : p.tables.exec = Jvm.exec) (hb : c.code = cc) (hK : kx_K tl D cl s) (hR : kx_R D cl X H) {k n : Nat} {f : Nat → Int32} (ha : X.1 a = some (.inl (k, n, .inl f))) (ht : tl[k]? = some .int) {i : Int32} (hin : vp_in i n) (hdg : decode cc pc = .ok (.iaload, 1))
    (kk : W p l e R s m args below meth c H locs cells slots Q (F0 m (pc + 1) ls (.int (f i.toNatClampNeg) :: rest))) : W p l e R s m args below meth c H locs cells slots Q (F0 m pc ls (.int i :: .ref a :: rest)) :=
  va_iald hexec hb (hK.one ht) (hR.one ha) 0 0 rfl rfl hin hdg kk
theorem kx_bald (hexec : p.tables.exec = Jvm.exec) (hb : c.code = cc) (hK : kx_K tl D cl s) (hR : kx_R D cl X H) {k n : Nat} {f : Nat → Int32} (ha : X.1 a = some (.inl (k, n, .inl f))) (ht : tl[k]? = some .byte) {i : Int32} (hin : vp_in i n) (hdg : decode cc pc = .ok (.baload, 1))
    (kk : W p l e R s m args below meth c H locs cells slots Q (F0 m (pc + 1) ls (.int (f i.toNatClampNeg) :: rest))) : W p l e R s m args below meth c H locs cells slots Q (F0 m pc ls (.int i :: .ref a :: rest)) :=
  va_bald hexec hb (hK.one ht) (hR.one ha) 0 0 rfl rfl hin hdg kk
theorem kx_zald (hexec : p.tables.exec = Jvm.exec) (hb : c.code = cc) (hK : kx_K tl D cl s) (hR : kx_R D cl X H) {k n : Nat} {f : Nat → Int32} (ha : X.1 a = some (.inl (k, n, .inl f))) (ht : tl[k]? = some .boolean) {i : Int32} (hin : vp_in i n) (hdg : decode cc pc = .ok (.baload, 1))
    (kk : W p l e R s m args below meth c H locs cells slots Q (F0 m (pc + 1) ls (.int (f i.toNatClampNeg) :: rest))) : W p l e R s m args below meth c H locs cells slots Q (F0 m pc ls (.int i :: .ref a :: rest)) :=
  va_zald hexec hb (hK.one ht) (hR.one ha) 0 0 rfl rfl hin hdg kk
theorem kx_lald (hexec : p.tables.exec = Jvm.exec) (hb : c.code = cc) (hK : kx_K tl D cl s) (hR : kx_R D cl X H) {k n : Nat} {f : Nat → Int64} (ha : X.1 a = some (.inl (k, n, .inr (.inl f)))) (ht : tl[k]? = some .long) {i : Int32} (hin : vp_in i n) (hdg : decode cc pc = .ok (.laload, 1))
    (kk : W p l e R s m args below meth c H locs cells slots Q (F0 m (pc + 1) ls (.long (f i.toNatClampNeg) :: rest))) : W p l e R s m args below meth c H locs cells slots Q (F0 m pc ls (.int i :: .ref a :: rest)) :=
  va_lald hexec hb (hK.one ht) (hR.one ha) 0 0 rfl rfl hin hdg kk
theorem kx_aald (hexec : p.tables.exec = Jvm.exec) (hb : c.code = cc) (hK : kx_K tl D cl s) (hR : kx_R D cl X H) {k n : Nat} {ty : FieldType} {f : Nat → Option Nat} (ha : X.1 a = some (.inl (k, n, .inr (.inr (.inr (.inr f)))))) (ht : tl[k]? = some ty) (href : ty.isReference = true) {i : Int32} (hin : vp_in i n) (hdg : decode cc pc = .ok (.aaload, 1))
    (kk : W p l e R s m args below meth c H locs cells slots Q (F0 m (pc + 1) ls (va_rf (f i.toNatClampNeg) :: rest))) : W p l e R s m args below meth c H locs cells slots Q (F0 m pc ls (.int i :: .ref a :: rest)) := by
  have hlt : i.toNatClampNeg < n := Nat.not_le.mp fun q => hin (Or.inr q)
  exact W.aald (v := va_rf (f i.toNatClampNeg)) (ty := ty) hexec hb (hR.2 a _ ha) ((hK.2 k _ ht).1.1 n (fun j => va_rf (f j))) href (fun q => by cases q) (by show ¬ (i < 0 ∨ (arrV _ _ _).slots.size ≤ _); rw [arrV_size]; exact hin) (by show (arrV _ _ _).slots[_]? = _; rw [arrV_read _ _ hlt]) rfl rfl hdg kk
theorem kx_alen (hexec : p.tables.exec = Jvm.exec) (hb : c.code = cc) (hK : kx_K tl D cl s) (hR : kx_R D cl X H) {k : Nat} {x : vp_A} {ty : FieldType} (ha : X.1 a = some (.inl (k, x))) (ht : tl[k]? = some ty) (hdg : decode cc pc = .ok (.arraylength, 1))
    (kk : W p l e R s m args below meth c H locs cells slots Q (F0 m (pc + 1) ls (.int (Int32.ofNat x.1) :: rest))) : W p l e R s m args below meth c H locs cells slots Q (F0 m pc ls (.ref a :: rest)) :=
  va_alen hexec hb (hK.one ht) (hR.one ha) 0 0 rfl rfl rfl hdg kk
theorem kx_iast (hexec : p.tables.exec = Jvm.exec) (hb : c.code = cc) (hK : kx_K tl D cl s) (hR : kx_R D cl X H) (hS : va_S A H0 H locs) {k n : Nat} {f : Nat → Int32} (ha : X.1 a = some (.inl (k, n, .inl f))) (hA : A a) (ht : tl[k]? = some .int) {i x : Int32} (hin : vp_in i n) (hdg : decode cc pc = .ok (.iastore, 1))
    (kk : ∀ (H1 : Heap) (locs1 : List Loc), kx_R D cl (kx_set X a (.inl (k, n, .inl (upd f i.toNatClampNeg x)))) H1 → va_S A H0 H1 locs1 → W p l e R s m args below meth c H1 locs1 cells slots Q (F0 m (pc + 1) ls rest)) : W p l e R s m args below meth c H locs cells slots Q (F0 m pc ls (.int x :: .int i :: .ref a :: rest)) := by
  refine W.iast hexec hb (hR.2 a _ ha) ((hK.2 k _ ht).1.1 n (fun j => .int (f j))) (fun q => by cases q) (by show ¬ (i < 0 ∨ (arrV _ _ _).slots.size ≤ _); rw [arrV_size]; exact hin) rfl rfl hdg fun H1 e z oq => ?_
  refine kk H1 _ (hR.put ?_ z oq) (hS.put z oq hA)
  show H1[a]? = some (vp_cell _ _)
  rw [e]
  rw [vp_cell_i, vp_cell_i, arrV_store]
  congr 2
  funext q
  by_cases hq : q = i.toNatClampNeg
  · subst hq
    simp [updV, upd]
  · simp [updV, upd, hq]
theorem kx_bast (hexec : p.tables.exec = Jvm.exec) (hb : c.code = cc) (hK : kx_K tl D cl s) (hR : kx_R D cl X H) (hS : va_S A H0 H locs) {k n : Nat} {f : Nat → Int32} (ha : X.1 a = some (.inl (k, n, .inl f))) (hA : A a) (ht : tl[k]? = some .byte) {i x : Int32} (hin : vp_in i n) (hdg : decode cc pc = .ok (.bastore, 1))
    (kk : ∀ (H1 : Heap) (locs1 : List Loc), kx_R D cl (kx_set X a (.inl (k, n, .inl (upd f i.toNatClampNeg (vp_nar .byte x))))) H1 → va_S A H0 H1 locs1 → W p l e R s m args below meth c H1 locs1 cells slots Q (F0 m (pc + 1) ls rest)) : W p l e R s m args below meth c H locs cells slots Q (F0 m pc ls (.int x :: .int i :: .ref a :: rest)) := by
  refine W.bast hexec hb (hR.2 a _ ha) ((hK.2 k _ ht).1.1 n (fun j => .int (f j))) (fun q => by cases q) (by show ¬ (i < 0 ∨ (arrV _ _ _).slots.size ≤ _); rw [arrV_size]; exact hin) rfl rfl hdg fun H1 e z oq => ?_
  refine kk H1 _ (hR.put ?_ z oq) (hS.put z oq hA)
  show H1[a]? = some (vp_cell _ _)
  rw [e]
  rw [vp_cell_i, vp_cell_i, arrV_store]
  congr 2
  funext q
  by_cases hq : q = i.toNatClampNeg
  · subst hq
    simp [updV, upd, vp_nar]
    try rfl
  · simp [updV, upd, hq]
theorem kx_zast (hexec : p.tables.exec = Jvm.exec) (hb : c.code = cc) (hK : kx_K tl D cl s) (hR : kx_R D cl X H) (hS : va_S A H0 H locs) {k n : Nat} {f : Nat → Int32} (ha : X.1 a = some (.inl (k, n, .inl f))) (hA : A a) (ht : tl[k]? = some .boolean) {i x : Int32} (hin : vp_in i n) (hdg : decode cc pc = .ok (.bastore, 1))
    (kk : ∀ (H1 : Heap) (locs1 : List Loc), kx_R D cl (kx_set X a (.inl (k, n, .inl (upd f i.toNatClampNeg (vp_nar .boolean x))))) H1 → va_S A H0 H1 locs1 → W p l e R s m args below meth c H1 locs1 cells slots Q (F0 m (pc + 1) ls rest)) : W p l e R s m args below meth c H locs cells slots Q (F0 m pc ls (.int x :: .int i :: .ref a :: rest)) := by
  refine W.zast hexec hb (hR.2 a _ ha) ((hK.2 k _ ht).1.1 n (fun j => .int (f j))) (fun q => by cases q) (by show ¬ (i < 0 ∨ (arrV _ _ _).slots.size ≤ _); rw [arrV_size]; exact hin) rfl rfl hdg fun H1 e z oq => ?_
  refine kk H1 _ (hR.put ?_ z oq) (hS.put z oq hA)
  show H1[a]? = some (vp_cell _ _)
  rw [e]
  rw [vp_cell_i, vp_cell_i, arrV_store]
  congr 2
  funext q
  by_cases hq : q = i.toNatClampNeg
  · subst hq
    simp [updV, upd, vp_nar]
    try rfl
  · simp [updV, upd, hq]
theorem kx_last (hexec : p.tables.exec = Jvm.exec) (hb : c.code = cc) (hK : kx_K tl D cl s) (hR : kx_R D cl X H) (hS : va_S A H0 H locs) {k n : Nat} {f : Nat → Int64} (ha : X.1 a = some (.inl (k, n, .inr (.inl f)))) (hA : A a) (ht : tl[k]? = some .long) {i : Int32} {x : Int64} (hin : vp_in i n) (hdg : decode cc pc = .ok (.lastore, 1))
    (kk : ∀ (H1 : Heap) (locs1 : List Loc), kx_R D cl (kx_set X a (.inl (k, n, .inr (.inl (vp_updL f i.toNatClampNeg x))))) H1 → va_S A H0 H1 locs1 → W p l e R s m args below meth c H1 locs1 cells slots Q (F0 m (pc + 1) ls rest)) : W p l e R s m args below meth c H locs cells slots Q (F0 m pc ls (.long x :: .int i :: .ref a :: rest)) := by
  refine W.last hexec hb (hR.2 a _ ha) ((hK.2 k _ ht).1.1 n (fun j => .long (f j))) (fun q => by cases q) (by show ¬ (i < 0 ∨ (arrV _ _ _).slots.size ≤ _); rw [arrV_size]; exact hin) rfl rfl hdg fun H1 e z oq => ?_
  refine kk H1 _ (hR.put ?_ z oq) (hS.put z oq hA)
  show H1[a]? = some (vp_cell _ _)
  rw [e]
  rw [vp_cell_l, vp_cell_l, arrV_store]
  congr 2
  funext q
  by_cases hq : q = i.toNatClampNeg
  · subst hq
    simp [updV, vp_updL]
  · simp [updV, vp_updL, hq]
end KXR
