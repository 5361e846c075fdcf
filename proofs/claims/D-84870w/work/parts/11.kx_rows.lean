/-! ===== THE MACHINE IN ONE THEOREM, part 2: rows that make cells, arrays of references, copies, statics ===== -/
theorem kx_asg (vm : Vm) (c : ClassId) : vm.assignable c c = true := by
  show vm.assignableAux (255 + 1) c c = true
  rw [Vm.assignableAux]
  simp only [beq_self_eq_true, Bool.true_or]
section KXS
variable {p : Program} {l : Launch} {e : Env} {R : Room} {s : State} {m : MethodId} {args : Array Value} {below : List Frame} {meth : Method} {c : Code} {H : Heap} {locs : List Loc} {cells slots : Nat} {Q : State → Prop}
variable {cc : ByteArray} {pc : Nat} {ls : Array Slot} {rest : List Value} {D : kx_G} {cl : List vw_C} {tl : List FieldType} {A : Nat → Prop} {a : Nat} {X : kx_X} {H0 : Heap}
theorem kx_aast (hexec : p.tables.exec = Jvm.exec) (hb : c.code = cc) (hK : kx_K tl D cl s) (hR : kx_R D cl X H) (hS : va_S A H0 H locs) {k n v ci : Nat} {vs : List Value} {r : vw_C} {f : Nat → Option Nat} (ha : X.1 a = some (.inl (k, n, .inr (.inr (.inr (.inr f)))))) (hA : A a) (ht : tl[k]? = some (.object r.1)) (hv : X.1 v = some (.inr (ci, vs))) (hc : cl[ci]? = some r) {i : Int32} (hin : vp_in i n) (hdg : decode cc pc = .ok (.aastore, 1))
    (kk : ∀ (H1 : Heap) (locs1 : List Loc), kx_R D cl (kx_set X a (.inl (k, n, .inr (.inr (.inr (.inr (va_up f i.toNatClampNeg (some v)))))))) H1 → va_S A H0 H1 locs1 → W p l e R s m args below meth c H1 locs1 cells slots Q (F0 m (pc + 1) ls rest)) : W p l e R s m args below meth c H locs cells slots Q (F0 m pc ls (.ref v :: .int i :: .ref a :: rest)) := by
  have hlt : i.toNatClampNeg < n := Nat.not_le.mp fun q => hin (Or.inr q)
  have h0 : ¬ i < 0 := fun q => hin (Or.inl q)
  obtain ⟨r', hr', cellV, g1, g2, g3, -⟩ := hR.2 v _ hv
  have hcls := (hK.1 ci r hc).2
  obtain ⟨kA, comp, k1, k2, k3, -⟩ := (hK.2 k _ ht).1.2
  have hcomp : comp = D.1.1 ci := Option.some.inj (k3.symm.trans hcls.1)
  subst hcomp
  obtain ⟨kC, hkC, -⟩ := hcls.2
  refine W.aast hexec hb (hR.2 a _ ha) (fun q h => by cases h) (fun h => by cases h) k1 k2 rfl hkC ⟨h0, by show _ < (arrV _ _ _).slots.size; rw [arrV_size]; exact hlt⟩ g1 (fun q h => by rw [g3] at h; cases h) (by rw [g2]; exact hkC) (by rw [g2]; exact kx_asg _ _) rfl rfl hdg fun H1 e z oq => ?_
  refine kk H1 _ (hR.put ?_ z oq) (hS.put z oq hA)
  show H1[a]? = some (vp_cell _ _)
  rw [e]
  rw [vp_cell_q, vp_cell_q, arrV_store]
  congr 2
  funext q
  by_cases hq : q = i.toNatClampNeg
  · subst hq
    simp [updV, va_up, va_rf]
  · simp [updV, va_up, hq]
/-- a row of an array of int arrays -/
theorem kx_aastG (hexec : p.tables.exec = Jvm.exec) (hb : c.code = cc) (hK : kx_K tl D cl s) (hR : kx_R D cl X H) (hS : va_S A H0 H locs) {k n v k2 : Nat} {x : vp_A} {f : Nat → Option Nat} (ha : X.1 a = some (.inl (k, n, .inr (.inr (.inr (.inr f)))))) (hA : A a) (ht : tl[k]? = some (.array .int)) (hv : X.1 v = some (.inl (k2, x))) (ht2 : tl[k2]? = some .int) {i : Int32} (hin : vp_in i n) (hdg : decode cc pc = .ok (.aastore, 1))
    (kk : ∀ (H1 : Heap) (locs1 : List Loc), kx_R D cl (kx_set X a (.inl (k, n, .inr (.inr (.inr (.inr (va_up f i.toNatClampNeg (some v)))))))) H1 → va_S A H0 H1 locs1 → W p l e R s m args below meth c H1 locs1 cells slots Q (F0 m (pc + 1) ls rest)) : W p l e R s m args below meth c H locs cells slots Q (F0 m pc ls (.ref v :: .int i :: .ref a :: rest)) := by
  have hlt : i.toNatClampNeg < n := Nat.not_le.mp fun q => hin (Or.inr q)
  have h0 : ¬ i < 0 := fun q => hin (Or.inl q)
  have hcv : H[v]? = some (vp_cell (D.2 k2) x) := hR.2 v _ hv
  obtain ⟨kA, comp, k1, k2', k3⟩ := (hK.2 k _ ht).2
  have h2 : s.vm.findClass (FieldType.array .int).toString = some (D.2 k2) := (hK.2 k2 _ ht2).1.2
  have hcomp : comp = D.2 k2 := Option.some.inj (k3.symm.trans h2)
  subst hcomp
  obtain ⟨kC, hkC, -⟩ := Vm.findClass_spec h2
  have hcl : (vp_cell (D.2 k2) x).cls = D.2 k2 := by
    obtain ⟨n9, x9⟩ := x
    rcases x9 with x9 | x9 | x9 | x9 | x9 <;> rfl
  have hvm : ∀ q, (vp_cell (D.2 k2) x).vm ≠ .statics q := by
    intro q
    obtain ⟨n9, x9⟩ := x
    rcases x9 with x9 | x9 | x9 | x9 | x9 <;> exact fun h => by cases h
  refine W.aast hexec hb (hR.2 a _ ha) (fun q h => by cases h) (fun h => by cases h) k1 k2' rfl hkC ⟨h0, by show _ < (arrV _ _ _).slots.size; rw [arrV_size]; exact hlt⟩ hcv hvm (by rw [hcl]; exact hkC) (by rw [hcl]; exact kx_asg _ _) rfl rfl hdg fun H1 e z oq => ?_
  refine kk H1 _ (hR.put ?_ z oq) (hS.put z oq hA)
  show H1[a]? = some (vp_cell _ _)
  rw [e]
  rw [vp_cell_q, vp_cell_q, arrV_store]
  congr 2
  funext q
  by_cases hq : q = i.toNatClampNeg
  · subst hq
    simp [updV, va_up, va_rf]
  · simp [updV, va_up, hq]
theorem kx_newa (hexec : p.tables.exec = Jvm.exec) (hb : c.code = cc) {atype : ArrayType} (harr : (Cond.arrayClass (newarray.typeOf atype)).before args s = true) (hK : kx_K tl D cl s) (hR : kx_R D cl X H) (hS : va_S A H0 H locs)
    {k : Nat} (ht : tl[k]? = some (newarray.typeOf atype)) {n : Int32} {a0 : vp_A} (ha : ∀ cA : ClassId, vp_cell cA a0 = arrV cA n.toNatClampNeg (fun _ => defaultValue (newarray.typeOf atype))) (hn : ¬ n < 0) (hbytes : n.toNatClampNeg * componentBytes (newarray.typeOf atype) ≤ 536870912) (hcells : cells + 1 ≤ R.cells) (hslots : slots + n.toNatClampNeg ≤ R.slots) (hdg : decode cc pc = .ok (.newarray atype, 2))
    (kk : ∀ (H1 : Heap), kx_R D cl (kx_push X (.inl (k, a0))) H1 → va_S A H0 H1 locs →
      W p l e R s m args below meth c H1 locs (cells + 1) (slots + n.toNatClampNeg) Q (F0 m (pc + 2) ls (.ref X.2 :: rest))) : W p l e R s m args below meth c H locs cells slots Q (F0 m pc ls (.int n :: rest)) := by
  refine va_newaK hexec hb harr rfl hdg rfl hn rfl hbytes hcells hslots hR.1 fun H1 cA e1 z1 o1 hAr hNm => ?_
  have hcA : cA = D.2 k := by
    have h2 := (hK.2 k _ ht).1.2
    have h3 : s.vm.findClass ("[" ++ (newarray.typeOf atype).toString) = some (D.2 k) := by cases atype <;> exact h2
    exact Option.some.inj (hNm.symm.trans h3)
  subst hcA
  refine kk H1 (hR.add ?_ z1 o1) (kx_S.add hS hR.1 z1 o1)
  show H1[X.2]? = some (vp_cell _ _)
  rw [ha]
  exact e1
theorem kx_new {c0 : Code} (hexec : p.tables.exec = Jvm.exec) (hb : c0.code = cc) {own C : String} {T : u_T} {N ci index : Nat} {Ts : List Cond} (hts : ∀ w ∈ Ts, w.before args s = true) (hin : ∀ w ∈ u_ws C T N, w ∈ Ts) (ty : Nat → FieldType) (hty : ∀ k, k < N → parseFieldDescriptor (T k).2.2.1 = some (ty k)) (hown : s.vm.findClass own = some m.cls) (hcl : (Cond.classLink own index C).before args s = true) (hinst : (Cond.instantiable C N).before args s = true) (hini : (Cond.initialized C).before args s = true)
    (hK : kx_K tl D cl s) (hR : kx_R D cl X H) (hS : va_S A H0 H locs) (hc : cl[ci]? = some (C, T, N)) {fs : List Value} (hfs : ∀ j, j < N → defaultValue (ty j) = vp_V fs j) (hcells : cells + 1 ≤ R.cells) (hslots : slots + N ≤ R.slots) (hdg : decode cc pc = .ok (.new index, 3))
    (kk : ∀ (H1 : Heap), kx_R D cl (kx_push X (.inr (ci, fs))) H1 → va_S A H0 H1 locs →
      W p l e R s m args below meth c0 H1 locs (cells + 1) (slots + N) Q (F0 m (pc + 3) ls (.ref X.2 :: rest))) : W p l e R s m args below meth c0 H locs cells slots Q (F0 m pc ls rest) := by
  have hKn := hK.1 ci _ hc
  refine W.newcK hexec hb hown hcl hinst hini rfl hdg hcells hslots hKn.2.1 hR.1 fun H1 kC hkC e1 z1 o1 => ?_
  exact kk H1 (hR.add ⟨_, hc, (u_born ty hts hin hKn hkC e1 hty).to hfs⟩ z1 o1) (kx_S.add hS hR.1 z1 o1)
theorem kx_anew (hexec : p.tables.exec = Jvm.exec) (hb : c.code = cc) {own C : String} {index : Nat} (hown : s.vm.findClass own = some m.cls) (hclink : (Cond.classLink own index C).before args s = true) (hover : va_AO C s) (hK : kx_K tl D cl s) (hR : kx_R D cl X H) (hS : va_S A H0 H locs)
    {k : Nat} (ht : tl[k]? = some (.object C)) {n : Int32} (hn : ¬ n < 0) (hbytes : n.toNatClampNeg * 4 ≤ 536870912) (hcells : cells + 1 ≤ R.cells) (hslots : slots + n.toNatClampNeg ≤ R.slots) (hdg : decode cc pc = .ok (.anewarray index, 3))
    (kk : ∀ (H1 : Heap), kx_R D cl (kx_push X (.inl (k, n.toNatClampNeg, .inr (.inr (.inr (.inr (fun _ => none))))))) H1 → va_S A H0 H1 locs →
      W p l e R s m args below meth c H1 locs (cells + 1) (slots + n.toNatClampNeg) Q (F0 m (pc + 3) ls (.ref X.2 :: rest))) : W p l e R s m args below meth c H locs cells slots Q (F0 m pc ls (.int n :: rest)) := by
  refine W.anew hexec hb hown hclink (va_AO.use hover) rfl hdg rfl hn hbytes hcells hslots fun cA kA comp f1 f2 f3 f4 => ?_
  obtain ⟨kA', comp', q1, q2, q3, q4⟩ := (hK.2 k _ ht).1.2
  have hcA : cA = D.2 k := Option.some.inj (f1.symm.trans q4)
  subst hcA
  generalize hH1 : H.push ({ cls := D.2 k, slots := Array.replicate n.toNatClampNeg .null, vm := .none } : Cell) = H1
  have z1 : H1.size = X.2 + 1 := by rw [← hH1, Array.size_push, hR.1]
  have e1 : H1[X.2]? = some (arrV (D.2 k) n.toNatClampNeg (fun _ => .null)) := by rw [← hH1, ← hR.1, Array.getElem?_push_size, ← arrV_new]
  have o1 : ∀ q : Nat, q < X.2 → H1[q]? = H[q]? := fun q hq => by rw [← hH1, Array.getElem?_push, if_neg (by rw [hR.1]; exact Nat.ne_of_lt hq)]
  rw [hR.1]
  refine kk H1 (hR.add ?_ z1 o1) (kx_S.add hS hR.1 z1 o1)
  show H1[X.2]? = some (vp_cell _ _)
  rw [vp_cell_q]
  exact e1
/-- an array of int arrays -/
theorem kx_anewA (hexec : p.tables.exec = Jvm.exec) (hb : c.code = cc) {own : String} {index : Nat} (hown : s.vm.findClass own = some m.cls) (hclink : (Cond.classLink own index (FieldType.array .int).toString).before args s = true) (hover : (Cond.arrayOver (.array .int)).before args s = true) (hK : kx_K tl D cl s) (hR : kx_R D cl X H) (hS : va_S A H0 H locs)
    {k : Nat} (ht : tl[k]? = some (.array .int)) {n : Int32} (hn : ¬ n < 0) (hbytes : n.toNatClampNeg * 4 ≤ 536870912) (hcells : cells + 1 ≤ R.cells) (hslots : slots + n.toNatClampNeg ≤ R.slots) (hdg : decode cc pc = .ok (.anewarray index, 3))
    (kk : ∀ (H1 : Heap), kx_R D cl (kx_push X (.inl (k, n.toNatClampNeg, .inr (.inr (.inr (.inr (fun _ => none))))))) H1 → va_S A H0 H1 locs →
      W p l e R s m args below meth c H1 locs (cells + 1) (slots + n.toNatClampNeg) Q (F0 m (pc + 3) ls (.ref X.2 :: rest))) : W p l e R s m args below meth c H locs cells slots Q (F0 m pc ls (.int n :: rest)) := by
  refine W.anewA hexec hb hown hclink hover rfl hdg rfl hn hbytes hcells hslots fun cA kA comp f1 f2 f3 f4 => ?_
  have q4 : s.vm.findClass ("[" ++ (FieldType.array .int).toString) = some (D.2 k) := (hK.2 k _ ht).1.2
  have hcA : cA = D.2 k := Option.some.inj (f1.symm.trans q4)
  subst hcA
  generalize hH1 : H.push ({ cls := D.2 k, slots := Array.replicate n.toNatClampNeg .null, vm := .none } : Cell) = H1
  have z1 : H1.size = X.2 + 1 := by rw [← hH1, Array.size_push, hR.1]
  have e1 : H1[X.2]? = some (arrV (D.2 k) n.toNatClampNeg (fun _ => .null)) := by rw [← hH1, ← hR.1, Array.getElem?_push_size, ← arrV_new]
  have o1 : ∀ q : Nat, q < X.2 → H1[q]? = H[q]? := fun q hq => by rw [← hH1, Array.getElem?_push, if_neg (by rw [hR.1]; exact Nat.ne_of_lt hq)]
  rw [hR.1]
  refine kk H1 (hR.add ?_ z1 o1) (kx_S.add hS hR.1 z1 o1)
  show H1[X.2]? = some (vp_cell _ _)
  rw [vp_cell_q]
  exact e1
theorem kx_nn : ∀ z : Int32, ¬ z < 0 → z.toInt = (z.toNatClampNeg : Int) := by
  intro z hz
  have hz0 : (0 : Int) ≤ z.toInt := by
    have := Int32.not_lt.mp hz
    simpa using Int32.le_iff_toInt_le.mp this
  show z.toInt = ((z.toInt.toNat : Nat) : Int)
  omega
theorem kx_copyi {cc : ByteArray} (hexec : p.tables.exec = Jvm.exec) (hb : c.code = cc) (hml : c.maxLocals = ls.size) {own : String} {index : Nat} (hown : s.vm.findClass own = some m.cls) (hlink : (Cond.methodLink own index arraycopyName).before args s = true) (hnat : (Cond.native arraycopyName).before args s = true) (hstat : (Cond.static arraycopyName).before args s = true) (hini : (Cond.initialized "java/lang/System").before args s = true)
    (hK : kx_K tl D cl s) (hR : kx_R D cl X H) (hS : va_S A H0 H locs) {a0 k0 k1 n0 n1 : Nat} {f g : Nat → Int32} {ty : FieldType} (ha0 : X.1 a0 = some (.inl (k0, n0, .inl f))) (ha1 : X.1 a = some (.inl (k1, n1, .inl g))) (hA : A a) (ht0 : tl[k0]? = some ty) (ht1 : tl[k1]? = some ty) (hprim : refKind ty = false)
    {sp dp n : Int32} (h1 : ¬ sp < 0) (h2 : ¬ dp < 0) (h3 : ¬ n < 0) (h4 : sp.toNatClampNeg + n.toNatClampNeg ≤ n0) (h5 : dp.toNatClampNeg + n.toNatClampNeg ≤ n1) (hfit : ∀ i, i < n.toNatClampNeg → fits ty (.int (f (sp.toNatClampNeg + i))) = true)
    (hframes : 1 ≤ R.frames) (hlocals : (rest.map fun v => v.category).sum + (nativeFrameWords "java/lang/System" "arraycopy" 5 + 11) ≤ R.locals) (hdg : decode cc pc = .ok (.invokestatic index, 3))
    (kk : ∀ (H1 : Heap) (locs1 : List Loc), kx_R D cl (kx_set X a (.inl (k1, n1, .inl (va_cpy f g sp.toNatClampNeg dp.toNatClampNeg n.toNatClampNeg)))) H1 → va_S A H0 H1 locs1 → W p l e R s m args below meth c H1 locs1 cells slots Q (F0 m (pc + 3) ls rest)) : W p l e R s m args below meth c H locs cells slots Q (F0 m pc ls (.int n :: .int dp :: .ref a :: .int sp :: .ref a0 :: rest)) := by
  intro T hT XX
  have hc0 : H[a0]? = some (vp_cell (D.2 k0) (n0, .inl f)) := hR.2 a0 _ ha0
  have hc1 : H[a]? = some (vp_cell (D.2 k1) (n1, .inl g)) := hR.2 a _ ha1
  obtain ⟨-, kk0, hk0, cm0, hkk0⟩ := (hK.2 k0 _ ht0).1.1 n0 (fun j => .int (f j))
  obtain ⟨-, kk1, hk1, cm1, hkk1⟩ := (hK.2 k1 _ ht1).1.1 n1 (fun j => .int (g j))
  obtain ⟨vm', X', step⟩ := XX.arraycopy hexec hown hlink hnat hstat hini (src := a0) (dst := a) (cs := vp_cell (D.2 k0) (n0, .inl f)) (cd := vp_cell (D.2 k1) (n1, .inl g)) (srcPos := sp) (destPos := dp) (n := n) (by rw [hT]; exact hc0) (by rw [hT]; exact hc1)
    (fun _ h => by cases h) (fun _ h => by cases h) (fun h => by cases h) (fun h => by cases h) hk0 hk1 hkk0 hkk1 (by simp [hprim]) h1 h2 h3
    (by rw [kx_nn sp h1, kx_nn n h3]; show ¬ _ > ((arrV (D.2 k0) n0 (fun j => .int (f j))).slots.size : Int); rw [arrV_size]; omega)
    (by rw [kx_nn dp h2, kx_nn n h3]; show ¬ _ > ((arrV (D.2 k1) n1 (fun j => .int (g j))).slots.size : Int); rw [arrV_size]; omega)
    (fun vm₁ _ i hi => by
      have e : (vp_cell (D.2 k0) (n0, .inl f)).slots.getD (sp.toNatClampNeg + i) .null = .int (f (sp.toNatClampNeg + i)) := by
        show (arrV (D.2 k0) n0 (fun j => .int (f j))).slots.getD _ _ = _
        rw [Array.getD_eq_getD_getElem?, arrV_read _ _ (by omega)]
        rfl
      refine ⟨?_, ?_⟩
      · rw [e]
        exact hfit i hi
      · rw [e]
        exact trivial)
    (g := F0 m pc ls (.int n :: .int dp :: .ref a :: .int sp :: .ref a0 :: rest)) rfl (by rw [hml]) (rest := rest) rfl (by rw [hb]; exact hdg) hframes (by show 2 * 0 + _ + _ ≤ _; omega)
  have e1 : copied (vp_cell (D.2 k0) (n0, .inl f)) (vp_cell (D.2 k1) (n1, .inl g)) sp dp n = vp_cell (D.2 k1) (n1, .inl (va_cpy f g sp.toNatClampNeg dp.toNatClampNeg n.toNatClampNeg)) := va_copied (fun z => .int z) (D.2 k0) (D.2 k1) f g h4
  rw [e1] at X' step
  have hl : a < H.size := (Array.getElem?_eq_some_iff.mp hc1).1
  have hheap : ((T.setVm vm').setCell a (vp_cell (D.2 k1) (n1, .inl (va_cpy f g sp.toNatClampNeg dp.toNatClampNeg n.toNatClampNeg)))).heap = H.setIfInBounds a (vp_cell (D.2 k1) (n1, .inl (va_cpy f g sp.toNatClampNeg dp.toNatClampNeg n.toNatClampNeg))) := by rw [← hT]; rfl
  have oq : ∀ q : Nat, q ≠ a → (H.setIfInBounds a (vp_cell (D.2 k1) (n1, .inl (va_cpy f g sp.toNatClampNeg dp.toNatClampNeg n.toNatClampNeg))))[q]? = H[q]? := fun q hq => by simp [Array.getElem?_setIfInBounds, Ne.symm hq]
  obtain ⟨t, a1, b1⟩ := kk _ _ (hR.put (show (H.setIfInBounds a _)[a]? = some _ by simp [Array.getElem?_setIfInBounds, hl]) (by simp) oq) ⟨by simp; exact hS.1, fun q g1 g2 => by
      rw [oq q (fun e => g2 (by rw [e]; exact hA))]
      exact hS.2.1 q g1 g2, fun q hq => by
      rcases List.mem_append.mp hq with h | h
      · exact hS.2.2 q h
      · obtain ⟨z, -, hz⟩ := List.mem_map.mp h
        rw [← hz]
        exact hA⟩ _ hheap X'
  exact ⟨t, step t a1, b1⟩
theorem kx_copyq {cc : ByteArray} (hexec : p.tables.exec = Jvm.exec) (hb : c.code = cc) (hml : c.maxLocals = ls.size) {own : String} {index : Nat} (hown : s.vm.findClass own = some m.cls) (hlink : (Cond.methodLink own index arraycopyName).before args s = true) (hnat : (Cond.native arraycopyName).before args s = true) (hstat : (Cond.static arraycopyName).before args s = true) (hini : (Cond.initialized "java/lang/System").before args s = true)
    (hK : kx_K tl D cl s) (hR : kx_R D cl X H) (hS : va_S A H0 H locs) {a0 k0 k1 n0 n1 ci : Nat} {f g : Nat → Option Nat} {E0 : String} {r : vw_C} (ha0 : X.1 a0 = some (.inl (k0, n0, .inr (.inr (.inr (.inr f)))))) (ha1 : X.1 a = some (.inl (k1, n1, .inr (.inr (.inr (.inr g)))))) (hA : A a) (ht0 : tl[k0]? = some (.object E0)) (ht1 : tl[k1]? = some (.object r.1)) (hc : cl[ci]? = some r)
    {sp dp n : Int32} (h1 : ¬ sp < 0) (h2 : ¬ dp < 0) (h3 : ¬ n < 0) (h4 : sp.toNatClampNeg + n.toNatClampNeg ≤ n0) (h5 : dp.toNatClampNeg + n.toNatClampNeg ≤ n1) (hel : ∀ i : Nat, i < n.toNatClampNeg → ∀ y : Nat, f (sp.toNatClampNeg + i) = some y → ∃ vs, X.1 y = some (.inr (ci, vs)))
    (hframes : 1 ≤ R.frames) (hlocals : (rest.map fun v => v.category).sum + (nativeFrameWords "java/lang/System" "arraycopy" 5 + 11) ≤ R.locals) (hdg : decode cc pc = .ok (.invokestatic index, 3))
    (kk : ∀ (H1 : Heap) (locs1 : List Loc), kx_R D cl (kx_set X a (.inl (k1, n1, .inr (.inr (.inr (.inr (va_cpy f g sp.toNatClampNeg dp.toNatClampNeg n.toNatClampNeg))))))) H1 → va_S A H0 H1 locs1 → W p l e R s m args below meth c H1 locs1 cells slots Q (F0 m (pc + 3) ls rest)) : W p l e R s m args below meth c H locs cells slots Q (F0 m pc ls (.int n :: .int dp :: .ref a :: .int sp :: .ref a0 :: rest)) := by
  intro T hT XX
  have hc0 : H[a0]? = some (vp_cell (D.2 k0) (n0, .inr (.inr (.inr (.inr f))))) := hR.2 a0 _ ha0
  have hc1 : H[a]? = some (vp_cell (D.2 k1) (n1, .inr (.inr (.inr (.inr g))))) := hR.2 a _ ha1
  obtain ⟨-, kk0, hk0, cm0, hkk0⟩ := (hK.2 k0 _ ht0).1.1 n0 (fun j => va_rf (f j))
  obtain ⟨-, kk1, hk1, cm1, hkk1⟩ := (hK.2 k1 _ ht1).1.1 n1 (fun j => va_rf (g j))
  obtain ⟨vm', X', step⟩ := XX.arraycopy hexec hown hlink hnat hstat hini (src := a0) (dst := a) (cs := vp_cell (D.2 k0) (n0, .inr (.inr (.inr (.inr f))))) (cd := vp_cell (D.2 k1) (n1, .inr (.inr (.inr (.inr g))))) (srcPos := sp) (destPos := dp) (n := n) (by rw [hT]; exact hc0) (by rw [hT]; exact hc1)
    (fun _ h => by cases h) (fun _ h => by cases h) (fun h => by cases h) (fun h => by cases h) hk0 hk1 hkk0 hkk1 rfl h1 h2 h3
    (by rw [kx_nn sp h1, kx_nn n h3]; show ¬ _ > ((arrV (D.2 k0) n0 (fun j => va_rf (f j))).slots.size : Int); rw [arrV_size]; omega)
    (by rw [kx_nn dp h2, kx_nn n h3]; show ¬ _ > ((arrV (D.2 k1) n1 (fun j => va_rf (g j))).slots.size : Int); rw [arrV_size]; omega)
    (fun vm₁ hal i hi => by
      have e : (vp_cell (D.2 k0) (n0, .inr (.inr (.inr (.inr f))))).slots.getD (sp.toNatClampNeg + i) .null = va_rf (f (sp.toNatClampNeg + i)) := by
        show (arrV (D.2 k0) n0 (fun j => va_rf (f j))).slots.getD _ _ = _
        rw [Array.getD_eq_getD_getElem?, arrV_read _ _ (by omega)]
        rfl
      rw [e]
      cases hy : f (sp.toNatClampNeg + i) with
      | none => exact ⟨rfl, trivial⟩
      | some y =>
        obtain ⟨vs, hvs⟩ := hel i hi y hy
        obtain ⟨r', hr', cellV, g1, g2, g3, -⟩ := hR.2 y _ hvs
        have hcls := (hK.1 ci r hc).2
        obtain ⟨kA, comp, r1, r2, r3, -⟩ := (hK.2 k1 _ ht1).1.2
        have hcomp : comp = D.1.1 ci := Option.some.inj (r3.symm.trans hcls.1)
        subst hcomp
        cases hk1.symm.trans r1
        cases hkk1.symm.trans r2
        obtain ⟨kC, hkC, -⟩ := hcls.2
        obtain ⟨kC', hkC', -⟩ := hal.2.2 _ _ hkC
        have g2' : cellV.cls = D.1.1 ci := g2
        refine ⟨rfl, cellV, (show T.heap[y]? = some cellV by rw [hT]; exact g1), (fun q h => by rw [g3] at h; cases h), ⟨kC', by rw [g2']; exact hkC'⟩, ?_, ?_⟩
        · exact ⟨kC', hkC'⟩
        · show vm₁.assignable _ _ = true
          rw [g2']
          exact kx_asg _ _)
    (g := F0 m pc ls (.int n :: .int dp :: .ref a :: .int sp :: .ref a0 :: rest)) rfl (by rw [hml]) (rest := rest) rfl (by rw [hb]; exact hdg) hframes (by show 2 * 0 + _ + _ ≤ _; omega)
  have e1 : copied (vp_cell (D.2 k0) (n0, .inr (.inr (.inr (.inr f))))) (vp_cell (D.2 k1) (n1, .inr (.inr (.inr (.inr g))))) sp dp n = vp_cell (D.2 k1) (n1, .inr (.inr (.inr (.inr (va_cpy f g sp.toNatClampNeg dp.toNatClampNeg n.toNatClampNeg))))) := by
    rw [vp_cell_q, vp_cell_q, vp_cell_q]
    exact va_copied (fun z => va_rf z) (D.2 k0) (D.2 k1) f g h4
  rw [e1] at X' step
  have hl : a < H.size := (Array.getElem?_eq_some_iff.mp hc1).1
  have hheap : ((T.setVm vm').setCell a (vp_cell (D.2 k1) (n1, .inr (.inr (.inr (.inr (va_cpy f g sp.toNatClampNeg dp.toNatClampNeg n.toNatClampNeg))))))).heap = H.setIfInBounds a (vp_cell (D.2 k1) (n1, .inr (.inr (.inr (.inr (va_cpy f g sp.toNatClampNeg dp.toNatClampNeg n.toNatClampNeg)))))) := by rw [← hT]; rfl
  have oq : ∀ q : Nat, q ≠ a → (H.setIfInBounds a (vp_cell (D.2 k1) (n1, .inr (.inr (.inr (.inr (va_cpy f g sp.toNatClampNeg dp.toNatClampNeg n.toNatClampNeg)))))))[q]? = H[q]? := fun q hq => by simp [Array.getElem?_setIfInBounds, Ne.symm hq]
  obtain ⟨t, a1, b1⟩ := kk _ _ (hR.put (show (H.setIfInBounds a _)[a]? = some _ by simp [Array.getElem?_setIfInBounds, hl]) (by simp) oq) ⟨by simp; exact hS.1, fun q g1 g2 => by
      rw [oq q (fun e => g2 (by rw [e]; exact hA))]
      exact hS.2.1 q g1 g2, fun q hq => by
      rcases List.mem_append.mp hq with h | h
      · exact hS.2.2 q h
      · obtain ⟨z, -, hz⟩ := List.mem_map.mp h
        rw [← hz]
        exact hA⟩ _ hheap X'
  exact ⟨t, step t a1, b1⟩
end KXS
