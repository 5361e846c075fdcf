/-! ===== THE MACHINE IN ONE THEOREM, part 4: what is carried to a callee's start; an exception that is made; a field of a nest mate ===== -/
theorem kx_over_moved {t : FieldType} {u U : State} (hvm : u.vm.Alike U.vm) (h : (Jvm.Cond.arrayOver (.array t)).before #[] u = true) : (Jvm.Cond.arrayOver (.array t)).before #[] U = true := by
  obtain ⟨comp, c, k, h1, h2, h3, h4, h5⟩ := arrayOverA_spec h
  obtain ⟨k', hk', he⟩ := hvm.2.2 _ _ h3
  have hi : (U.vm.classes.findIdx? fun (x : Class) => match x.kind with | .array component _ => component == comp | _ => false) = some c := by
    rw [hvm.findIdx?_eq _ (fun _ => rfl)]
    exact h2
  have hkind : k'.kind = .array comp (.array t) := by rw [he]; exact h4
  have f1 : U.vm.findClass (FieldType.array t).toString = some comp := by rw [hvm.findClass]; exact h1
  have f2 : U.vm.findClass ("[" ++ (FieldType.array t).toString) = some c := by rw [hvm.findClass]; exact h5
  unfold Cond.before Cond.holds
  simp only [Cond.value]
  rw [f1, Option.bind_some]
  refine (congrArg (fun o : Option Nat => (o.bind (fun c => (U.vm.classes[c]?).map fun (k : Class) => match k.kind with | .array _ ty => decide (ty = FieldType.array t) && decide (U.vm.findClass ("[" ++ (FieldType.array t).toString) = some c) | _ => false) == some true)) hi).trans ?_
  simp [hk', hkind, f2]
theorem kx_nw_moved {w : Jvm.Cond} (hk : kx_nk w = true) {s U : State} (hW : s.WarmedH U.vm) (h : kx_nw w s) : kx_nw w U := by
  cases w with
  | not c =>
    cases c with
    | castable C T => exact va_Nc.moved hW.alike h
    | _ => cases hk
  | fieldLinkNest a i b n d h' => exact va_Nw.warmF hW h
  | methodLinkNest a i x h' => exact va_Nw.warmM hW h
  | castable C T => exact va_Nw.warmC hW h
  | declares x => exact va_Nw.warmD hW h
  | arrayOver t =>
    cases t with
    | object C => exact va_AO.moved hW.alike h
    | array t => exact kx_over_moved hW.alike h
    | _ => cases hk
  | _ => cases hk
theorem kx_F.to {V : kx_V} (hV : kx_ok V) {D : kx_G} {s U : State} {H : Heap} {locs : List Loc} (h : kx_F V D s s.heap) (hW : s.WarmedH U.vm) (hS : va_S (kx_A V) s.heap H locs) : kx_F V D U H := by
  obtain ⟨h1, h2, h3, h4, h5, h6, h7, h8⟩ := h
  refine ⟨h1.moved hW.alike, fun r n d v hv => ((h2 r n d v hv).kept hS.2.1).moved hW.alike, fun own i q hq => ?_, fun a k n f hf => ?_, fun w hw => kx_nw_moved (hV.2.1 w hw) hW (h5 w hw), vx_Zq.moved hW.alike (h6.kept hS.2.1), vx_Zq.moved hW.alike (h7.kept hS.2.1), fun a C fs hf => ⟨va_O.moved hW.alike ((h8 a C fs hf).1.kept hS.2.1), fun q hq => va_OF.moved hW.alike (((h8 a C fs hf).2 q hq).kept hS.2.1)⟩⟩
  · obtain ⟨tx, hx⟩ := h3 own i q hq
    exact ⟨tx, hx.warm hW⟩
  · obtain ⟨ty, ht, hT⟩ := h4 a k n f hf
    exact ⟨ty, ht, (hT.kept hS.2.1).moved hW.alike⟩
section KXU
variable {p : Program} {l : Launch} {e : Env} {R : Room} {s : State} {m : MethodId} {args : Array Value} {below : List Frame} {meth : Method} {c : Code} {H : Heap} {locs : List Loc} {cells slots : Nat} {Q : State → Prop}
variable {cc : ByteArray} {pc : Nat} {ls : Array Slot} {rest : List Value} {D : kx_G} {cl : List vw_C} {tl : List FieldType} {A : Nat → Prop} {a : Nat} {X : kx_X} {H0 : Heap}
theorem kx_getN (hexec : p.tables.exec = Jvm.exec) (hb : c.code = cc) {own ref C host : String} {T : u_T} {N ci index : Nat} {Ts : List Cond} (hts : ∀ w ∈ Ts, w.before args s = true) (hin : ∀ w ∈ u_ws C T N, w ∈ Ts) (hown : s.vm.findClass own = some m.cls) (hK : kx_K tl D cl s) (hR : kx_R D cl X H) {fs : List Value} (he : X.1 a = some (.inr (ci, fs))) (hc : cl[ci]? = some (C, T, N)) (k : Nat) (hk : k < N) (hlink : (Cond.fieldLinkNest own index ref (T k).2.1 (T k).2.2.1 host).before args s = true) (hsame : ∀ x, s.fieldFound? (T k).1 (T k).2.1 (T k).2.2.1 = some x → s.fieldFound? ref (T k).2.1 (T k).2.2.1 = some x) {v : Value} (hv : fs[k]? = some v) (hdg : decode cc pc = .ok (.getfield index, 3))
    (kk : W p l e R s m args below meth c H locs cells slots Q (F0 m (pc + 3) ls (v :: rest))) : W p l e R s m args below meth c H locs cells slots Q (F0 m pc ls (.ref a :: rest)) :=
  va_getN hexec hb hts hin hown hK.none (hR.one he) 0 rfl hc k hk hlink hsame hv hdg kk
theorem kx_aastO (hexec : p.tables.exec = Jvm.exec) (hb : c.code = cc) (hK : kx_K tl D cl s) (hR : kx_R D cl X H) (hS : va_S A H0 H locs) {k n v : Nat} {C : String} {f : Nat → Option Nat} (ha : X.1 a = some (.inl (k, n, .inr (.inr (.inr (.inr f)))))) (hA : A a) (ht : tl[k]? = some (.object C)) (hv : ∃ cell : Cell, H[v]? = some cell ∧ cell.vm.isStatics = false ∧ s.vm.findClass C = some cell.cls) {i : Int32} (hin : vp_in i n) (hdg : decode cc pc = .ok (.aastore, 1))
    (kk : ∀ (H1 : Heap) (locs1 : List Loc), kx_R D cl (kx_set X a (.inl (k, n, .inr (.inr (.inr (.inr (va_up f i.toNatClampNeg (some v)))))))) H1 → va_S A H0 H1 locs1 → W p l e R s m args below meth c H1 locs1 cells slots Q (F0 m (pc + 1) ls rest)) : W p l e R s m args below meth c H locs cells slots Q (F0 m pc ls (.ref v :: .int i :: .ref a :: rest)) := by
  have hlt : i.toNatClampNeg < n := Nat.not_le.mp fun q => hin (Or.inr q)
  have h0 : ¬ i < 0 := fun q => hin (Or.inl q)
  obtain ⟨cellV, g1, g3, g2⟩ := hv
  obtain ⟨kA, comp, k1, k2, k3, -⟩ := (hK.2 k _ ht).1.2
  have hcomp : comp = cellV.cls := Option.some.inj (k3.symm.trans g2)
  subst hcomp
  obtain ⟨kC, hkC, -⟩ := Vm.findClass_spec g2
  refine W.aast hexec hb (hR.2 a _ ha) (fun q h => by cases h) (fun h => by cases h) k1 k2 rfl hkC ⟨h0, by show _ < (arrV _ _ _).slots.size; rw [arrV_size]; exact hlt⟩ g1 (fun q h => by rw [h] at g3; cases g3) hkC (kx_asg _ _) rfl rfl hdg fun H1 e z oq => ?_
  refine kk H1 _ (hR.put ?_ z oq) (hS.put z oq hA)
  show H1[a]? = some (vp_cell _ _)
  rw [e]
  rw [vp_cell_q, vp_cell_q, arrV_store]
  congr 2
  funext q
  by_cases hq : q = i.toNatClampNeg
  · subst hq
    simp [updV, va_up, va_rf]
  · simp [updV, va_up, hq]
theorem kx_getO (hexec : p.tables.exec = Jvm.exec) (hb : c.code = cc) {o n d own ref : String} {v : Value} {index : Nat} (hE : va_OF o n d v a A s s.heap) (hS : va_S A s.heap H locs) (hown : s.vm.findClass own = some m.cls) (hlink : (Cond.fieldLink own index ref n d).before args s = true) (hsame : ∀ x, s.fieldFound? o n d = some x → s.fieldFound? ref n d = some x) (hdg : decode cc pc = .ok (.getfield index, 3))
    (kk : W p l e R s m args below meth c H locs cells slots Q (F0 m (pc + 3) ls (v :: rest))) : W p l e R s m args below meth c H locs cells slots Q (F0 m pc ls (.ref a :: rest)) := by
  obtain ⟨cf, k, fi, f, cell, h1, h2, h3, h4, h5, h6⟩ := hE.kept hS.2.1
  exact W.getf hexec hb hown hlink (hsame _ h1) h2 h3 h4 (v := v) h5 rfl rfl hdg kk
/-- new X() of an exception without a text, its constructor run: one cell of six slots -/
theorem kx_make0 {cc : ByteArray} {pc : Nat} (hexec : p.tables.exec = Jvm.exec) (hb : c.code = cc) (hl : l.stackTraces = false) {own cls : String} {names : List String} {ik ic ci : Nat} {T0 : u_T}
    (hown : s.vm.findClass own = some m.cls) (hcls : Bundle.fit cls = true) (hnames : ∀ n ∈ names, Bundle.fit n = true)
    (hk : (Cond.classLink own ik cls).before args s = true) (hini : (Cond.initialized cls).before args s = true) (hat : ∀ w ∈ vx_at0 own ic cls names, w.before args s = true)
    (hgood : ∀ w ∈ Cond.classLink own ik cls :: Cond.initialized cls :: vx_at0 own ic cls names, vx_ot w = true)
    (hU : vx_Zq Bundle.tN "UNASSIGNED_STACK" Bundle.steD A s s.heap) (hN : vx_Zq Bundle.tN "SUPPRESSED_SENTINEL" Bundle.listD A s s.heap) (hS : va_S A s.heap H locs) (hsize : ls.size = c.maxLocals)
    (d0 : decode cc pc = .ok (.new ik, 3)) (d3 : decode cc (pc + 3) = .ok (.dup, 1)) (d4 : decode cc (pc + 4) = .ok (.invokespecial ic, 3))
    (hK : kx_K tl D cl s) (hR : kx_R D cl X H) (hc : cl[ci]? = some (cls, T0, 0))
    (hRframes : names.length + 3 < R.frames) (hRlocals : (rest.map fun v => v.category).sum + (13 * (names.length + 1) + 42) ≤ R.locals) (hRcells : cells + 1 ≤ R.cells) (hRslots : slots + 6 ≤ R.slots)
    (kk : ∀ (H1 : Heap), kx_R D cl (kx_push X (.inr (ci, []))) H1 → va_S A s.heap H1 locs → W p l e R s m args below meth c H1 locs (cells + 1) (slots + 6) Q (F0 m (pc + 7) ls (.ref X.2 :: rest))) :
    W p l e R s m args below meth c H locs cells slots Q (F0 m pc ls rest) := by
  intro T hT XX
  subst hT
  have htr : e.platform.stackTraces = false := (show e.platform.stackTraces = l.stackTraces by rw [XX.admits.platform]).trans hl
  have Y := vx_rebase XX (R' := { frames := R.frames, locals := R.locals, cells := 1, slots := 6 }) (Nat.le_refl _) (Nat.le_refl _) hRcells hRslots
  obtain ⟨s', hA'⟩ : ∃ z, z = (T.setVm s.vm).setFrames (.invoking m args :: below) := ⟨_, rfl⟩
  rw [← hA'] at Y
  have hvm : s'.vm = s.vm := by rw [hA']; rfl
  have hhp : s'.heap = T.heap := by rw [hA']; rfl
  have hW0 : s.WarmedH s'.vm := by rw [hvm]; exact State.WarmedH.refl s
  have hat' : ∀ w ∈ vx_at0 own ic cls names, w.before args s' = true := fun w hw => vx_ot_at hW0 hvm.symm (hgood w (List.mem_cons_of_mem _ (List.mem_cons_of_mem _ hw))) (hat w hw)
  have hk' : (Cond.classLink own ik cls).before args s' = true := vx_ot_at hW0 hvm.symm (hgood _ List.mem_cons_self) hk
  have hini' : (Cond.initialized cls).before args s' = true := vx_ot_at hW0 hvm.symm (hgood _ (List.mem_cons_of_mem _ List.mem_cons_self)) hini
  have hU' : vx_Zq Bundle.tN "UNASSIGNED_STACK" Bundle.steD A s' s'.heap := by rw [hhp]; exact vx_Zq.moved hW0.alike (hU.kept hS.2.1)
  have hN' : vx_Zq Bundle.tN "SUPPRESSED_SENTINEL" Bundle.listD A s' s'.heap := by rw [hhp]; exact vx_Zq.moved hW0.alike (hN.kept hS.2.1)
  have h : ∀ w ∈ Bundle.ownAtoms0 own ic cls names, w.before args s' = true := vx_own hat' (vx_isRefq hU'.1) (vx_isRefq hN'.1) hU'.2.word hN'.2.word
  have hown' : s'.vm.findClass own = some m.cls := by rw [hvm]; exact hown
  have hins : (Cond.instantiable cls 6).before args s' = true := h _ (by simp [Bundle.ownAtoms0])
  obtain ⟨vm₁, cX, kX, hfX, hkX, -, -, X₁, st1⟩ := Y.newCold hexec (own := own) (C := cls) (index := ik) (n := 6) hown' hk' hins hini'
    (g := F0 m pc ls rest) rfl (by rw [hb]; exact d0) (Nat.le_refl _) (Nat.le_refl _)
  generalize hT1 : (T.setVm vm₁).pushCell { cls := cX, slots := kX.instanceTypes.map defaultValue, vm := .none } = T1 at X₁ st1
  have hcat : (Value.ref T.heap.size).category = 1 := rfl
  have hcellA : T1.heap[T.heap.size]? = some (freshCell cX kX) := by rw [← hT1]; exact State.heap_pushCell_size _ _
  have d3' : decode c.code (pc + 3) = .ok (.dup, 1) := by rw [hb]; exact d3
  obtain ⟨V, ce, L, Z, hL, hlt, hcl9, hvm9, st⟩ := vx_ctorMade0 X₁ hexec htr (own := own) (cls := cls) (names := names) (ic := ic) hown' hcls hnames h (fun x hx => nomatch hx) hfX hkX hcellA (by rw [hhp]; exact Nat.le_refl _)
    (g := { method := m, pc := pc + 4, locals := ls, stack := .ref T.heap.size :: .ref T.heap.size :: rest, locked := none }) rfl hsize (rest := rest) rfl
    (by rw [hb]; exact d4) hRframes (by simp only [List.map_cons, List.sum_cons, hcat]; omega)
  have Z0 := Stand.forget (locs := []) Z (fun y hy => by rw [hL y hy, hhp]; exact Nat.le_refl _)
  obtain ⟨f1, f2⟩ := vx_frame Z0.same
  rw [hhp] at f1 f2
  have hcid : ce.cls = D.1.1 ci := by
    rw [hcl9]
    have h1 := (hK.1 ci _ hc).2.1
    rw [hvm] at hfX
    exact Option.some.inj (hfX.symm.trans h1)
  have hh : (V.setCell T.heap.size ce).heap[T.heap.size]? = some ce := heapAt_setCell_self (s := V) ce hlt
  have hzz : (V.setCell T.heap.size ce).heap.size = X.2 + 1 := by
    have z1 := Z0.heapSize
    rw [hhp] at z1
    have z2 : T.heap.size < (V.setCell T.heap.size ce).heap.size := by rw [size_setCell]; exact hlt
    have z3 := hR.1
    omega
  subst hA'
  have X5 := vx_back9 XX Y Z0
  have X6 : Stand p l e R s m args below meth c (V.setCell T.heap.size ce) locs (cells + 1) (slots + 6) := { X5 with same := X5.same.mono (by omega) (by omega) }
  have hq2 : T.heap.size = X.2 := hR.1
  have hR1 : kx_R D cl (kx_push X (.inr (ci, []))) (V.setCell T.heap.size ce).heap := by
    refine hR.add ?_ hzz (fun q hq => f2 q (by rw [hq2]; exact hq) (fun z hz => nomatch hz))
    rw [← hq2]
    exact ⟨_, hc, ce, hh, hcid, hvm9, fun k hk => absurd hk (Nat.not_lt_zero k)⟩
  obtain ⟨t, a1, b1⟩ := kk (V.setCell T.heap.size ce).heap hR1 ⟨Nat.le_trans hS.1 f1, fun q h1 h2 => (f2 q (Nat.lt_of_lt_of_le h1 hS.1) (fun z hz => nomatch hz)).trans (hS.2.1 q h1 h2), hS.2.2⟩ _ rfl X6
  refine ⟨t, st1 _ ?_, b1⟩
  show Steps p.tables e below (T1.setTop { method := m, pc := pc + 3, locals := ls, stack := .ref T.heap.size :: rest, locked := none }) _
  jvm_step X₁.here [X₁.here.top, hexec, d3', Value.category]
  rw [← hq2] at a1
  exact st _ a1
end KXU
