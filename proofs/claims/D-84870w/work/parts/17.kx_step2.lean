/-! ===== THE MACHINE IN ONE THEOREM, part 6: steps that need room; a method's ends; an exception's way ===== -/
section KXV
variable {p : Program} {l : Launch} {e : Env} {R : Room} {s : State} {m : MethodId} {args : Array Value} {below : List Frame} {meth : Method} {c : Code} {H : Heap} {locs : List Loc} {cells slots : Nat} {Q : State → Prop}
variable {pc : Nat} {ls : Array Slot} {D : kx_G} {X : kx_X} {lv : kx_L} {st : List Value}
theorem kx_at0_all {Tb Ns : List Jvm.Cond} {own C : String} {ic : Nat} {names : List String} (h : ((vx_at0 own ic C names).all (fun w => decide (w ∈ Tb) || (decide (w ∈ Ns) && (match w with
      | .castable .. => true
      | .declares .. => true
      | _ => false)))) = true) (ht : ∀ w ∈ Tb, w.before args s = true) (hn : ∀ w ∈ Ns, kx_nw w s) : ∀ w ∈ vx_at0 own ic C names, w.before args s = true := by
  intro w hw
  have h1 := List.all_eq_true.mp h w hw
  simp only [Bool.or_eq_true, Bool.and_eq_true, decide_eq_true_eq] at h1
  rcases h1 with h1 | ⟨h1, h2⟩
  · exact ht w h1
  · have h3 := hn w h1
    cases w with
    | castable a b => exact va_Nw.use rfl h3
    | declares x => exact va_Nw.use rfl h3
    | _ => cases h2
theorem kx_ldcwS {cc : ByteArray} (hexec : p.tables.exec = Jvm.exec) (hb : c.code = cc) {own tx : String} {index q : Nat} {rest : List Value} (hown : s.vm.findClass own = some m.cls) (hZ : vk_R own index tx q s) (hdg : decode cc pc = .ok (.ldc_w index, 3))
    (k : W p l e R s m args below meth c H locs cells slots Q (F0 m (pc + 3) ls (.ref q :: rest))) : W p l e R s m args below meth c H locs cells slots Q (F0 m pc ls rest) := by
  intro T hT X
  obtain ⟨t, a1, b1⟩ := k T hT X
  exact ⟨t, X.ldcStringW hexec hown (text := tx) (a := q) hZ.1 hZ.2 (g := F0 m pc ls rest) rfl (by rw [hb]; exact hdg) t a1, b1⟩
theorem kx_step2 (V : kx_V) (hV : kx_ok V) (hx : p.tables.exec = Jvm.exec) (hL : l.stackTraces = false) {F L : Nat} {M : kx_M} (hRF : F ≤ R.frames) (hRL : L ≤ R.locals) (hml : c.maxLocals = M.2.2.1) (hb : c.code = M.2.1) (hts : ∀ w ∈ kx_Tb V, w.before args s = true) (hown : s.vm.findClass M.1.cls = some m.cls) (hF : kx_F V D s s.heap) (hl : lv_has ls M.2.2.1 lv) (hR : kx_R D (kx_cl V) X H) (hS : va_S (kx_A V) s.heap H locs)
    {i : Instr} {len : Nat} (hd : decode M.2.1 pc = .ok (i, len)) {r : kx_N} (h : kx_st2 V F L M i len pc lv st X = some r) (hc : cells + r.2.2.2.2.1 ≤ R.cells) (hs : slots + r.2.2.2.2.2 ≤ R.slots)
    (kk : ∀ (ls' : Array Slot) (H' : Heap) (locs' : List Loc), lv_has ls' M.2.2.1 r.2.1 → kx_R D (kx_cl V) r.2.2.2.1 H' → va_S (kx_A V) s.heap H' locs' → W p l e R s m args below meth c H' locs' (cells + r.2.2.2.2.1) (slots + r.2.2.2.2.2) Q (F0 m r.1 ls' r.2.2.1)) :
    W p l e R s m args below meth c H locs cells slots Q (F0 m pc ls st) := by
  obtain ⟨pc', lv', st', X', dc, ds⟩ := r
  dsimp only at hc hs kk
  have hK := hF.1
  have hsz : ls.size = c.maxLocals := hl.1.trans hml.symm
  cases i with
  | invokespecial j =>
    simp only [kx_st2] at h
    split at h
    · rename_i elen
      subst elen
      split at h
      · split at h
        · rename_i hcnd
          obtain ⟨g1, g2, g3, g4, g5⟩ := hcnd
          cases h
          exact W.objInit hx hb hown (hts _ (kx_ml_mem hV g1)) (hts _ g2) (hts _ g3) rfl hsz rfl hd (Nat.le_trans g4 hRF) (by unfold kx_cat at g5; simpa [JFrame.monitorRoom] using Nat.le_trans g5 hRL) (kk ls H locs hl hR hS)
        · cases h
      · cases h
    · cases h
  | getfield j =>
    simp only [kx_st2] at h
    split at h
    · rename_i elen
      subst elen
      split at h
      · split at h
        · rename_i a r ci fs hX
          split at h
          · rename_i C T N q host hcl hfn
            obtain ⟨ref, n, d⟩ := q
            split at h
            · rename_i k hk
              split at h
              · rename_i v hv
                cases h
                obtain ⟨k1, k2, k3, k4⟩ := kx_fk_eq hk
                obtain ⟨hin, -, -⟩ := hV.2.2 _ _ _ _ hcl
                have hw := hF.2.2.2.2.1 _ (kx_fn_mem hfn)
                refine kx_getN hx hb hts hin hown hK hR hX hcl k k1 (ref := ref) (host := host) ?_ ?_ hv hd (kk ls H locs hl hR hS)
                · rw [k3, k4]
                  exact va_Nw.use rfl hw
                · intro x hxx
                  rw [k2] at hxx
                  exact hxx
              · cases h
            · cases h
          · cases h
        · rename_i a r hX
          split at h
          · rename_i C0 fs rf n d hoo hfl
            split at h
            · rename_i q hq
              cases h
              have q1 := List.mem_of_find?_eq_some hq
              have q2 := List.find?_some hq
              simp only [decide_eq_true_eq] at q2
              obtain ⟨e1, e2, e3⟩ := q2
              refine kx_getO hx hb ((hF.2.2.2.2.2.2.2 _ C0 fs hoo).2 q q1) hS hown (ref := rf) ?_ ?_ hd (kk ls H locs hl hR hS)
              · rw [e2, e3]
                exact hts _ (kx_fl_mem hV hfl)
              · intro x hxx
                rw [e1] at hxx
                exact hxx
            · cases h
          · cases h
        · cases h
      · cases h
    · cases h
  | aastore =>
    simp only [kx_st2] at h
    split at h
    · rename_i elen
      subst elen
      split at h
      · split at h
        · rename_i k n f C fs hX hoo
          split at h
          · rename_i hcnd
            obtain ⟨g1, g2, g3⟩ := hcnd
            cases h
            obtain ⟨cell, c1, c2, c3, c4⟩ := ((hF.2.2.2.2.2.2.2 _ C fs hoo).1).kept hS.2.1
            exact kx_aastO hx hb hK hR hS hX g1 g3 ⟨cell, c1, c2, c3⟩ (kx_inb_in g2) hd (fun H1 locs1 hR hS => kk ls H1 locs1 hl hR hS)
          · cases h
        · cases h
      · cases h
    · cases h
  | invokestatic j =>
    simp only [kx_st2] at h
    split at h
    · rename_i hlen
      obtain ⟨elen, w1, w2, w3, w4⟩ := hlen
      subst elen
      split at h
      · split at h
        · rename_i hcnd
          obtain ⟨c1, c2, c3, c4, c5, c6⟩ := hcnd
          have c6' := Nat.le_trans c6 hRL
          split at h
          · rename_i hX0 hX1
            split at h
            · rename_i ty hty
              split at h
              · rename_i hq
                obtain ⟨q1, q2, q3, q4, q5⟩ := hq
                cases h
                exact kx_copyi hx hb hsz.symm hown (hts _ (kx_ml_mem hV w1)) (hts _ w2) (hts _ w3) (hts _ w4) hK hR hS hX0 hX1 c4 hty q1 q2 c1 c2 c3 q3 q4 (fun i hi => List.all_eq_true.mp q5 i (List.mem_range.mpr hi)) (Nat.le_trans c5 hRF) c6' hd (fun H1 locs1 hR hS => kk ls H1 locs1 hl hR hS)
              · cases h
            · cases h
          · rename_i hX0 hX1
            split at h
            · rename_i E0 E1 hty0 hty1
              split at h
              · rename_i ci hci
                split at h
                · rename_i q hq
                  split at h
                  · rename_i hq2
                    obtain ⟨q1, q3, q4, q5⟩ := hq2
                    cases h
                    refine kx_copyq hx hb hsz.symm hown (hts _ (kx_ml_mem hV w1)) (hts _ w2) (hts _ w3) (hts _ w4) hK hR hS hX0 hX1 c4 hty0 (by rw [q1]; exact hty1) hq c1 c2 c3 q3 q4 ?_ (Nat.le_trans c5 hRF) c6' hd (fun H1 locs1 hR hS => kk ls H1 locs1 hl hR hS)
                    intro i hi y hy
                    have h5 := List.all_eq_true.mp q5 i (List.mem_range.mpr hi)
                    simp only [hy] at h5
                    split at h5
                    · rename_i c2 vs hyy
                      have : c2 = ci := by simpa using h5
                      subst this
                      exact ⟨_, hyy⟩
                    · cases h5
                  · cases h
                · cases h
              · cases h
            · cases h
          · cases h
        · cases h
      · cases h
    · split at h
      · rename_i hlen
        obtain ⟨elen, w1, w2, w3, w4⟩ := hlen
        subst elen
        split at h
        · split at h
          · rename_i hcnd
            cases h
            exact va_mmax hx hb hsz.symm hown (hts _ (kx_ml_mem hV w1)) (hts _ w2) (hts _ w3) (hts _ w4) (Nat.le_trans hcnd.1 hRF) (Nat.le_trans hcnd.2 hRL) hc hs hd (kk ls H locs hl hR hS)
          · cases h
        · cases h
      · split at h
        · rename_i hlen
          obtain ⟨elen, w1, w2, w3, w4⟩ := hlen
          subst elen
          split at h
          · split at h
            · rename_i hcnd
              cases h
              exact va_mmin hx hb hsz.symm hown (hts _ (kx_ml_mem hV w1)) (hts _ w2) (hts _ w3) (hts _ w4) (Nat.le_trans hcnd.1 hRF) (Nat.le_trans hcnd.2 hRL) hc hs hd (kk ls H locs hl hR hS)
            · cases h
          · cases h
        · split at h
          · rename_i hlen
            obtain ⟨elen, w1, w2, w3, w4⟩ := hlen
            subst elen
            split at h
            · split at h
              · rename_i hcnd
                cases h
                exact va_mmin_long hx hb hsz.symm hown (hts _ (kx_ml_mem hV w1)) (hts _ w2) (hts _ w3) (hts _ w4) (Nat.le_trans hcnd.1 hRF) (Nat.le_trans hcnd.2 hRL) hc hs hd (kk ls H locs hl hR hS)
              · cases h
            · cases h
          · cases h
  | new j =>
    simp only [kx_st2] at h
    split at h
    · rename_i elen
      subst elen
      split at h
      · rename_i C hC
        split at h
        · rename_i names ic ci hn d3 d4 hci
          split at h
          · rename_i C' T N hcl
            split at h
            · rename_i hcnd
              obtain ⟨g1, g2, g3, g4, g5, g6, g7, g8, g9⟩ := hcnd
              subst g1
              subst g2
              cases h
              exact kx_make0 hx hb hL hown g3 (fun n hn => List.all_eq_true.mp g4 n hn) (hts _ (kx_kl_mem hV hC)) (hts _ g5) (kx_at0_all g6 hts hF.2.2.2.2.1) (fun w hw => List.all_eq_true.mp g7 w hw) hF.2.2.2.2.2.1 hF.2.2.2.2.2.2.1 hS hsz hd d3 d4 hK hR hcl (Nat.lt_of_lt_of_le g8 hRF) (Nat.le_trans g9 hRL) hc hs (fun H1 hR hS => kk ls H1 locs hl hR hS)
            · cases h
          · cases h
        · cases h
      · cases h
    · cases h
  | ldc_w j =>
    simp only [kx_st2] at h
    split at h
    · rename_i elen
      subst elen
      split at h
      · rename_i hn hq
        cases h
        obtain ⟨tx, hZ⟩ := hF.2.2.1 _ _ _ hq
        exact kx_ldcwS hx hb hown hZ hd (kk ls H locs hl hR hS)
      · cases h
    · cases h
  | _ => cases h
/-- a method's end: the answer's value, any world above what it wrote -/
theorem kx_ends {Qc : Array Value → State → Outcome → State → Prop} {XC : String → State → State → Prop} {free : Addr → Prop} {mc ms : Nat} (hx : p.tables.exec = Jvm.exec) {M : kx_M} (hb : c.code = M.2.1) (hr : meth.sig.returnType = M.2.2.2.1) (hlocks : meth.locks = false) {i : Instr} {len : Nat} (hd : decode M.2.1 pc = .ok (i, len)) {v : Option Value} (h : kx_end M i len st = some v)
    (hq : ∀ t : State, t.heap = H → s.WarmedH t.vm → Qc args s (.returned v) t) (hf : ∀ q ∈ locs, free q.base) (hc : cells ≤ mc) (hs : slots ≤ ms) :
    W p l e R s m args below meth c H locs cells slots (vx_MQ below Qc XC args s mc ms free) (F0 m pc ls st) := by
  have wide : W p l e R s m args below meth c H locs mc ms (MQ below Qc args s mc ms free) (F0 m pc ls st) → W p l e R s m args below meth c H locs cells slots (vx_MQ below Qc XC args s mc ms free) (F0 m pc ls st) :=
    fun k => vx_ret (fun T hT XX => k T hT (stand_widen XX hc hs))
  unfold kx_end at h
  split at h
  · split at h
    · rename_i hcnd
      obtain ⟨rfl, h2⟩ := hcnd
      cases h
      exact wide (W.vret hx hb (hr.trans h2) hq hf hd hlocks)
    · cases h
  · split at h
    · rename_i ty hty
      split at h
      · rename_i hcnd
        obtain ⟨rfl, h2⟩ := hcnd
        cases h
        exact wide (W.zret hx hb (hr.trans hty) h2 hq hf hd hlocks)
      · cases h
    · cases h
  · split at h
    · rename_i hcnd
      obtain ⟨rfl, h2⟩ := hcnd
      cases h
      exact wide (W.lret hx hb (hr.trans h2) hq hf hd hlocks)
    · cases h
  · split at h
    · rename_i C hty
      split at h
      · rename_i elen
        subst elen
        cases h
        exact wide (W.aret hx hb (hr.trans hty) (Or.inl ⟨_, rfl⟩) (Or.inr ⟨_, rfl⟩) hq hf hd hlocks)
      · cases h
    · rename_i C hty
      split at h
      · rename_i elen
        subst elen
        cases h
        exact wide (W.aret hx hb (hr.trans hty) (Or.inr ⟨_, rfl⟩) (Or.inr ⟨_, rfl⟩) hq hf hd hlocks)
      · cases h
    · cases h
  · split at h
    · rename_i C hty
      split at h
      · rename_i elen
        subst elen
        cases h
        exact wide (W.aret hx hb (hr.trans hty) (Or.inl ⟨_, rfl⟩) (Or.inl rfl) hq hf hd hlocks)
      · cases h
    · rename_i C hty
      split at h
      · rename_i elen
        subst elen
        cases h
        exact wide (W.aret hx hb (hr.trans hty) (Or.inr ⟨_, rfl⟩) (Or.inl rfl) hq hf hd hlocks)
      · cases h
    · cases h
  · cases h
/-- rows that an exception of class E passes at pc -/
def kx_ps (own : String) (args : Array Value) (E : String) (s : State) (pc : Nat) (z : ExceptionTableEntry) : Prop := covers z pc = false ∨ (z.catchType ≠ 0 ∧ ∃ nm : String, (Cond.classLink own z.catchType nm).before args s = true ∧ va_Nc E nm s)
theorem kx_hd_out {V : kx_V} (hV : kx_ok V) {own E : String} (hts : ∀ w ∈ kx_Tb V, w.before args s = true) (hns : ∀ w ∈ kx_Ns V, kx_nw w s) : ∀ (hh : List (Nat × Nat × Nat × Nat)), kx_hd V own pc E hh = some none → ∀ z ∈ tableOf hh, kx_ps own args E s pc z
  | [], _ => fun z hz => by simp [tableOf] at hz
  | (a, b, h, ct) :: r, hh => by
    simp only [kx_hd] at hh
    intro z hz
    rcases List.mem_cons.mp (show z ∈ (⟨a, b, h, ct⟩ : ExceptionTableEntry) :: tableOf r from hz) with rfl | hz
    · split at hh
      · rename_i hcov
        split at hh
        · cases hh
        · rename_i h0
          split at hh
          · rename_i nm hnm
            split at hh
            · cases hh
            · split at hh
              · rename_i hnc
                exact Or.inr ⟨h0, nm, hts _ (kx_kl_mem hV hnm), hns _ hnc⟩
              · cases hh
          · cases hh
      · rename_i hcov
        exact Or.inl (by simpa using hcov)
    · split at hh
      · split at hh
        · cases hh
        · split at hh
          · split at hh
            · cases hh
            · split at hh
              · exact kx_hd_out hV hts hns r hh z hz
              · cases hh
          · cases hh
      · exact kx_hd_out hV hts hns r hh z hz
theorem kx_hd_in {V : kx_V} (hV : kx_ok V) {own E : String} (hts : ∀ w ∈ kx_Tb V, w.before args s = true) (hns : ∀ w ∈ kx_Ns V, kx_nw w s) {k : Nat} : ∀ (hh : List (Nat × Nat × Nat × Nat)), kx_hd V own pc E hh = some (some k) → ∃ (pre : List ExceptionTableEntry) (x : ExceptionTableEntry) (suf : List ExceptionTableEntry) (nm : String), tableOf hh = pre ++ x :: suf ∧ (∀ z ∈ pre, kx_ps own args E s pc z) ∧ covers x pc = true ∧ x.catchType ≠ 0 ∧ x.handlerPc = k ∧ (Cond.classLink own x.catchType nm).before args s = true ∧ (Cond.castable E nm).before args s = true
  | [], hh => by simp [kx_hd] at hh
  | (a, b, h, ct) :: r, hh => by
    simp only [kx_hd] at hh
    have hcons : tableOf ((a, b, h, ct) :: r) = (⟨a, b, h, ct⟩ : ExceptionTableEntry) :: tableOf r := rfl
    split at hh
    · rename_i hcov
      split at hh
      · cases hh
      · rename_i h0
        split at hh
        · rename_i nm hnm
          split at hh
          · rename_i hca
            cases hh
            exact ⟨[], _, tableOf r, nm, hcons, fun z hz => absurd hz List.not_mem_nil, hcov, h0, rfl, hts _ (kx_kl_mem hV hnm), va_Nw.use rfl (hns _ hca)⟩
          · split at hh
            · rename_i hnc
              obtain ⟨pre, x, suf, nm2, e1, e2, e3⟩ := kx_hd_in hV hts hns r hh
              refine ⟨_ :: pre, x, suf, nm2, by rw [hcons, e1]; rfl, fun z hz => ?_, e3⟩
              rcases List.mem_cons.mp hz with rfl | hz
              · exact Or.inr ⟨h0, nm, hts _ (kx_kl_mem hV hnm), hns _ hnc⟩
              · exact e2 z hz
            · cases hh
        · cases hh
    · rename_i hcov
      obtain ⟨pre, x, suf, nm2, e1, e2, e3⟩ := kx_hd_in hV hts hns r hh
      refine ⟨_ :: pre, x, suf, nm2, by rw [hcons, e1]; rfl, fun z hz => ?_, e3⟩
      rcases List.mem_cons.mp hz with rfl | hz
      · exact Or.inl (by simpa using hcov)
      · exact e2 z hz
theorem kx_hs_go (hx : p.tables.exec = Jvm.exec) {M : kx_M} (hb : c.code = M.2.1) (hl : lv_has ls M.2.2.1 lv) {k q pc' : Nat} {lv' : kx_L} (h : kx_hs M.2.2.1 M.2.1 k lv = some (pc', lv'))
    (kk : ∀ ls' : Array Slot, lv_has ls' M.2.2.1 lv' → W p l e R s m args below meth c H locs cells slots Q (F0 m pc' ls' [])) : W p l e R s m args below meth c H locs cells slots Q (F0 m k ls [.ref q]) := by
  unfold kx_hs at h
  have drop : ∀ (ls' : Array Slot) (x : Nat × Value) (l2 : kx_L), lv_has ls' M.2.2.1 (x :: l2) → lv_has ls' M.2.2.1 l2 := fun ls' x l2 h => ⟨h.1, h.2.1, fun q hq => h.2.2 q (List.mem_cons_of_mem _ hq)⟩
  split at h
  · rename_i k0 hd
    split at h
    · rename_i hlt
      cases h
      exact lv_astore_n hx hb hd rfl hl hlt rfl (fun ls' hl' => kk ls' (drop _ _ _ hl'))
    · cases h
  · rename_i k0 hd
    split at h
    · rename_i hlt
      cases h
      exact lv_astore hx hb hd hl hlt rfl (fun ls' hl' => kk ls' (drop _ _ _ hl'))
    · cases h
  · cases h
end KXV
