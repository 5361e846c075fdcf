/-! ===== THE MACHINE IN ONE THEOREM, part 8: by induction on the fuel ===== -/
/-- what n units of fuel show of a place inside a method, whatever its ends owe -/
def kx_Go (V : kx_V) (l : Launch) (D : kx_G) (n : Nat) : Prop :=
  ∀ {p : Program} {e : Env} {R : Room} {s : State} {m : MethodId} {args : Array Value} {below : List Frame} {meth : Method} {c : Code} {Q : State → Prop} {M : kx_M} {mc ms : Nat} {r : kx_Rs} {X9 : kx_X}
    (_ : p.tables.exec = Jvm.exec) (_ : ∀ w ∈ kx_Tb V, w.before args s = true) (_ : kx_F V D s s.heap) (_ : c.code = M.2.1) (_ : c.maxLocals = M.2.2.1) (_ : meth.name = M.1.name) (_ : s.vm.findClass M.1.cls = some m.cls) (_ : c.exceptionTable.toList = tableOf (M.2.2.2.2.getD [])) (_ : mc ≤ R.cells) (_ : ms ≤ R.slots)
    (_ : ∀ (H : Heap) (locs : List Loc) (cells slots pc : Nat) (ls : Array Slot) (st : List Value) (i : Instr) (len : Nat) (v : Option Value), decode M.2.1 pc = .ok (i, len) → kx_end M i len st = some v → r = .inl v → kx_R D (kx_cl V) X9 H → va_S (kx_A V) s.heap H locs → cells ≤ mc → slots ≤ ms → W p l e R s m args below meth c H locs cells slots Q (F0 m pc ls st))
    (_ : ∀ (H : Heap) (locs : List Loc) (cells slots pc : Nat) (ls : Array Slot) (rest : List Value) (E : String) (ce : Cell) (q : Addr), (∀ x ∈ c.exceptionTable.toList, kx_ps M.1.cls args E s pc x) → H[q]? = some ce → ce.vm = .none → s.vm.findClass E = some ce.cls → r = .inr E → kx_R D (kx_cl V) X9 H → va_S (kx_A V) s.heap H locs → cells ≤ mc → slots ≤ ms → vx_W p l e R s m args below meth c H locs cells slots Q (F0 m pc ls rest) q)
    {F L : Nat} (_ : F ≤ R.frames) (_ : L ≤ R.locals) {pc : Nat} {lv : kx_L} {st : List Value} {X : kx_X} {dc ds : Nat} {ls : Array Slot} {H : Heap} {locs : List Loc} {cells slots : Nat}
    (_ : kx_run V n F L M pc lv st X = some (r, X9, dc, ds)) (_ : cells + dc ≤ mc) (_ : slots + ds ≤ ms) (_ : lv_has ls M.2.2.1 lv) (_ : kx_R D (kx_cl V) X H) (_ : va_S (kx_A V) s.heap H locs),
    W p l e R s m args below meth c H locs cells slots Q (F0 m pc ls st)
theorem kx_met {V : kx_V} {l : Launch} {D : kx_G} {n : Nat} (hG : kx_Go V l D n) {M : kx_M} {F L : Nat} {As : List Value} {X : kx_X} {r : kx_Rs} {X9 : kx_X} {dc ds : Nat} (h : kx_run V n F L M 0 (lv_args 0 As) [] X = some (r, X9, dc, ds)) (hy : plainName M.1.cls = true) (hlen : (lg_sl As).length ≤ M.2.2.1) (_hmem : kx_cw M ∈ kx_Tb V) :
    vx_Met l M.1 (kx_cw M :: kx_Tb V) { frames := F, cells := dc, slots := ds, locals := L } (kx_Pc V D X As) (kx_Qc V D r X9) (kx_XC V D r X9) dc ds (kx_A V) := by
  obtain ⟨y, b, mL, ret, ho⟩ := M
  dsimp only at hy hlen
  have body : ∀ (p : Program) (e : Env) (s : State) (m : MethodId) (args : Array Value) (below : List Frame) (meth : Method) (c : Code) (s₁ : State), BodyLoose p l y (headSpec (kx_cw (y, b, mL, ret, ho) :: kx_Tb V) { frames := F, cells := dc, slots := ds, locals := L }) b mL ret e s m args below meth c s₁ → c.maxLocals = mL → c.exceptionTable.toList = tableOf (ho.getD []) → kx_Pc V D X As args s →
      W p l e (headSpec (kx_cw (y, b, mL, ret, ho) :: kx_Tb V) { frames := F, cells := dc, slots := ds, locals := L }).room s m args below meth c s.heap [] 0 0 (vx_MQ below (kx_Qc V D r X9) (kx_XC V D r X9) args s dc ds (kx_A V)) (entryFrame m args mL) := by
    intro p e s m args below meth c s₁ B hml ht hP
    obtain ⟨rfl, hR, hF⟩ := hP
    rw [lg_entry_eq]
    have hn := (name_of_methodNamed B.named B.method).1
    have hown := findClass_of_methodNamed B.named
    refine hG (M := (y, b, mL, ret, ho)) B.exec (fun w hw => atoms_spec B.pre w (List.mem_cons_of_mem _ hw)) hF B.bytes hml hn hown ht (Nat.le_refl _) (Nat.le_refl _) ?_ ?_ (Nat.le_refl _) (Nat.le_refl _) h (Nat.le_of_eq (Nat.zero_add _)) (Nat.le_of_eq (Nat.zero_add _)) (lv_entry As hlen) hR va_S.rf
    · intro H locs cells slots pc ls st i len v hd hv hr hR hS hc hs
      exact kx_ends B.exec (M := (y, b, mL, ret, ho)) B.bytes B.returns B.notSynchronized hd hv (fun t ht _ => ⟨⟨v, rfl, hr⟩, by rw [ht]; exact hR, hS.F ht⟩) hS.2.2 hc hs
    · intro H locs cells slots pc ls rest E ce q hps hq hcv hcl hr hR hS hc hs
      exact vx_outP hown B.notSynchronized hps hq hcv hcl (fun t ht _ => ⟨hr, by rw [ht]; exact hR, hS.F ht⟩) hS.2.2 hc hs
  cases ho with
  | none => exact vx_ofW hy rfl (fun p e s m args below meth c s₁ B hml ht hP => body p e s m args below meth c s₁ B hml (by
      rw [List.eq_nil_iff_forall_not_mem.mpr ht]; rfl) hP)
  | some hh => exact vx_ofWH hy rfl (fun p e s m args below meth c s₁ B hml hP => body p e s m args below meth c s₁ B hml (vx_table (x := y) B (atoms_spec B.pre (.codeWith y b mL ret hh) List.mem_cons_self)) hP)
theorem kx_go (V : kx_V) (hV : kx_ok V) {l : Launch} (hL : l.stackTraces = false) (D : kx_G) : ∀ n : Nat, kx_Go V l D n := by
  intro n
  induction n with
  | zero =>
    intro p e R s m args below meth c Q M mc ms r X9 hx hts hF hb hml hname hown htab hmc hms kE kX F L hRF hRL pc lv st X dc ds ls H locs cells slots h hc hs hl hR hS
    cases h
  | succ n ih =>
    intro p e R s m args below meth c Q M mc ms r X9 hx hts hF hb hml hname hown htab hmc hms kE kX F L hRF hRL pc lv st X dc ds ls H locs cells slots h hc hs hl hR hS
    have go : ∀ {pc : Nat} {lv : kx_L} {st : List Value} {X : kx_X} {dc ds : Nat} {ls : Array Slot} {H : Heap} {locs : List Loc} {cells slots : Nat}, kx_run V n F L M pc lv st X = some (r, X9, dc, ds) → cells + dc ≤ mc → slots + ds ≤ ms → lv_has ls M.2.2.1 lv → kx_R D (kx_cl V) X H → va_S (kx_A V) s.heap H locs → W p l e R s m args below meth c H locs cells slots Q (F0 m pc ls st) :=
      fun h hc hs hl hR hS => ih hx hts hF hb hml hname hown htab hmc hms kE kX hRF hRL h hc hs hl hR hS
    -- an exception at pc, its way from there
    have thrown : ∀ {E : String} {X : kx_X} {dc ds : Nat} {rest : List Value} {H : Heap} {locs : List Loc} {cells slots : Nat} {q : Addr} {ce : Cell}, (match kx_hd V M.1.cls pc E (M.2.2.2.2.getD []) with
        | some none => some ((.inr E, X, 0, 0) : kx_Z)
        | some (some h) => match kx_hs M.2.2.1 M.2.1 h lv with
          | some (pc', lv') => kx_run V n F L M pc' lv' [] X
          | none => none
        | none => none) = some (r, X9, dc, ds) → cells + dc ≤ mc → slots + ds ≤ ms → H[q]? = some ce → ce.vm = .none → s.vm.findClass E = some ce.cls → kx_R D (kx_cl V) X H → va_S (kx_A V) s.heap H locs → vx_W p l e R s m args below meth c H locs cells slots Q (F0 m pc ls rest) q := by
      intro E X dc ds rest H locs cells slots q ce h hc hs hq hcv hcl hR hS
      split at h
      · rename_i hh
        cases h
        exact kX H locs cells slots pc ls rest E ce q (by rw [htab]; exact kx_hd_out hV hts hF.2.2.2.2.1 _ hh) hq hcv hcl rfl hR hS (by omega) (by omega)
      · rename_i k hh
        obtain ⟨pre, x, suf, nm, e1, e2, e3, e4, e5, e6, e7⟩ := kx_hd_in hV hts hF.2.2.2.2.1 _ hh
        split at h
        · rename_i pc' lv' hhs
          refine vx_catch hown pre x suf (htab.trans e1) e2 e3 e4 e6 e7 hq hcv hcl ?_
          rw [e5]
          exact kx_hs_go hx hb hl hhs (fun ls' hl' => go h hc hs hl' hR hS)
        · cases h
      · cases h
    simp only [kx_run] at h
    split at h
    · cases h
    · rename_i i len hd
      split at h
      · rename_i pc' lv' st' X' dc1 ds1 h1
        obtain ⟨⟨r2, X2, dc2, ds2⟩, hr, e1, e2, e3, e4⟩ := kx_add_eq h
        dsimp only at e1 e2 e3 e4
        subst e1; subst e2
        exact kx_step V hV hx hb hts hown hF hl hR hS hd (by rw [hname]; exact h1) (by dsimp only; omega) (by dsimp only; omega) (fun ls' H' locs' hl' hR' hS' => go hr (by dsimp only; omega) (by dsimp only; omega) hl' hR' hS')
      · split at h
        · rename_i pc' lv' st' X' dc1 ds1 h1
          obtain ⟨⟨r2, X2, dc2, ds2⟩, hr, e1, e2, e3, e4⟩ := kx_add_eq h
          dsimp only at e1 e2 e3 e4
          subst e1; subst e2
          exact kx_step2 V hV hx hL hRF hRL hml hb hts hown hF hl hR hS hd h1 (by dsimp only; omega) (by dsimp only; omega) (fun ls' H' locs' hl' hR' hS' => go hr (by dsimp only; omega) (by dsimp only; omega) hl' hR' hS')
        · split at h
          · rename_i v hv
            cases h
            exact kE H locs cells slots pc ls st i len v hd hv rfl hR hS (by omega) (by omega)
          · split at h
            · rename_i M' As rest hinv
              split at h
              · rename_i v X' dc1 ds1 hcall
                obtain ⟨⟨r2, X2, dc2, ds2⟩, hr, e1, e2, e3, e4⟩ := kx_add_eq h
                dsimp only at e1 e2 e3 e4
                subst e1; subst e2
                have hrun := kx_inv_run V hV hx hRF hRL hml hb hts hown hF hl hR hS hd hinv (mc := dc1) (ms := ds1) (cells := cells) (slots := slots) (e := e) (meth := meth) (below := below) (by omega) (by omega) (fun hmem hpl hlen => kx_met ih hcall hpl hlen hmem)
                intro T hT XX
                rcases hrun T hT XX with ⟨v9, st₀, t, T', L9, h0, X', hL9, e1, e2, ⟨⟨v8, hv8, hr8⟩, hR9, hF9⟩, stp⟩ | ⟨q, st₀, t, T', L9, E, ce, h0, X', hL9, e1, e2, ⟨hr8, -⟩, -⟩
                · cases hv8
                  cases hr8
                  obtain ⟨k1, k2, k3⟩ := vx_keep h0 e1 hS (fun _ _ z => z) (fun _ z => z) hL9 hF9
                  obtain ⟨t2, a1, b1⟩ := go (ls := ls) (locs := locs ++ L9) (cells := cells + dc1) (slots := slots + ds1) hr (by omega) (by omega) hl (by rw [← e1] at hR9; exact hR9) k3 T' rfl X'
                  exact ⟨t2, stp t2 a1, b1⟩
                · cases hr8
              · rename_i E X' dc1 ds1 hcall
                obtain ⟨⟨r2, X2, dc2, ds2⟩, hr, e1, e2, e3, e4⟩ := kx_add_eq h
                dsimp only at e1 e2 e3 e4
                subst e1; subst e2
                have hrun := kx_inv_run V hV hx hRF hRL hml hb hts hown hF hl hR hS hd hinv (mc := dc1) (ms := ds1) (cells := cells) (slots := slots) (e := e) (meth := meth) (below := below) (by omega) (by omega) (fun hmem hpl hlen => kx_met ih hcall hpl hlen hmem)
                intro T hT XX
                rcases hrun T hT XX with ⟨v9, st₀, t, T', L9, h0, X', hL9, e1, e2, ⟨⟨v8, hv8, hr8⟩, hR9, hF9⟩, stp⟩ | ⟨q, st₀, t, T', L9, E9, ce, h0, X', hL9, e1, e2, ⟨hr8, hR9, hF9⟩, hce, hcv, hcl, stp⟩
                · cases hr8
                · cases hr8
                  obtain ⟨k1, k2, k3⟩ := vx_keep h0 e1 hS (fun _ _ z => z) (fun _ z => z) hL9 hF9
                  obtain ⟨t2, a1, b1⟩ := thrown (locs := locs ++ L9) (cells := cells + dc1) (slots := slots + ds1) (rest := rest) hr (by omega) (by omega) (by rw [e1]; exact hce) hcv hcl (by rw [← e1] at hR9; exact hR9) k3 T' rfl X'
                  exact ⟨t2, stp.trans a1, b1⟩
              · cases h
            · split at h
              · rename_i a r1 _ _ _ _
                split at h
                · rename_i ci fs hX
                  split at h
                  · rename_i E T N hcl
                    split at h
                    · rename_i elen
                      subst elen
                      obtain ⟨r0, q0, cell, q1, q2, q3, q4⟩ := hR.2 a _ hX
                      exact vx_athrow hx hb hd (thrown h hc hs q1 q3 (by rw [q2]; exact (hF.1.1 ci _ hcl).2.1) hR hS)
                    · cases h
                  · cases h
                · cases h
              · cases h
