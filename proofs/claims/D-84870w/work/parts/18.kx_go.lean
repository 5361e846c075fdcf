/-! ===== THE MACHINE IN ONE THEOREM, part 7: a run of kx_run is a run of the machine ===== -/
def kx_Pc (V : kx_V) (D : kx_G) (X : kx_X) (As : List Value) : Array Value → State → Prop := va_Pc As (fun U => kx_R D (kx_cl V) X U.heap ∧ kx_F V D U U.heap)
def kx_Qc (V : kx_V) (D : kx_G) (r : kx_Rs) (X9 : kx_X) : Array Value → State → Outcome → State → Prop := fun _ st o t => (∃ v : Option Value, o = .returned v ∧ r = .inl v) ∧ kx_R D (kx_cl V) X9 t.heap ∧ va_F (kx_A V) st t
def kx_XC (V : kx_V) (D : kx_G) (r : kx_Rs) (X9 : kx_X) : String → State → State → Prop := fun E st t => r = .inr E ∧ kx_R D (kx_cl V) X9 t.heap ∧ va_F (kx_A V) st t
theorem kx_Pc_blind {V : kx_V} (hV : kx_ok V) {D : kx_G} {X : kx_X} {As : List Value} : FrameBlind (kx_Pc V D X As) := by
  intro a U g mk h
  obtain ⟨h1, h2, h3⟩ := h
  exact ⟨h1, h2, kx_F.to hV (U := U.calling g mk a) (H := U.heap) h3 (State.WarmedH.refl U) va_S.rf⟩
theorem kx_good {V : kx_V} (hV : kx_ok V) {ws : List Jvm.Cond} (h : ∀ w ∈ ws, w ∈ kx_Tb V) : GoodIn (kx_Tb V) ws := fun w hw => ⟨h w hw, good_of_word (hV.1.1 w (h w hw))⟩
theorem kx_add_eq {dc ds : Nat} {o : Option kx_Z} {z : kx_Z} (h : kx_add dc ds o = some z) : ∃ z' : kx_Z, o = some z' ∧ z.1 = z'.1 ∧ z.2.1 = z'.2.1 ∧ z.2.2.1 = dc + z'.2.2.1 ∧ z.2.2.2 = ds + z'.2.2.2 := by
  unfold kx_add at h
  obtain ⟨z', h1, rfl⟩ := Option.map_eq_some_iff.mp h
  exact ⟨z', h1, rfl, rfl, rfl, rfl⟩
theorem kx_fit_eq {F L : Nat} {M : kx_M} {As rest : List Value} (h : kx_fit F L M As rest = true) : plainName M.1.cls = true ∧ M.1.cls ≠ "java/lang/invoke/MethodHandle" ∧ M.1.cls ≠ "java/lang/invoke/VarHandle" ∧ 1 ≤ F ∧ 19 + M.2.2.1 ≤ L ∧ (lg_sl As).length ≤ M.2.2.1 ∧ kx_cat rest ≤ 8 := by
  simp only [kx_fit, Bool.and_eq_true, decide_eq_true_eq] at h
  obtain ⟨⟨⟨⟨⟨⟨h1, h2⟩, h3⟩, h4⟩, h5⟩, h6⟩, h7⟩ := h
  exact ⟨h1, h2, h3, h4, h5, h6, h7⟩
section KXW
variable {p : Program} {l : Launch} {e : Env} {R : Room} {s : State} {m : MethodId} {args : Array Value} {below : List Frame} {meth : Method} {c : Code} {H : Heap} {locs : List Loc} {cells slots : Nat} {Q : State → Prop}
variable {pc : Nat} {ls : Array Slot} {D : kx_G} {X : kx_X} {lv : kx_L} {st : List Value}
theorem kx_pre {V : kx_V} (hV : kx_ok V) (hF : kx_F V D s s.heap) (hR : kx_R D (kx_cl V) X H) (hS : va_S (kx_A V) s.heap H locs) (As : List Value) : PreS s H (kx_Pc V D X As) As := by
  refine ⟨kx_Pc_blind hV, fun U hU hW => ⟨rfl, by rw [hU]; exact hR, by rw [hU]; exact kx_F.to hV hF hW hS⟩⟩
theorem kx_cc_at {V : kx_V} (hF : kx_F V D s s.heap) (hR : kx_R D (kx_cl V) X H) (hS : va_S (kx_A V) s.heap H locs) {b : Nat} {C : String} (h : kx_cc V X b = some C) : ∃ cellB : Cell, H[b]? = some cellB ∧ cellB.vm.isStatics = false ∧ s.vm.findClass C = some cellB.cls := by
  unfold kx_cc at h
  split at h
  · rename_i ci fs hX
    split at h
    · rename_i C2 T N hcl
      cases h
      obtain ⟨r1, q0, cell, q1, q2, q3, q4⟩ := hR.2 b _ hX
      exact ⟨cell, q1, by rw [q3]; rfl, by rw [q2]; exact (hF.1.1 ci _ hcl).2.1⟩
    · cases h
  · split at h
    · rename_i C2 fs hoo
      cases h
      obtain ⟨cell, c1, c2, c3, c4⟩ := ((hF.2.2.2.2.2.2.2 _ _ fs hoo).1).kept hS.2.1
      exact ⟨cell, c1, c2, c3⟩
    · cases h
  · cases h
/-- an invocation, where the callee is met -/
theorem kx_inv_run (V : kx_V) (hV : kx_ok V) (hx : p.tables.exec = Jvm.exec) {F L : Nat} {M : kx_M} (hRF : F ≤ R.frames) (hRL : L ≤ R.locals) (hml : c.maxLocals = M.2.2.1) (hb : c.code = M.2.1) (hts : ∀ w ∈ kx_Tb V, w.before args s = true) (hown : s.vm.findClass M.1.cls = some m.cls) (hF : kx_F V D s s.heap) (hl : lv_has ls M.2.2.1 lv) (hR : kx_R D (kx_cl V) X H) (hS : va_S (kx_A V) s.heap H locs)
    {i : Instr} {len : Nat} (hd : decode M.2.1 pc = .ok (i, len)) {M' : kx_M} {As rest : List Value} (h : kx_inv V M.1.cls F L i len st X = some (M', As, rest)) {mc ms : Nat} (hc : cells + mc ≤ R.cells) (hs : slots + ms ≤ R.slots) {Qc : Array Value → State → Outcome → State → Prop} {XC : String → State → State → Prop}
    (hM : kx_cw M' ∈ kx_Tb V → plainName M'.1.cls = true → (lg_sl As).length ≤ M'.2.2.1 → vx_Met l M'.1 (kx_cw M' :: kx_Tb V) { frames := F - 1, cells := mc, slots := ms, locals := L - (19 + M'.2.2.1) } (kx_Pc V D X As) Qc XC mc ms (kx_A V)) :
    vx_Run p l e R s m args below meth c H locs cells slots mc ms (F0 m pc ls st) rest (Qc As.toArray) XC (kx_A V) := by
  have hsz : ls.size = M.2.2.1 := hl.1
  have S : CallFix p m c M.2.1 M.2.2.1 s args (kx_Tb V) M.1.cls := ⟨hx, hb, hml, hown, hts⟩
  have hP := kx_pre hV hF hR hS
  have hng : ∀ rest : List Value, kx_cat rest ≤ 8 → 2 * (F0 m pc ls st).monitorRoom + (rest.map fun v => v.category).sum ≤ 8 := fun rest h => by unfold kx_cat at h; simpa [JFrame.monitorRoom] using h
  obtain ⟨y9, b9, mL9, ret9, ho9⟩ := M'
  cases i with
  | invokestatic j =>
    simp only [kx_inv] at h
    split at h
    · rename_i elen
      subst elen
      split at h
      · rename_i y hy
        split at h
        · rename_i M9 k hm hn
          split at h
          · rename_i As9 rest9 harg
            split at h
            · rename_i hcnd
              obtain ⟨g1, g2, g3⟩ := hcnd
              cases h
              obtain ⟨rfl, hmem⟩ := kx_md_mem hV hm
              obtain ⟨f1, f2, f3, f4, f5, f6, f7⟩ := kx_fit_eq g3
              obtain ⟨rfl, hlen⟩ := kx_arg_eq harg
              dsimp only at f1 f2 f3 f5 f6 g1 g2 hn
              have hG : GoodIn (kx_Tb V) (va_wsS M.1.cls j y9 (kx_cw (y9, b9, mL9, ret9, ho9) :: kx_Tb V)) := kx_good hV (fun w hw => by
                simp only [va_wsS, List.cons_append, List.nil_append, List.mem_cons] at hw
                rcases hw with rfl | rfl | rfl | rfl | hw
                · exact kx_ml_mem hV hy
                · exact g1
                · exact g2
                · exact hmem
                · exact hw)
              have hR9 : ({ frames := F - 1, cells := mc, slots := ms, locals := L - (19 + mL9) } : Room).frames + 1 ≤ R.frames ∧ 8 + (mL9 + 11) + ({ frames := F - 1, cells := mc, slots := ms, locals := L - (19 + mL9) } : Room).locals ≤ R.locals := ⟨by show F - 1 + 1 ≤ R.frames; omega, by show 8 + (mL9 + 11) + (L - (19 + mL9)) ≤ R.locals; omega⟩
              cases ho9 with
              | none => exact vx_runS S (hM hmem f1 f6) (va_cwS k hts hG rfl rfl rfl ⟨f2, f3, hn⟩ hR9) (hP As) rfl hlen hsz rfl (hng _ f7) hd ⟨hc, hs⟩
              | some hh => exact vx_runSX S (hM hmem f1 f6) (vx_cwSW k hts hG rfl rfl rfl ⟨f2, f3, hn⟩ hR9) (hP As) rfl hlen hsz rfl (hng _ f7) hd ⟨hc, hs⟩
            · cases h
          · cases h
        · cases h
      · split at h
        · rename_i y host hy
          split at h
          · rename_i M9 k hm hn
            split at h
            · rename_i As9 rest9 harg
              split at h
              · rename_i hcnd
                obtain ⟨g0, g1, g2, g3⟩ := hcnd
                cases h
                obtain ⟨rfl, hmem⟩ := kx_md_mem hV hm
                obtain ⟨f1, f2, f3, f4, f5, f6, f7⟩ := kx_fit_eq g3
                obtain ⟨rfl, hlen⟩ := kx_arg_eq harg
                dsimp only at f1 f2 f3 f5 f6 g0 g1 g2 hn
                subst g0
                have hG : GoodIn (kx_Tb V) (kx_cw (y9, b9, mL9, ret9, none) :: kx_Tb V) := kx_good hV (fun w hw => by
                  rcases List.mem_cons.mp hw with rfl | hw
                  · exact hmem
                  · exact hw)
                have hR9 : ({ frames := F - 1, cells := mc, slots := ms, locals := L - (19 + mL9) } : Room).frames + 1 ≤ R.frames ∧ 8 + (mL9 + 11) + ({ frames := F - 1, cells := mc, slots := ms, locals := L - (19 + mL9) } : Room).locals ≤ R.locals := ⟨by show F - 1 + 1 ≤ R.frames; omega, by show 8 + (mL9 + 11) + (L - (19 + mL9)) ≤ R.locals; omega⟩
                exact vx_runSN S (hM hmem f1 f6) ⟨va_cnB k hts hG rfl rfl rfl (hF.2.2.2.2.1 _ (kx_mn_mem hy)) (hts _ g2) ⟨f2, f3, hn⟩ hR9, hts _ g1, trivial⟩ (hP As) rfl hlen hsz rfl (hng _ f7) hd ⟨hc, hs⟩
              · cases h
            · cases h
          · cases h
        · cases h
    · cases h
  | invokespecial j =>
    simp only [kx_inv] at h
    split at h
    · rename_i elen
      subst elen
      split at h
      · rename_i y hy
        split at h
        · rename_i M9 k hm hn
          split at h
          · rename_i As9 b rest9 harg
            split at h
            · rename_i hcnd
              obtain ⟨g0, g1, g2, g3, g4, g5⟩ := hcnd
              cases h
              obtain ⟨rfl, hmem⟩ := kx_md_mem hV hm
              obtain ⟨f1, f2, f3, f4, f5, f6, f7⟩ := kx_fit_eq g5
              obtain ⟨rfl, hlen⟩ := kx_arg_eq harg
              dsimp only at f1 f2 f3 f5 f6 g0 g1 g2 g3 g4 hn
              subst g0
              subst g1
              have hG : GoodIn (kx_Tb V) (kx_cw (y9, b9, mL9, none, none) :: kx_Tb V) := kx_good hV (fun w hw => by
                rcases List.mem_cons.mp hw with rfl | hw
                · exact hmem
                · exact hw)
              have hR9 : ({ frames := F - 1, cells := mc, slots := ms, locals := L - (19 + mL9) } : Room).frames + 1 ≤ R.frames ∧ 8 + (mL9 + 11) + ({ frames := F - 1, cells := mc, slots := ms, locals := L - (19 + mL9) } : Room).locals ≤ R.locals := ⟨by show F - 1 + 1 ≤ R.frames; omega, by show 8 + (mL9 + 11) + (L - (19 + mL9)) ≤ R.locals; omega⟩
              exact vx_runI S (hM hmem f1 f6) (cwI k hts hG rfl rfl rfl (hts _ g4) (hts _ (kx_ml_mem hV hy)) (hts _ g3) g2 ⟨f2, f3, hn⟩ hR9) (hP _) rfl hlen hsz rfl (hng _ f7) hd ⟨hc, hs⟩
            · cases h
          · cases h
        · cases h
      · split at h
        · rename_i y host hy
          split at h
          · rename_i M9 k hm hn
            split at h
            · rename_i As9 b rest9 harg
              split at h
              · rename_i hcnd
                obtain ⟨g0, g1, g2, g3, g4, g5⟩ := hcnd
                cases h
                obtain ⟨rfl, hmem⟩ := kx_md_mem hV hm
                obtain ⟨f1, f2, f3, f4, f5, f6, f7⟩ := kx_fit_eq g5
                obtain ⟨rfl, hlen⟩ := kx_arg_eq harg
                dsimp only at f1 f2 f3 f5 f6 g0 g1 g2 g3 g4 hn
                subst g0
                subst g1
                have hG : GoodIn (kx_Tb V) (kx_cw (y9, b9, mL9, none, none) :: kx_Tb V) := kx_good hV (fun w hw => by
                  rcases List.mem_cons.mp hw with rfl | hw
                  · exact hmem
                  · exact hw)
                have hR9 : ({ frames := F - 1, cells := mc, slots := ms, locals := L - (19 + mL9) } : Room).frames + 1 ≤ R.frames ∧ 8 + (mL9 + 11) + ({ frames := F - 1, cells := mc, slots := ms, locals := L - (19 + mL9) } : Room).locals ≤ R.locals := ⟨by show F - 1 + 1 ≤ R.frames; omega, by show 8 + (mL9 + 11) + (L - (19 + mL9)) ≤ R.locals; omega⟩
                exact vx_runIN S (hM hmem f1 f6) ⟨va_cnB k hts hG rfl rfl rfl (hF.2.2.2.2.1 _ (kx_mn_mem hy)) (hts _ g4) ⟨f2, f3, hn⟩ hR9, g2, hts _ g3⟩ (hP _) rfl hlen hsz rfl (hng _ f7) hd ⟨hc, hs⟩
              · cases h
            · cases h
          · cases h
        · cases h
    · cases h
  | invokevirtual j =>
    simp only [kx_inv] at h
    split at h
    · rename_i elen
      subst elen
      split at h
      · rename_i y hy
        split at h
        · rename_i k hn
          split at h
          · rename_i As9 b rest9 harg
            split at h
            · rename_i C hcc
              · have hcell : ∃ cellB : Cell, H[b]? = some cellB ∧ cellB.vm.isStatics = false ∧ s.vm.findClass C = some cellB.cls := kx_cc_at hF hR hS hcc
                split at h
                · rename_i hsel
                  obtain ⟨rfl, hsel⟩ := hsel
                  split at h
                  · rename_i M9 hm
                    split at h
                    · rename_i hcnd
                      obtain ⟨g1, g2, g3⟩ := hcnd
                      cases h
                      obtain ⟨rfl, hmem⟩ := kx_md_mem hV hm
                      obtain ⟨f1, f2, f3, f4, f5, f6, f7⟩ := kx_fit_eq g3
                      obtain ⟨rfl, hlen⟩ := kx_arg_eq harg
                      dsimp only at f1 f2 f3 f5 f6 g1 g2 hn hsel
                      have hG : GoodIn (kx_Tb V) (wsV M.1.cls j y9.cls y9 (kx_cw (y9, b9, mL9, ret9, ho9) :: kx_Tb V)) := kx_good hV (fun w hw => by
                        simp only [wsV, List.cons_append, List.nil_append, List.mem_cons] at hw
                        rcases hw with rfl | rfl | rfl | rfl | rfl | hw
                        · exact kx_ml_mem hV hy
                        · exact g1
                        · exact hsel
                        · exact g2
                        · exact hmem
                        · exact hw)
                      have hR9 : ({ frames := F - 1, cells := mc, slots := ms, locals := L - (19 + mL9) } : Room).frames + 1 ≤ R.frames ∧ 8 + (mL9 + 11) + ({ frames := F - 1, cells := mc, slots := ms, locals := L - (19 + mL9) } : Room).locals ≤ R.locals := ⟨by show F - 1 + 1 ≤ R.frames; omega, by show 8 + (mL9 + 11) + (L - (19 + mL9)) ≤ R.locals; omega⟩
                      cases ho9 with
                      | none => exact vx_runV S (hM hmem f1 f6) (cwV k hts hG rfl rfl rfl ⟨rfl, f2, f3, hn⟩ hR9) ⟨(hP _).1, hcell, (hP (.ref b :: As9)).2⟩ rfl hlen hsz rfl (hng _ f7) hd ⟨hc, hs⟩
                      | some hh => exact vx_runVX S (hM hmem f1 f6) (vx_cwVW k hts hG rfl rfl rfl ⟨rfl, f2, f3, hn⟩ hR9) ⟨(hP _).1, hcell, (hP (.ref b :: As9)).2⟩ rfl hlen hsz rfl (hng _ f7) hd ⟨hc, hs⟩
                    · cases h
                  · cases h
                · split at h
                  · rename_i M9 hm
                    split at h
                    · rename_i hcnd
                      obtain ⟨g0, g1, g3⟩ := hcnd
                      cases h
                      obtain ⟨e9, hmem⟩ := kx_md_mem hV hm
                      obtain ⟨f1, f2, f3, f4, f5, f6, f7⟩ := kx_fit_eq g3
                      obtain ⟨rfl, hlen⟩ := kx_arg_eq harg
                      dsimp only at f1 f2 f3 f5 f6 g0 hn e9
                      subst e9
                      subst g0
                      have hG : GoodIn (kx_Tb V) (va_wsU M.1.cls j C "java/lang/Enum" y ⟨"java/lang/Enum", y.name, y.desc⟩ (kx_cw (⟨"java/lang/Enum", y.name, y.desc⟩, b9, mL9, ret9, none) :: kx_Tb V)) := kx_good hV (fun w hw => by
                        rcases List.mem_append.mp (show w ∈ (va_wsU M.1.cls j C "java/lang/Enum" y ⟨"java/lang/Enum", y.name, y.desc⟩ []) ++ (kx_cw (⟨"java/lang/Enum", y.name, y.desc⟩, b9, mL9, ret9, none) :: kx_Tb V) by simpa [va_wsU] using hw) with hw | hw
                        · simpa using List.all_eq_true.mp g1 w hw
                        · rcases List.mem_cons.mp hw with rfl | hw
                          · exact hmem
                          · exact hw)
                      have hR9 : ({ frames := F - 1, cells := mc, slots := ms, locals := L - (19 + mL9) } : Room).frames + 1 ≤ R.frames ∧ 8 + (mL9 + 11) + ({ frames := F - 1, cells := mc, slots := ms, locals := L - (19 + mL9) } : Room).locals ≤ R.locals := ⟨by show F - 1 + 1 ≤ R.frames; omega, by show 8 + (mL9 + 11) + (L - (19 + mL9)) ≤ R.locals; omega⟩
                      exact vx_runU S (hM hmem f1 f6) (va_cwU k hts hG rfl rfl rfl rfl ⟨by decide, by decide, hn⟩ hR9) ⟨(hP _).1, hcell, (hP (.ref b :: As9)).2⟩ rfl hlen hsz rfl (hng _ f7) hd ⟨hc, hs⟩
                    · cases h
                  · cases h
            · cases h
          · cases h
        · cases h
      · cases h
    · cases h
  | _ => cases h
end KXW
