/-! ===== a String constant by a wide link ===== -/
theorem kz_ldcSW {V : kx_V} {G : wT} {ob : Nat → Nat} {ot : Nat → Option kx_E} {L : Nat} {M : kx_M} {pc : Nat} {lv : kx_L} {st : List Value} {w : wS} {Q : kx_Rs → wS → Prop} {j q : Nat} (hd : decode M.2.1 pc = .ok (.ldc_w j, 3)) (h : kx_ci V M.1.cls j = none ∧ kx_rv V M.1.cls j = some q) (kk : kz V G ob ot L M (pc + 3) lv (.ref q :: st) w Q) : kz V G ob ot L M pc lv st w Q := by
  refine kz_s2 hd (fun X => ?_) (fun F X hF => ?_) kk
  · simp only [kx_st1, h.1, if_pos]
  · simp only [kx_st2, h.1, h.2, if_pos]
