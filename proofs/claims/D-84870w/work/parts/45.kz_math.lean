/-! ===== RUNS OVER A TYPED STATE, part 13: Math.max, Math.min ===== -/
theorem z_code_eq {A B : ByteArray} (h : A.data.toList = B.data.toList) : A = B := by
  cases A with
  | mk a =>
    cases B with
    | mk b => exact congrArg ByteArray.mk (Array.toList_inj.mp h)
section KMA
variable {V : kx_V} {G : wT} {ob : Nat → Nat} {ot : Nat → Option kx_E} {L : Nat} {M : kx_M} {pc : Nat} {lv : kx_L} {st : List Value} {w : wS} {Q : kx_Rs → wS → Prop}
theorem kz_s2 {i : Instr} {len : Nat} (hd : decode M.2.1 pc = .ok (i, len)) (h0 : ∀ X, kx_st1 V M.1.cls M.1.name M.2.2.1 i len pc lv st X = none) {pc' : Nat} {lv' : kx_L} {st' : List Value} (h : ∀ F X, L ≤ 19 * F → kx_st2 V F L M i len pc lv st X = some (pc', lv', st', X, 0, 0)) (k : kz V G ob ot L M pc' lv' st' w Q) : kz V G ob ot L M pc lv st w Q := fun F hF X hX => ky_step2 hd (h0 X) (h F X hF) (Nat.zero_add _).symm (Nat.zero_add _).symm (k F hF X hX)
theorem kz_mmax {j : Nat} {x y : Int32} (hd : decode M.2.1 pc = .ok (.invokestatic j, 3)) (hk : kx_ml V M.1.cls j = some Lib.Math.max.name) (h1 : Jvm.Cond.static Lib.Math.max.name ∈ kx_Tb V) (h2 : Jvm.Cond.initialized "java/lang/Math" ∈ kx_Tb V) (h3 : Jvm.Cond.code Lib.Math.max.name Lib.Math.max.code 2 (some .int) ∈ kx_Tb V) (hL : 24 ≤ L) (hcat : kx_cat st ≤ 8) (kk : kz V G ob ot L M (pc + 3) lv (.int (if x < y then y else x) :: st) w Q) : kz V G ob ot L M pc lv (.int y :: .int x :: st) w Q := by
  refine kz_s2 hd (fun X => rfl) (fun F X hF => ?_) kk
  simp only [kx_st2]
  rw [if_neg, if_pos ⟨trivial, hk, h1, h2, h3⟩, if_pos ⟨by omega, by omega⟩]
  rintro ⟨-, e, -⟩
  rw [hk] at e
  exact absurd e (by decide +kernel)
theorem kz_mmin {j : Nat} {x y : Int32} (hd : decode M.2.1 pc = .ok (.invokestatic j, 3)) (hk : kx_ml V M.1.cls j = some Lib.Math.min.name) (h1 : Jvm.Cond.static Lib.Math.min.name ∈ kx_Tb V) (h2 : Jvm.Cond.initialized "java/lang/Math" ∈ kx_Tb V) (h3 : Jvm.Cond.code Lib.Math.min.name Lib.Math.min.code 2 (some .int) ∈ kx_Tb V) (hL : 24 ≤ L) (hcat : kx_cat st ≤ 8) (kk : kz V G ob ot L M (pc + 3) lv (.int (if y < x then y else x) :: st) w Q) : kz V G ob ot L M pc lv (.int y :: .int x :: st) w Q := by
  refine kz_s2 hd (fun X => rfl) (fun F X hF => ?_) kk
  simp only [kx_st2]
  rw [if_neg, if_neg, if_pos ⟨trivial, hk, h1, h2, h3⟩, if_pos ⟨by omega, by omega⟩]
  · rintro ⟨-, e, -⟩
    rw [hk] at e
    exact absurd e (by decide +kernel)
  · rintro ⟨-, e, -⟩
    rw [hk] at e
    exact absurd e (by decide +kernel)
theorem kz_mminL {j : Nat} {x y : Int64} (hd : decode M.2.1 pc = .ok (.invokestatic j, 3)) (hk : kx_ml V M.1.cls j = some Lib.MathLoose.min_long.x) (h1 : Jvm.Cond.static Lib.MathLoose.min_long.x ∈ kx_Tb V) (h2 : Jvm.Cond.initialized "java/lang/Math" ∈ kx_Tb V) (h3 : Jvm.Cond.code Lib.MathLoose.min_long.x Lib.MathLoose.min_long.code 4 (some .long) ∈ kx_Tb V) (hL : 24 ≤ L) (hcat : kx_cat st ≤ 8) (kk : kz V G ob ot L M (pc + 3) lv (.long (if y < x then y else x) :: st) w Q) : kz V G ob ot L M pc lv (.long y :: .long x :: st) w Q := by
  refine kz_s2 hd (fun X => rfl) (fun F X hF => ?_) kk
  simp only [kx_st2]
  rw [if_neg, if_neg, if_neg, if_pos ⟨trivial, hk, h1, h2, h3⟩, if_pos ⟨by omega, by omega⟩]
  · rintro ⟨-, e, -⟩
    rw [hk] at e
    exact absurd e (by decide +kernel)
  · rintro ⟨-, e, -⟩
    rw [hk] at e
    exact absurd e (by decide +kernel)
  · rintro ⟨-, e, -⟩
    rw [hk] at e
    exact absurd e (by decide +kernel)
end KMA
theorem zm_s_max {E : zE} : Jvm.Cond.static Lib.Math.max.name ∈ kx_Tb (zV E) := lw_g (lw_at lw_m8 54 rfl) rfl
theorem zm_c_max {E : zE} : Jvm.Cond.code Lib.Math.max.name Lib.Math.max.code 2 (some .int) ∈ kx_Tb (zV E) := by
  have e : Lib.Math.max.code = prog_32_method_65_code := z_code_eq (by decide +kernel)
  rw [e]
  exact kt_M616_ok
theorem zm_s_min {E : zE} : Jvm.Cond.static Lib.Math.min.name ∈ kx_Tb (zV E) := lw_g (lw_at lw_m9 70 rfl) rfl
theorem zm_c_min {E : zE} : Jvm.Cond.code Lib.Math.min.name Lib.Math.min.code 2 (some .int) ∈ kx_Tb (zV E) := by
  have e : Lib.Math.min.code = prog_32_method_69_code := z_code_eq (by decide +kernel)
  rw [e]
  exact kt_M617_ok
theorem zm_s_minL {E : zE} : Jvm.Cond.static Lib.MathLoose.min_long.x ∈ kx_Tb (zV E) := lw_g (lw_at lw_m8 118 rfl) rfl
theorem zm_c_minL {E : zE} : Jvm.Cond.code Lib.MathLoose.min_long.x Lib.MathLoose.min_long.code 4 (some .long) ∈ kx_Tb (zV E) := by
  have e : Lib.MathLoose.min_long.code = prog_32_method_70_code := z_code_eq (by decide +kernel)
  rw [e]
  exact kt_M618_ok
theorem zm_i {E : zE} : Jvm.Cond.initialized "java/lang/Math" ∈ kx_Tb (zV E) := lw_g (lw_at lw_m1 32 rfl) rfl
theorem zm_l_X11_366 {E : zE} : kx_ml (zV E) "MeetingHouse$Machine" 366 = some Lib.Math.max.name := by
  show kt_get kt_mlA "MeetingHouse$Machine" 366 = _
  decide +kernel
theorem zm_l_X7_112 {E : zE} : kx_ml (zV E) "MeetingHouse$Types" 112 = some Lib.Math.max.name := by
  show kt_get kt_mlA "MeetingHouse$Types" 112 = _
  decide +kernel
theorem zm_l_X7_210 {E : zE} : kx_ml (zV E) "MeetingHouse$Types" 210 = some Lib.MathLoose.min_long.x := by
  show kt_get kt_mlA "MeetingHouse$Types" 210 = _
  decide +kernel
theorem zm_l_X8_281 {E : zE} : kx_ml (zV E) "MeetingHouse$Uses" 281 = some Lib.Math.min.name := by
  show kt_get kt_mlA "MeetingHouse$Uses" 281 = _
  decide +kernel
theorem zm_l_X13_944 {E : zE} : kx_ml (zV E) "MeetingHouseModel" 944 = some Lib.MathLoose.min_long.x := by
  show kt_get kt_mlA "MeetingHouseModel" 944 = _
  decide +kernel
