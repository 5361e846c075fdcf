/-! ===== RUNS OVER A TYPED STATE, part 12: references that are there; arrays by reference ===== -/
section KQ
variable {V : kx_V} {G : wT} {ob : Nat → Nat} {ot : Nat → Option kx_E} {L : Nat} {M : kx_M} {pc : Nat} {lv : kx_L} {st : List Value} {w : wS} {Q : kx_Rs → wS → Prop}
theorem kz_nz0 {x : Option Nat} {a : Nat} (hx : x = some a) (k : kz V G ob ot L M pc lv (.ref a :: st) w Q) : kz V G ob ot L M pc lv (va_rf x :: st) w Q := by
  subst hx
  exact k
theorem kz_nz1 {x : Option Nat} {a : Nat} {v1 : Value} (hx : x = some a) (k : kz V G ob ot L M pc lv (v1 :: .ref a :: st) w Q) : kz V G ob ot L M pc lv (v1 :: va_rf x :: st) w Q := by
  subst hx
  exact k
theorem kz_nz2 {x : Option Nat} {a : Nat} {v1 v2 : Value} (hx : x = some a) (k : kz V G ob ot L M pc lv (v1 :: v2 :: .ref a :: st) w Q) : kz V G ob ot L M pc lv (v1 :: v2 :: va_rf x :: st) w Q := by
  subst hx
  exact k
theorem kz_aaldR {i : Int32} {τ c o k n : Nat} {ty : FieldType} (v : Option Nat) (hd : decode M.2.1 pc = .ok (.aaload, 1)) (ho : w_own w G ob (τ + 4) c o k) {a : Nat} (ha : w_aa G ob w c o k = a) (ht : (kx_tl V)[τ + 4]? = some ty) (hr : ty.isReference = true) (hn : w_n w c o k = n) (hv : w_r w c o k i.toNatClampNeg = v) {A : Prop} (h : kx_inb i n = true ∧ A) (kk : A → kz V G ob ot L M (pc + 1) lv (va_rf v :: st) w Q) : kz V G ob ot L M pc lv (.int i :: .ref a :: st) w Q := kz_aald hd ho ha ht hr (hn ▸ h) (fun z => hv ▸ kk z)
end KQ
theorem ot_9 {E : zE} : (kx_tl (zV E))[9]? = some (.object "java/lang/String") := rfl
theorem ot_10 {E : zE} : (kx_tl (zV E))[10]? = some (.array .int) := rfl
theorem ot_f0 {E : zE} : (kx_tl (zV E)).findIdx? (fun y => y == FieldType.int) = some 0 := rfl
theorem ot_ai {E : zE} : Jvm.Cond.arrayClass FieldType.int ∈ kx_Tb (zV E) := lw_g (lw_at lw_m1 124 rfl) rfl
