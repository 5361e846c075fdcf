/-! ===== RUNS OVER A TYPED STATE, part 8: methods and links of calls (printed by tools/gen_mfacts.py) ===== -/
set_option maxRecDepth 100000
section WM
variable {adE adK adV : Nat → Nat} {zr : Nat → Value} {b L0 : Nat} {xs : Nat → Int32} {lo : Nat}
theorem lw_sl {q : MethodName × Nat} (h : q ∈ lw_privs) (g : goodWord (Cond.selects q.1.cls q.1 q.1) = true) : Cond.selects q.1.cls q.1 q.1 ∈ lw_all := lw_g (lw_ms _ (List.mem_map.mpr ⟨q, h, rfl⟩)) g
theorem lw_sl1 {q : MethodName × Nat} (h : q ∈ lw_privs_1) : Cond.selects q.1.cls q.1 q.1 ∈ lw_all := lw_sl (show q ∈ lw_privs from (List.mem_append_left _ h)) rfl
theorem lw_sl2 {q : MethodName × Nat} (h : q ∈ lw_privs_2) : Cond.selects q.1.cls q.1 q.1 ∈ lw_all := lw_sl (show q ∈ lw_privs from (List.mem_append_right _ (List.mem_append_left _ h))) rfl
theorem lw_sl3 {q : MethodName × Nat} (h : q ∈ lw_privs_3) : Cond.selects q.1.cls q.1 q.1 ∈ lw_all := lw_sl (show q ∈ lw_privs from (List.mem_append_right _ (List.mem_append_right _ (List.mem_append_left _ h)))) rfl
theorem lw_sl4 {q : MethodName × Nat} (h : q ∈ lw_privs_4) : Cond.selects q.1.cls q.1 q.1 ∈ lw_all := lw_sl (show q ∈ lw_privs from (List.mem_append_right _ (List.mem_append_right _ (List.mem_append_right _ (List.mem_append_left _ h))))) rfl
theorem lw_sl5 {q : MethodName × Nat} (h : q ∈ lw_privs_5) : Cond.selects q.1.cls q.1 q.1 ∈ lw_all := lw_sl (show q ∈ lw_privs from (List.mem_append_right _ (List.mem_append_right _ (List.mem_append_right _ (List.mem_append_right _ (List.mem_append_left _ h)))))) rfl
theorem lw_sl6 {q : MethodName × Nat} (h : q ∈ lw_privs_6) : Cond.selects q.1.cls q.1 q.1 ∈ lw_all := lw_sl (show q ∈ lw_privs from (List.mem_append_right _ (List.mem_append_right _ (List.mem_append_right _ (List.mem_append_right _ (List.mem_append_right _ (List.mem_append_left _ h))))))) rfl
theorem lw_sl7 {q : MethodName × Nat} (h : q ∈ lw_privs_7) : Cond.selects q.1.cls q.1 q.1 ∈ lw_all := lw_sl (show q ∈ lw_privs from (List.mem_append_right _ (List.mem_append_right _ (List.mem_append_right _ (List.mem_append_right _ (List.mem_append_right _ (List.mem_append_right _ (List.mem_append_left _ h)))))))) rfl
theorem lw_sl8 {q : MethodName × Nat} (h : q ∈ lw_privs_8) : Cond.selects q.1.cls q.1 q.1 ∈ lw_all := lw_sl (show q ∈ lw_privs from (List.mem_append_right _ (List.mem_append_right _ (List.mem_append_right _ (List.mem_append_right _ (List.mem_append_right _ (List.mem_append_right _ (List.mem_append_right _ (List.mem_append_left _ h))))))))) rfl
theorem lw_sl9 {q : MethodName × Nat} (h : q ∈ lw_privs_9) : Cond.selects q.1.cls q.1 q.1 ∈ lw_all := lw_sl (show q ∈ lw_privs from (List.mem_append_right _ (List.mem_append_right _ (List.mem_append_right _ (List.mem_append_right _ (List.mem_append_right _ (List.mem_append_right _ (List.mem_append_right _ (List.mem_append_right _ (List.mem_append_left _ h)))))))))) rfl
theorem lw_sl10 {q : MethodName × Nat} (h : q ∈ lw_privs_10) : Cond.selects q.1.cls q.1 q.1 ∈ lw_all := lw_sl (show q ∈ lw_privs from (List.mem_append_right _ (List.mem_append_right _ (List.mem_append_right _ (List.mem_append_right _ (List.mem_append_right _ (List.mem_append_right _ (List.mem_append_right _ (List.mem_append_right _ (List.mem_append_right _ (List.mem_append_left _ h))))))))))) rfl
theorem lw_sl11 {q : MethodName × Nat} (h : q ∈ lw_privs_11) : Cond.selects q.1.cls q.1 q.1 ∈ lw_all := lw_sl (show q ∈ lw_privs from (List.mem_append_right _ (List.mem_append_right _ (List.mem_append_right _ (List.mem_append_right _ (List.mem_append_right _ (List.mem_append_right _ (List.mem_append_right _ (List.mem_append_right _ (List.mem_append_right _ (List.mem_append_right _ (List.mem_append_left _ h)))))))))))) rfl
theorem lw_sl12 {q : MethodName × Nat} (h : q ∈ lw_privs_12) : Cond.selects q.1.cls q.1 q.1 ∈ lw_all := lw_sl (show q ∈ lw_privs from (List.mem_append_right _ (List.mem_append_right _ (List.mem_append_right _ (List.mem_append_right _ (List.mem_append_right _ (List.mem_append_right _ (List.mem_append_right _ (List.mem_append_right _ (List.mem_append_right _ (List.mem_append_right _ (List.mem_append_right _ (List.mem_append_left _ h))))))))))))) rfl
theorem lw_sl13 {q : MethodName × Nat} (h : q ∈ lw_privs_13) : Cond.selects q.1.cls q.1 q.1 ∈ lw_all := lw_sl (show q ∈ lw_privs from (List.mem_append_right _ (List.mem_append_right _ (List.mem_append_right _ (List.mem_append_right _ (List.mem_append_right _ (List.mem_append_right _ (List.mem_append_right _ (List.mem_append_right _ (List.mem_append_right _ (List.mem_append_right _ (List.mem_append_right _ (List.mem_append_right _ (List.mem_append_left _ h)))))))))))))) rfl
theorem lw_sl14 {q : MethodName × Nat} (h : q ∈ lw_privs_14) : Cond.selects q.1.cls q.1 q.1 ∈ lw_all := lw_sl (show q ∈ lw_privs from (List.mem_append_right _ (List.mem_append_right _ (List.mem_append_right _ (List.mem_append_right _ (List.mem_append_right _ (List.mem_append_right _ (List.mem_append_right _ (List.mem_append_right _ (List.mem_append_right _ (List.mem_append_right _ (List.mem_append_right _ (List.mem_append_right _ (List.mem_append_right _ (List.mem_append_left _ h))))))))))))))) rfl
theorem lw_sl15 {q : MethodName × Nat} (h : q ∈ lw_privs_15) : Cond.selects q.1.cls q.1 q.1 ∈ lw_all := lw_sl (show q ∈ lw_privs from (List.mem_append_right _ (List.mem_append_right _ (List.mem_append_right _ (List.mem_append_right _ (List.mem_append_right _ (List.mem_append_right _ (List.mem_append_right _ (List.mem_append_right _ (List.mem_append_right _ (List.mem_append_right _ (List.mem_append_right _ (List.mem_append_right _ (List.mem_append_right _ (List.mem_append_right _ (List.mem_append_left _ h)))))))))))))))) rfl
theorem lw_sl16 {q : MethodName × Nat} (h : q ∈ lw_privs_16) : Cond.selects q.1.cls q.1 q.1 ∈ lw_all := lw_sl (show q ∈ lw_privs from (List.mem_append_right _ (List.mem_append_right _ (List.mem_append_right _ (List.mem_append_right _ (List.mem_append_right _ (List.mem_append_right _ (List.mem_append_right _ (List.mem_append_right _ (List.mem_append_right _ (List.mem_append_right _ (List.mem_append_right _ (List.mem_append_right _ (List.mem_append_right _ (List.mem_append_right _ (List.mem_append_right _ (List.mem_append_left _ h))))))))))))))))) rfl
theorem lw_sl17 {q : MethodName × Nat} (h : q ∈ lw_privs_17) : Cond.selects q.1.cls q.1 q.1 ∈ lw_all := lw_sl (show q ∈ lw_privs from (List.mem_append_right _ (List.mem_append_right _ (List.mem_append_right _ (List.mem_append_right _ (List.mem_append_right _ (List.mem_append_right _ (List.mem_append_right _ (List.mem_append_right _ (List.mem_append_right _ (List.mem_append_right _ (List.mem_append_right _ (List.mem_append_right _ (List.mem_append_right _ (List.mem_append_right _ (List.mem_append_right _ (List.mem_append_right _ (List.mem_append_left _ h)))))))))))))))))) rfl
theorem lw_sl18 {q : MethodName × Nat} (h : q ∈ lw_privs_18) : Cond.selects q.1.cls q.1 q.1 ∈ lw_all := lw_sl (show q ∈ lw_privs from (List.mem_append_right _ (List.mem_append_right _ (List.mem_append_right _ (List.mem_append_right _ (List.mem_append_right _ (List.mem_append_right _ (List.mem_append_right _ (List.mem_append_right _ (List.mem_append_right _ (List.mem_append_right _ (List.mem_append_right _ (List.mem_append_right _ (List.mem_append_right _ (List.mem_append_right _ (List.mem_append_right _ (List.mem_append_right _ (List.mem_append_right _ (List.mem_append_left _ h))))))))))))))))))) rfl
theorem lw_sl19 {q : MethodName × Nat} (h : q ∈ lw_privs_19) : Cond.selects q.1.cls q.1 q.1 ∈ lw_all := lw_sl (show q ∈ lw_privs from (List.mem_append_right _ (List.mem_append_right _ (List.mem_append_right _ (List.mem_append_right _ (List.mem_append_right _ (List.mem_append_right _ (List.mem_append_right _ (List.mem_append_right _ (List.mem_append_right _ (List.mem_append_right _ (List.mem_append_right _ (List.mem_append_right _ (List.mem_append_right _ (List.mem_append_right _ (List.mem_append_right _ (List.mem_append_right _ (List.mem_append_right _ (List.mem_append_right _ (List.mem_append_left _ h)))))))))))))))))))) rfl
theorem lw_sl20 {q : MethodName × Nat} (h : q ∈ lw_privs_20) : Cond.selects q.1.cls q.1 q.1 ∈ lw_all := lw_sl (show q ∈ lw_privs from (List.mem_append_right _ (List.mem_append_right _ (List.mem_append_right _ (List.mem_append_right _ (List.mem_append_right _ (List.mem_append_right _ (List.mem_append_right _ (List.mem_append_right _ (List.mem_append_right _ (List.mem_append_right _ (List.mem_append_right _ (List.mem_append_right _ (List.mem_append_right _ (List.mem_append_right _ (List.mem_append_right _ (List.mem_append_right _ (List.mem_append_right _ (List.mem_append_right _ (List.mem_append_right _ (List.mem_append_left _ h))))))))))))))))))))) rfl
theorem lw_sl21 {q : MethodName × Nat} (h : q ∈ lw_privs_21) : Cond.selects q.1.cls q.1 q.1 ∈ lw_all := lw_sl (show q ∈ lw_privs from (List.mem_append_right _ (List.mem_append_right _ (List.mem_append_right _ (List.mem_append_right _ (List.mem_append_right _ (List.mem_append_right _ (List.mem_append_right _ (List.mem_append_right _ (List.mem_append_right _ (List.mem_append_right _ (List.mem_append_right _ (List.mem_append_right _ (List.mem_append_right _ (List.mem_append_right _ (List.mem_append_right _ (List.mem_append_right _ (List.mem_append_right _ (List.mem_append_right _ (List.mem_append_right _ (List.mem_append_right _ (List.mem_append_left _ h)))))))))))))))))))))) rfl
theorem lw_sl22 {q : MethodName × Nat} (h : q ∈ lw_privs_22) : Cond.selects q.1.cls q.1 q.1 ∈ lw_all := lw_sl (show q ∈ lw_privs from (List.mem_append_right _ (List.mem_append_right _ (List.mem_append_right _ (List.mem_append_right _ (List.mem_append_right _ (List.mem_append_right _ (List.mem_append_right _ (List.mem_append_right _ (List.mem_append_right _ (List.mem_append_right _ (List.mem_append_right _ (List.mem_append_right _ (List.mem_append_right _ (List.mem_append_right _ (List.mem_append_right _ (List.mem_append_right _ (List.mem_append_right _ (List.mem_append_right _ (List.mem_append_right _ (List.mem_append_right _ (List.mem_append_right _ (List.mem_append_left _ h))))))))))))))))))))))) rfl
theorem lw_sl23 {q : MethodName × Nat} (h : q ∈ lw_privs_23) : Cond.selects q.1.cls q.1 q.1 ∈ lw_all := lw_sl (show q ∈ lw_privs from (List.mem_append_right _ (List.mem_append_right _ (List.mem_append_right _ (List.mem_append_right _ (List.mem_append_right _ (List.mem_append_right _ (List.mem_append_right _ (List.mem_append_right _ (List.mem_append_right _ (List.mem_append_right _ (List.mem_append_right _ (List.mem_append_right _ (List.mem_append_right _ (List.mem_append_right _ (List.mem_append_right _ (List.mem_append_right _ (List.mem_append_right _ (List.mem_append_right _ (List.mem_append_right _ (List.mem_append_right _ (List.mem_append_right _ (List.mem_append_right _ (List.mem_append_left _ h)))))))))))))))))))))))) rfl
theorem lw_sl24 {q : MethodName × Nat} (h : q ∈ lw_privs_24) : Cond.selects q.1.cls q.1 q.1 ∈ lw_all := lw_sl (show q ∈ lw_privs from (List.mem_append_right _ (List.mem_append_right _ (List.mem_append_right _ (List.mem_append_right _ (List.mem_append_right _ (List.mem_append_right _ (List.mem_append_right _ (List.mem_append_right _ (List.mem_append_right _ (List.mem_append_right _ (List.mem_append_right _ (List.mem_append_right _ (List.mem_append_right _ (List.mem_append_right _ (List.mem_append_right _ (List.mem_append_right _ (List.mem_append_right _ (List.mem_append_right _ (List.mem_append_right _ (List.mem_append_right _ (List.mem_append_right _ (List.mem_append_right _ (List.mem_append_right _ (List.mem_append_left _ h))))))))))))))))))))))))) rfl
theorem lw_sl25 {q : MethodName × Nat} (h : q ∈ lw_privs_25) : Cond.selects q.1.cls q.1 q.1 ∈ lw_all := lw_sl (show q ∈ lw_privs from (List.mem_append_right _ (List.mem_append_right _ (List.mem_append_right _ (List.mem_append_right _ (List.mem_append_right _ (List.mem_append_right _ (List.mem_append_right _ (List.mem_append_right _ (List.mem_append_right _ (List.mem_append_right _ (List.mem_append_right _ (List.mem_append_right _ (List.mem_append_right _ (List.mem_append_right _ (List.mem_append_right _ (List.mem_append_right _ (List.mem_append_right _ (List.mem_append_right _ (List.mem_append_right _ (List.mem_append_right _ (List.mem_append_right _ (List.mem_append_right _ (List.mem_append_right _ (List.mem_append_right _ (List.mem_append_left _ h)))))))))))))))))))))))))) rfl
theorem lw_sl26 {q : MethodName × Nat} (h : q ∈ lw_privs_26) : Cond.selects q.1.cls q.1 q.1 ∈ lw_all := lw_sl (show q ∈ lw_privs from (List.mem_append_right _ (List.mem_append_right _ (List.mem_append_right _ (List.mem_append_right _ (List.mem_append_right _ (List.mem_append_right _ (List.mem_append_right _ (List.mem_append_right _ (List.mem_append_right _ (List.mem_append_right _ (List.mem_append_right _ (List.mem_append_right _ (List.mem_append_right _ (List.mem_append_right _ (List.mem_append_right _ (List.mem_append_right _ (List.mem_append_right _ (List.mem_append_right _ (List.mem_append_right _ (List.mem_append_right _ (List.mem_append_right _ (List.mem_append_right _ (List.mem_append_right _ (List.mem_append_right _ (List.mem_append_right _ (List.mem_append_left _ h))))))))))))))))))))))))))) rfl
theorem lw_sl27 {q : MethodName × Nat} (h : q ∈ lw_privs_27) : Cond.selects q.1.cls q.1 q.1 ∈ lw_all := lw_sl (show q ∈ lw_privs from (List.mem_append_right _ (List.mem_append_right _ (List.mem_append_right _ (List.mem_append_right _ (List.mem_append_right _ (List.mem_append_right _ (List.mem_append_right _ (List.mem_append_right _ (List.mem_append_right _ (List.mem_append_right _ (List.mem_append_right _ (List.mem_append_right _ (List.mem_append_right _ (List.mem_append_right _ (List.mem_append_right _ (List.mem_append_right _ (List.mem_append_right _ (List.mem_append_right _ (List.mem_append_right _ (List.mem_append_right _ (List.mem_append_right _ (List.mem_append_right _ (List.mem_append_right _ (List.mem_append_right _ (List.mem_append_right _ (List.mem_append_right _ (List.mem_append_left _ h)))))))))))))))))))))))))))) rfl
theorem lw_sl28 {q : MethodName × Nat} (h : q ∈ lw_privs_28) : Cond.selects q.1.cls q.1 q.1 ∈ lw_all := lw_sl (show q ∈ lw_privs from (List.mem_append_right _ (List.mem_append_right _ (List.mem_append_right _ (List.mem_append_right _ (List.mem_append_right _ (List.mem_append_right _ (List.mem_append_right _ (List.mem_append_right _ (List.mem_append_right _ (List.mem_append_right _ (List.mem_append_right _ (List.mem_append_right _ (List.mem_append_right _ (List.mem_append_right _ (List.mem_append_right _ (List.mem_append_right _ (List.mem_append_right _ (List.mem_append_right _ (List.mem_append_right _ (List.mem_append_right _ (List.mem_append_right _ (List.mem_append_right _ (List.mem_append_right _ (List.mem_append_right _ (List.mem_append_right _ (List.mem_append_right _ (List.mem_append_right _ (List.mem_append_left _ h))))))))))))))))))))))))))))) rfl
theorem lw_sl29 {q : MethodName × Nat} (h : q ∈ lw_privs_29) : Cond.selects q.1.cls q.1 q.1 ∈ lw_all := lw_sl (show q ∈ lw_privs from (List.mem_append_right _ (List.mem_append_right _ (List.mem_append_right _ (List.mem_append_right _ (List.mem_append_right _ (List.mem_append_right _ (List.mem_append_right _ (List.mem_append_right _ (List.mem_append_right _ (List.mem_append_right _ (List.mem_append_right _ (List.mem_append_right _ (List.mem_append_right _ (List.mem_append_right _ (List.mem_append_right _ (List.mem_append_right _ (List.mem_append_right _ (List.mem_append_right _ (List.mem_append_right _ (List.mem_append_right _ (List.mem_append_right _ (List.mem_append_right _ (List.mem_append_right _ (List.mem_append_right _ (List.mem_append_right _ (List.mem_append_right _ (List.mem_append_right _ (List.mem_append_right _ (List.mem_append_left _ h)))))))))))))))))))))))))))))) rfl
theorem lw_sl30 {q : MethodName × Nat} (h : q ∈ lw_privs_30) : Cond.selects q.1.cls q.1 q.1 ∈ lw_all := lw_sl (show q ∈ lw_privs from (List.mem_append_right _ (List.mem_append_right _ (List.mem_append_right _ (List.mem_append_right _ (List.mem_append_right _ (List.mem_append_right _ (List.mem_append_right _ (List.mem_append_right _ (List.mem_append_right _ (List.mem_append_right _ (List.mem_append_right _ (List.mem_append_right _ (List.mem_append_right _ (List.mem_append_right _ (List.mem_append_right _ (List.mem_append_right _ (List.mem_append_right _ (List.mem_append_right _ (List.mem_append_right _ (List.mem_append_right _ (List.mem_append_right _ (List.mem_append_right _ (List.mem_append_right _ (List.mem_append_right _ (List.mem_append_right _ (List.mem_append_right _ (List.mem_append_right _ (List.mem_append_right _ (List.mem_append_right _ (List.mem_append_left _ h))))))))))))))))))))))))))))))) rfl
theorem lw_sl31 {q : MethodName × Nat} (h : q ∈ lw_privs_31) : Cond.selects q.1.cls q.1 q.1 ∈ lw_all := lw_sl (show q ∈ lw_privs from (List.mem_append_right _ (List.mem_append_right _ (List.mem_append_right _ (List.mem_append_right _ (List.mem_append_right _ (List.mem_append_right _ (List.mem_append_right _ (List.mem_append_right _ (List.mem_append_right _ (List.mem_append_right _ (List.mem_append_right _ (List.mem_append_right _ (List.mem_append_right _ (List.mem_append_right _ (List.mem_append_right _ (List.mem_append_right _ (List.mem_append_right _ (List.mem_append_right _ (List.mem_append_right _ (List.mem_append_right _ (List.mem_append_right _ (List.mem_append_right _ (List.mem_append_right _ (List.mem_append_right _ (List.mem_append_right _ (List.mem_append_right _ (List.mem_append_right _ (List.mem_append_right _ (List.mem_append_right _ (List.mem_append_right _ h))))))))))))))))))))))))))))))) rfl
theorem wMv_1 : wMv (kw_V adE adK adV zr b L0 xs lo) kt_M1 := ⟨by decide +kernel, lw_g (lw_at lw_m3 180 rfl) rfl, lw_g (lw_at lw_m3 179 rfl) rfl, lw_g (lw_at lw_m1 1 rfl) rfl⟩
theorem wMv_2 : wMv (kw_V adE adK adV zr b L0 xs lo) kt_M2 := ⟨by decide +kernel, lw_g (lw_at lw_m12 12 rfl) rfl, lw_g (lw_at lw_m12 11 rfl) rfl, lw_g (lw_at lw_m1 1 rfl) rfl⟩
theorem wMv_3 : wMv (kw_V adE adK adV zr b L0 xs lo) kt_M3 := ⟨by decide +kernel, lw_g (lw_at lw_m11 228 rfl) rfl, lw_g (lw_at lw_m11 227 rfl) rfl, lw_g (lw_at lw_m1 1 rfl) rfl⟩
theorem wMv_4 : wMv (kw_V adE adK adV zr b L0 xs lo) kt_M4 := ⟨by decide +kernel, lw_g (lw_at lw_m12 4 rfl) rfl, lw_g (lw_at lw_m12 3 rfl) rfl, lw_g (lw_at lw_m1 1 rfl) rfl⟩
theorem wMv_5 : wMv (kw_V adE adK adV zr b L0 xs lo) kt_M5 := ⟨by decide +kernel, lw_g (lw_at lw_m10 60 rfl) rfl, lw_g (lw_at lw_m10 59 rfl) rfl, lw_g (lw_at lw_m1 1 rfl) rfl⟩
theorem wMv_6 : wMv (kw_V adE adK adV zr b L0 xs lo) kt_M6 := ⟨by decide +kernel, lw_g (lw_at lw_m3 172 rfl) rfl, lw_g (lw_at lw_m3 171 rfl) rfl, lw_g (lw_at lw_m1 1 rfl) rfl⟩
theorem wMv_7 : wMv (kw_V adE adK adV zr b L0 xs lo) kt_M7 := ⟨by decide +kernel, lw_sl1 (List.mem_of_getElem? (i := 1) rfl), lw_g (lw_at lw_m3 176 rfl) rfl, lw_g (lw_at lw_m1 1 rfl) rfl⟩
theorem wMv_8 : wMv (kw_V adE adK adV zr b L0 xs lo) kt_M8 := ⟨by decide +kernel, lw_g (lw_at lw_m10 103 rfl) rfl, lw_g (lw_at lw_m10 102 rfl) rfl, lw_g (lw_at lw_m1 1 rfl) rfl⟩
theorem wMv_9 : wMv (kw_V adE adK adV zr b L0 xs lo) kt_M9 := ⟨by decide +kernel, lw_g (lw_at lw_m11 236 rfl) rfl, lw_g (lw_at lw_m11 235 rfl) rfl, lw_g (lw_at lw_m1 1 rfl) rfl⟩
theorem wMv_10 : wMv (kw_V adE adK adV zr b L0 xs lo) kt_M10 := ⟨by decide +kernel, lw_g (lw_at lw_m11 213 rfl) rfl, lw_g (lw_at lw_m11 212 rfl) rfl, lw_g (lw_at lw_m1 1 rfl) rfl⟩
theorem wMv_11 : wMv (kw_V adE adK adV zr b L0 xs lo) kt_M11 := ⟨by decide +kernel, lw_g (lw_at lw_m11 217 rfl) rfl, lw_g (lw_at lw_m11 216 rfl) rfl, lw_g (lw_at lw_m1 1 rfl) rfl⟩
theorem wMv_12 : wMv (kw_V adE adK adV zr b L0 xs lo) kt_M12 := ⟨by decide +kernel, lw_g (lw_at lw_m3 184 rfl) rfl, lw_g (lw_at lw_m3 183 rfl) rfl, lw_g (lw_at lw_m1 1 rfl) rfl⟩
theorem wMv_13 : wMv (kw_V adE adK adV zr b L0 xs lo) kt_M13 := ⟨by decide +kernel, lw_g (lw_at lw_m12 43 rfl) rfl, lw_g (lw_at lw_m12 42 rfl) rfl, lw_g (lw_at lw_m1 1 rfl) rfl⟩
theorem wMv_15 : wMv (kw_V adE adK adV zr b L0 xs lo) kt_M15 := ⟨by decide +kernel, lw_sl12 (List.mem_of_getElem? (i := 8) rfl), lw_g (lw_at lw_m9 224 rfl) rfl, lw_g (lw_at lw_m1 13 rfl) rfl⟩
theorem wMv_16 : wMv (kw_V adE adK adV zr b L0 xs lo) kt_M16 := ⟨by decide +kernel, lw_sl12 (List.mem_of_getElem? (i := 7) rfl), lw_g (lw_at lw_m9 220 rfl) rfl, lw_g (lw_at lw_m1 13 rfl) rfl⟩
theorem wMv_17 : wMv (kw_V adE adK adV zr b L0 xs lo) kt_M17 := ⟨by decide +kernel, lw_sl13 (List.mem_of_getElem? (i := 4) rfl), lw_g (lw_at lw_m10 42 rfl) rfl, lw_g (lw_at lw_m1 13 rfl) rfl⟩
theorem wMv_18 : wMv (kw_V adE adK adV zr b L0 xs lo) kt_M18 := ⟨by decide +kernel, lw_sl12 (List.mem_of_getElem? (i := 2) rfl), lw_g (lw_at lw_m9 198 rfl) rfl, lw_g (lw_at lw_m1 13 rfl) rfl⟩
theorem wMv_19 : wMv (kw_V adE adK adV zr b L0 xs lo) kt_M19 := ⟨by decide +kernel, lw_sl11 (List.mem_of_getElem? (i := 15) rfl), lw_g (lw_at lw_m9 183 rfl) rfl, lw_g (lw_at lw_m1 13 rfl) rfl⟩
theorem wMv_20 : wMv (kw_V adE adK adV zr b L0 xs lo) kt_M20 := ⟨by decide +kernel, lw_sl12 (List.mem_of_getElem? (i := 9) rfl), lw_g (lw_at lw_m9 228 rfl) rfl, lw_g (lw_at lw_m1 13 rfl) rfl⟩
theorem wMv_21 : wMv (kw_V adE adK adV zr b L0 xs lo) kt_M21 := ⟨by decide +kernel, lw_sl13 (List.mem_of_getElem? (i := 2) rfl), lw_g (lw_at lw_m10 34 rfl) rfl, lw_g (lw_at lw_m1 13 rfl) rfl⟩
theorem wMv_22 : wMv (kw_V adE adK adV zr b L0 xs lo) kt_M22 := ⟨by decide +kernel, lw_g (lw_at lw_m9 74 rfl) rfl, lw_g (lw_at lw_m9 73 rfl) rfl, lw_g (lw_at lw_m1 13 rfl) rfl⟩
theorem wMv_23 : wMv (kw_V adE adK adV zr b L0 xs lo) kt_M23 := ⟨by decide +kernel, lw_sl11 (List.mem_of_getElem? (i := 5) rfl), lw_g (lw_at lw_m9 136 rfl) rfl, lw_g (lw_at lw_m1 13 rfl) rfl⟩
theorem wMv_24 : wMv (kw_V adE adK adV zr b L0 xs lo) kt_M24 := ⟨by decide +kernel, lw_sl11 (List.mem_of_getElem? (i := 12) rfl), lw_g (lw_at lw_m9 171 rfl) rfl, lw_g (lw_at lw_m1 13 rfl) rfl⟩
theorem wMv_25 : wMv (kw_V adE adK adV zr b L0 xs lo) kt_M25 := ⟨by decide +kernel, lw_sl11 (List.mem_of_getElem? (i := 7) rfl), lw_g (lw_at lw_m9 146 rfl) rfl, lw_g (lw_at lw_m1 13 rfl) rfl⟩
theorem wMv_26 : wMv (kw_V adE adK adV zr b L0 xs lo) kt_M26 := ⟨by decide +kernel, lw_sl11 (List.mem_of_getElem? (i := 10) rfl), lw_g (lw_at lw_m9 163 rfl) rfl, lw_g (lw_at lw_m1 13 rfl) rfl⟩
theorem wMv_27 : wMv (kw_V adE adK adV zr b L0 xs lo) kt_M27 := ⟨by decide +kernel, lw_sl12 (List.mem_of_getElem? (i := 0) rfl), lw_g (lw_at lw_m9 189 rfl) rfl, lw_g (lw_at lw_m1 13 rfl) rfl⟩
theorem wMv_28 : wMv (kw_V adE adK adV zr b L0 xs lo) kt_M28 := ⟨by decide +kernel, lw_sl13 (List.mem_of_getElem? (i := 7) rfl), lw_g (lw_at lw_m10 55 rfl) rfl, lw_g (lw_at lw_m1 13 rfl) rfl⟩
theorem wMv_29 : wMv (kw_V adE adK adV zr b L0 xs lo) kt_M29 := ⟨by decide +kernel, lw_sl11 (List.mem_of_getElem? (i := 4) rfl), lw_g (lw_at lw_m9 132 rfl) rfl, lw_g (lw_at lw_m1 13 rfl) rfl⟩
theorem wMv_30 : wMv (kw_V adE adK adV zr b L0 xs lo) kt_M30 := ⟨by decide +kernel, lw_sl11 (List.mem_of_getElem? (i := 8) rfl), lw_g (lw_at lw_m9 155 rfl) rfl, lw_g (lw_at lw_m1 13 rfl) rfl⟩
theorem wMv_31 : wMv (kw_V adE adK adV zr b L0 xs lo) kt_M31 := ⟨by decide +kernel, lw_sl12 (List.mem_of_getElem? (i := 10) rfl), lw_g (lw_at lw_m9 232 rfl) rfl, lw_g (lw_at lw_m1 13 rfl) rfl⟩
theorem wMv_32 : wMv (kw_V adE adK adV zr b L0 xs lo) kt_M32 := ⟨by decide +kernel, lw_sl12 (List.mem_of_getElem? (i := 5) rfl), lw_g (lw_at lw_m9 211 rfl) rfl, lw_g (lw_at lw_m1 13 rfl) rfl⟩
theorem wMv_33 : wMv (kw_V adE adK adV zr b L0 xs lo) kt_M33 := ⟨by decide +kernel, lw_sl13 (List.mem_of_getElem? (i := 0) rfl), lw_g (lw_at lw_m10 26 rfl) rfl, lw_g (lw_at lw_m1 13 rfl) rfl⟩
theorem wMv_34 : wMv (kw_V adE adK adV zr b L0 xs lo) kt_M34 := ⟨by decide +kernel, lw_sl12 (List.mem_of_getElem? (i := 13) rfl), lw_g (lw_at lw_m10 9 rfl) rfl, lw_g (lw_at lw_m1 13 rfl) rfl⟩
theorem wMv_35 : wMv (kw_V adE adK adV zr b L0 xs lo) kt_M35 := ⟨by decide +kernel, lw_sl13 (List.mem_of_getElem? (i := 6) rfl), lw_g (lw_at lw_m10 50 rfl) rfl, lw_g (lw_at lw_m1 13 rfl) rfl⟩
theorem wMv_36 : wMv (kw_V adE adK adV zr b L0 xs lo) kt_M36 := ⟨by decide +kernel, lw_sl11 (List.mem_of_getElem? (i := 11) rfl), lw_g (lw_at lw_m9 167 rfl) rfl, lw_g (lw_at lw_m1 13 rfl) rfl⟩
theorem wMv_37 : wMv (kw_V adE adK adV zr b L0 xs lo) kt_M37 := ⟨by decide +kernel, lw_sl13 (List.mem_of_getElem? (i := 5) rfl), lw_g (lw_at lw_m10 46 rfl) rfl, lw_g (lw_at lw_m1 13 rfl) rfl⟩
theorem wMv_38 : wMv (kw_V adE adK adV zr b L0 xs lo) kt_M38 := ⟨by decide +kernel, lw_sl11 (List.mem_of_getElem? (i := 3) rfl), lw_g (lw_at lw_m9 83 rfl) rfl, lw_g (lw_at lw_m1 13 rfl) rfl⟩
theorem wMv_39 : wMv (kw_V adE adK adV zr b L0 xs lo) kt_M39 := ⟨by decide +kernel, lw_sl11 (List.mem_of_getElem? (i := 13) rfl), lw_g (lw_at lw_m9 175 rfl) rfl, lw_g (lw_at lw_m1 13 rfl) rfl⟩
theorem wMv_40 : wMv (kw_V adE adK adV zr b L0 xs lo) kt_M40 := ⟨by decide +kernel, lw_sl13 (List.mem_of_getElem? (i := 3) rfl), lw_g (lw_at lw_m10 38 rfl) rfl, lw_g (lw_at lw_m1 13 rfl) rfl⟩
theorem wMv_41 : wMv (kw_V adE adK adV zr b L0 xs lo) kt_M41 := ⟨by decide +kernel, lw_sl12 (List.mem_of_getElem? (i := 14) rfl), lw_g (lw_at lw_m10 17 rfl) rfl, lw_g (lw_at lw_m1 13 rfl) rfl⟩
theorem wMv_42 : wMv (kw_V adE adK adV zr b L0 xs lo) kt_M42 := ⟨by decide +kernel, lw_sl12 (List.mem_of_getElem? (i := 1) rfl), lw_g (lw_at lw_m9 193 rfl) rfl, lw_g (lw_at lw_m1 13 rfl) rfl⟩
theorem wMv_43 : wMv (kw_V adE adK adV zr b L0 xs lo) kt_M43 := ⟨by decide +kernel, lw_sl13 (List.mem_of_getElem? (i := 1) rfl), lw_g (lw_at lw_m10 30 rfl) rfl, lw_g (lw_at lw_m1 13 rfl) rfl⟩
theorem wMv_44 : wMv (kw_V adE adK adV zr b L0 xs lo) kt_M44 := ⟨by decide +kernel, lw_sl12 (List.mem_of_getElem? (i := 3) rfl), lw_g (lw_at lw_m9 202 rfl) rfl, lw_g (lw_at lw_m1 13 rfl) rfl⟩
theorem wMv_45 : wMv (kw_V adE adK adV zr b L0 xs lo) kt_M45 := ⟨by decide +kernel, lw_sl12 (List.mem_of_getElem? (i := 11) rfl), lw_g (lw_at lw_m9 237 rfl) rfl, lw_g (lw_at lw_m1 13 rfl) rfl⟩
theorem wMv_46 : wMv (kw_V adE adK adV zr b L0 xs lo) kt_M46 := ⟨by decide +kernel, lw_sl12 (List.mem_of_getElem? (i := 6) rfl), lw_g (lw_at lw_m9 216 rfl) rfl, lw_g (lw_at lw_m1 13 rfl) rfl⟩
theorem wMv_47 : wMv (kw_V adE adK adV zr b L0 xs lo) kt_M47 := ⟨by decide +kernel, lw_sl12 (List.mem_of_getElem? (i := 4) rfl), lw_g (lw_at lw_m9 207 rfl) rfl, lw_g (lw_at lw_m1 13 rfl) rfl⟩
theorem wMv_48 : wMv (kw_V adE adK adV zr b L0 xs lo) kt_M48 := ⟨by decide +kernel, lw_sl12 (List.mem_of_getElem? (i := 15) rfl), lw_g (lw_at lw_m10 22 rfl) rfl, lw_g (lw_at lw_m1 13 rfl) rfl⟩
theorem wMv_49 : wMv (kw_V adE adK adV zr b L0 xs lo) kt_M49 := ⟨by decide +kernel, lw_sl11 (List.mem_of_getElem? (i := 6) rfl), lw_g (lw_at lw_m9 141 rfl) rfl, lw_g (lw_at lw_m1 13 rfl) rfl⟩
theorem wMv_50 : wMv (kw_V adE adK adV zr b L0 xs lo) kt_M50 := ⟨by decide +kernel, lw_sl11 (List.mem_of_getElem? (i := 9) rfl), lw_g (lw_at lw_m9 159 rfl) rfl, lw_g (lw_at lw_m1 13 rfl) rfl⟩
theorem wMv_51 : wMv (kw_V adE adK adV zr b L0 xs lo) kt_M51 := ⟨by decide +kernel, lw_sl11 (List.mem_of_getElem? (i := 14) rfl), lw_g (lw_at lw_m9 179 rfl) rfl, lw_g (lw_at lw_m1 13 rfl) rfl⟩
theorem wMv_52 : wMv (kw_V adE adK adV zr b L0 xs lo) kt_M52 := ⟨by decide +kernel, lw_sl12 (List.mem_of_getElem? (i := 12) rfl), lw_g (lw_at lw_m10 1 rfl) rfl, lw_g (lw_at lw_m1 13 rfl) rfl⟩
theorem wMv_54 : wMv (kw_V adE adK adV zr b L0 xs lo) kt_M54 := ⟨by decide +kernel, lw_g (lw_at lw_m3 205 rfl) rfl, lw_g (lw_at lw_m3 204 rfl) rfl, lw_g (lw_at lw_m1 3 rfl) rfl⟩
theorem wMv_55 : wMv (kw_V adE adK adV zr b L0 xs lo) kt_M55 := ⟨by decide +kernel, lw_g (lw_at lw_m4 129 rfl) rfl, lw_g (lw_at lw_m4 128 rfl) rfl, lw_g (lw_at lw_m1 3 rfl) rfl⟩
theorem wMv_56 : wMv (kw_V adE adK adV zr b L0 xs lo) kt_M56 := ⟨by decide +kernel, lw_g (lw_at lw_m7 90 rfl) rfl, lw_g (lw_at lw_m7 89 rfl) rfl, lw_g (lw_at lw_m1 3 rfl) rfl⟩
theorem wMv_58 : wMv (kw_V adE adK adV zr b L0 xs lo) kt_M58 := ⟨by decide +kernel, lw_sl15 (List.mem_of_getElem? (i := 3) rfl), lw_g (lw_at lw_m11 10 rfl) rfl, lw_g (lw_at lw_m1 15 rfl) rfl⟩
theorem wMv_59 : wMv (kw_V adE adK adV zr b L0 xs lo) kt_M59 := ⟨by decide +kernel, lw_sl14 (List.mem_of_getElem? (i := 1) rfl), lw_g (lw_at lw_m10 136 rfl) rfl, lw_g (lw_at lw_m1 15 rfl) rfl⟩
theorem wMv_60 : wMv (kw_V adE adK adV zr b L0 xs lo) kt_M60 := ⟨by decide +kernel, lw_sl15 (List.mem_of_getElem? (i := 0) rfl), lw_g (lw_at lw_m10 236 rfl) rfl, lw_g (lw_at lw_m1 15 rfl) rfl⟩
theorem wMv_61 : wMv (kw_V adE adK adV zr b L0 xs lo) kt_M61 := ⟨by decide +kernel, lw_sl16 (List.mem_of_getElem? (i := 8) rfl), lw_g (lw_at lw_m11 104 rfl) rfl, lw_g (lw_at lw_m1 15 rfl) rfl⟩
theorem wMv_62 : wMv (kw_V adE adK adV zr b L0 xs lo) kt_M62 := ⟨by decide +kernel, lw_sl16 (List.mem_of_getElem? (i := 9) rfl), lw_g (lw_at lw_m11 108 rfl) rfl, lw_g (lw_at lw_m1 15 rfl) rfl⟩
theorem wMv_63 : wMv (kw_V adE adK adV zr b L0 xs lo) kt_M63 := ⟨by decide +kernel, lw_sl15 (List.mem_of_getElem? (i := 13) rfl), lw_g (lw_at lw_m11 53 rfl) rfl, lw_g (lw_at lw_m1 15 rfl) rfl⟩
theorem wMv_64 : wMv (kw_V adE adK adV zr b L0 xs lo) kt_M64 := ⟨by decide +kernel, lw_sl16 (List.mem_of_getElem? (i := 0) rfl), lw_g (lw_at lw_m11 67 rfl) rfl, lw_g (lw_at lw_m1 15 rfl) rfl⟩
theorem wMv_65 : wMv (kw_V adE adK adV zr b L0 xs lo) kt_M65 := ⟨by decide +kernel, lw_sl16 (List.mem_of_getElem? (i := 7) rfl), lw_g (lw_at lw_m11 100 rfl) rfl, lw_g (lw_at lw_m1 15 rfl) rfl⟩
theorem wMv_66 : wMv (kw_V adE adK adV zr b L0 xs lo) kt_M66 := ⟨by decide +kernel, lw_g (lw_at lw_m11 232 rfl) rfl, lw_g (lw_at lw_m11 231 rfl) rfl, lw_g (lw_at lw_m1 15 rfl) rfl⟩
theorem wMv_67 : wMv (kw_V adE adK adV zr b L0 xs lo) kt_M67 := ⟨by decide +kernel, lw_sl16 (List.mem_of_getElem? (i := 3) rfl), lw_g (lw_at lw_m11 83 rfl) rfl, lw_g (lw_at lw_m1 15 rfl) rfl⟩
theorem wMv_68 : wMv (kw_V adE adK adV zr b L0 xs lo) kt_M68 := ⟨by decide +kernel, lw_sl15 (List.mem_of_getElem? (i := 11) rfl), lw_g (lw_at lw_m11 45 rfl) rfl, lw_g (lw_at lw_m1 15 rfl) rfl⟩
theorem wMv_69 : wMv (kw_V adE adK adV zr b L0 xs lo) kt_M69 := ⟨by decide +kernel, lw_sl16 (List.mem_of_getElem? (i := 6) rfl), lw_g (lw_at lw_m11 95 rfl) rfl, lw_g (lw_at lw_m1 15 rfl) rfl⟩
theorem wMv_70 : wMv (kw_V adE adK adV zr b L0 xs lo) kt_M70 := ⟨by decide +kernel, lw_sl14 (List.mem_of_getElem? (i := 2) rfl), lw_g (lw_at lw_m10 144 rfl) rfl, lw_g (lw_at lw_m1 15 rfl) rfl⟩
theorem wMv_71 : wMv (kw_V adE adK adV zr b L0 xs lo) kt_M71 := ⟨by decide +kernel, lw_sl16 (List.mem_of_getElem? (i := 11) rfl), lw_g (lw_at lw_m11 209 rfl) rfl, lw_g (lw_at lw_m1 15 rfl) rfl⟩
theorem wMv_72 : wMv (kw_V adE adK adV zr b L0 xs lo) kt_M72 := ⟨by decide +kernel, lw_sl15 (List.mem_of_getElem? (i := 15) rfl), lw_g (lw_at lw_m11 61 rfl) rfl, lw_g (lw_at lw_m1 15 rfl) rfl⟩
theorem wMv_73 : wMv (kw_V adE adK adV zr b L0 xs lo) kt_M73 := ⟨by decide +kernel, lw_sl14 (List.mem_of_getElem? (i := 15) rfl), lw_g (lw_at lw_m10 232 rfl) rfl, lw_g (lw_at lw_m1 15 rfl) rfl⟩
theorem wMv_74 : wMv (kw_V adE adK adV zr b L0 xs lo) kt_M74 := ⟨by decide +kernel, lw_sl14 (List.mem_of_getElem? (i := 13) rfl), lw_g (lw_at lw_m10 224 rfl) rfl, lw_g (lw_at lw_m1 15 rfl) rfl⟩
theorem wMv_75 : wMv (kw_V adE adK adV zr b L0 xs lo) kt_M75 := ⟨by decide +kernel, lw_g (lw_at lw_m10 64 rfl) rfl, lw_g (lw_at lw_m10 63 rfl) rfl, lw_g (lw_at lw_m1 15 rfl) rfl⟩
theorem wMv_76 : wMv (kw_V adE adK adV zr b L0 xs lo) kt_M76 := ⟨by decide +kernel, lw_sl13 (List.mem_of_getElem? (i := 14) rfl), lw_g (lw_at lw_m10 123 rfl) rfl, lw_g (lw_at lw_m1 15 rfl) rfl⟩
theorem wMv_77 : wMv (kw_V adE adK adV zr b L0 xs lo) kt_M77 := ⟨by decide +kernel, lw_sl16 (List.mem_of_getElem? (i := 2) rfl), lw_g (lw_at lw_m11 75 rfl) rfl, lw_g (lw_at lw_m1 15 rfl) rfl⟩
theorem wMv_78 : wMv (kw_V adE adK adV zr b L0 xs lo) kt_M78 := ⟨by decide +kernel, lw_sl16 (List.mem_of_getElem? (i := 4) rfl), lw_g (lw_at lw_m11 87 rfl) rfl, lw_g (lw_at lw_m1 15 rfl) rfl⟩
theorem wMv_79 : wMv (kw_V adE adK adV zr b L0 xs lo) kt_M79 := ⟨by decide +kernel, lw_g (lw_at lw_m10 107 rfl) rfl, lw_g (lw_at lw_m10 106 rfl) rfl, lw_g (lw_at lw_m1 15 rfl) rfl⟩
theorem wMv_80 : wMv (kw_V adE adK adV zr b L0 xs lo) kt_M80 := ⟨by decide +kernel, lw_sl15 (List.mem_of_getElem? (i := 9) rfl), lw_g (lw_at lw_m11 37 rfl) rfl, lw_g (lw_at lw_m1 15 rfl) rfl⟩
theorem wMv_81 : wMv (kw_V adE adK adV zr b L0 xs lo) kt_M81 := ⟨by decide +kernel, lw_sl13 (List.mem_of_getElem? (i := 13) rfl), lw_g (lw_at lw_m10 119 rfl) rfl, lw_g (lw_at lw_m1 15 rfl) rfl⟩
theorem wMv_82 : wMv (kw_V adE adK adV zr b L0 xs lo) kt_M82 := ⟨by decide +kernel, lw_g (lw_at lw_m12 0 rfl) rfl, lw_g (lw_at lw_m11 239 rfl) rfl, lw_g (lw_at lw_m1 15 rfl) rfl⟩
theorem wMv_83 : wMv (kw_V adE adK adV zr b L0 xs lo) kt_M83 := ⟨by decide +kernel, lw_sl15 (List.mem_of_getElem? (i := 8) rfl), lw_g (lw_at lw_m11 33 rfl) rfl, lw_g (lw_at lw_m1 15 rfl) rfl⟩
theorem wMv_84 : wMv (kw_V adE adK adV zr b L0 xs lo) kt_M84 := ⟨by decide +kernel, lw_sl14 (List.mem_of_getElem? (i := 9) rfl), lw_g (lw_at lw_m10 184 rfl) rfl, lw_g (lw_at lw_m1 15 rfl) rfl⟩
theorem wMv_85 : wMv (kw_V adE adK adV zr b L0 xs lo) kt_M85 := ⟨by decide +kernel, lw_sl13 (List.mem_of_getElem? (i := 10) rfl), lw_g (lw_at lw_m10 80 rfl) rfl, lw_g (lw_at lw_m1 15 rfl) rfl⟩
theorem wMv_86 : wMv (kw_V adE adK adV zr b L0 xs lo) kt_M86 := ⟨by decide +kernel, lw_sl13 (List.mem_of_getElem? (i := 9) rfl), lw_g (lw_at lw_m10 74 rfl) rfl, lw_g (lw_at lw_m1 15 rfl) rfl⟩
theorem wMv_87 : wMv (kw_V adE adK adV zr b L0 xs lo) kt_M87 := ⟨by decide +kernel, lw_sl16 (List.mem_of_getElem? (i := 10) rfl), lw_g (lw_at lw_m11 114 rfl) rfl, lw_g (lw_at lw_m1 15 rfl) rfl⟩
theorem wMv_88 : wMv (kw_V adE adK adV zr b L0 xs lo) kt_M88 := ⟨by decide +kernel, lw_sl13 (List.mem_of_getElem? (i := 15) rfl), lw_g (lw_at lw_m10 127 rfl) rfl, lw_g (lw_at lw_m1 15 rfl) rfl⟩
theorem wMv_89 : wMv (kw_V adE adK adV zr b L0 xs lo) kt_M89 := ⟨by decide +kernel, lw_sl15 (List.mem_of_getElem? (i := 10) rfl), lw_g (lw_at lw_m11 41 rfl) rfl, lw_g (lw_at lw_m1 15 rfl) rfl⟩
theorem wMv_90 : wMv (kw_V adE adK adV zr b L0 xs lo) kt_M90 := ⟨by decide +kernel, lw_sl15 (List.mem_of_getElem? (i := 7) rfl), lw_g (lw_at lw_m11 29 rfl) rfl, lw_g (lw_at lw_m1 15 rfl) rfl⟩
theorem wMv_91 : wMv (kw_V adE adK adV zr b L0 xs lo) kt_M91 := ⟨by decide +kernel, lw_sl14 (List.mem_of_getElem? (i := 8) rfl), lw_g (lw_at lw_m10 177 rfl) rfl, lw_g (lw_at lw_m1 15 rfl) rfl⟩
theorem wMv_92 : wMv (kw_V adE adK adV zr b L0 xs lo) kt_M92 := ⟨by decide +kernel, lw_sl15 (List.mem_of_getElem? (i := 2) rfl), lw_g (lw_at lw_m11 4 rfl) rfl, lw_g (lw_at lw_m1 15 rfl) rfl⟩
theorem wMv_93 : wMv (kw_V adE adK adV zr b L0 xs lo) kt_M93 := ⟨by decide +kernel, lw_sl14 (List.mem_of_getElem? (i := 12) rfl), lw_g (lw_at lw_m10 216 rfl) rfl, lw_g (lw_at lw_m1 15 rfl) rfl⟩
theorem wMv_94 : wMv (kw_V adE adK adV zr b L0 xs lo) kt_M94 := ⟨by decide +kernel, lw_sl15 (List.mem_of_getElem? (i := 5) rfl), lw_g (lw_at lw_m11 18 rfl) rfl, lw_g (lw_at lw_m1 15 rfl) rfl⟩
theorem wMv_95 : wMv (kw_V adE adK adV zr b L0 xs lo) kt_M95 := ⟨by decide +kernel, lw_sl14 (List.mem_of_getElem? (i := 7) rfl), lw_g (lw_at lw_m10 169 rfl) rfl, lw_g (lw_at lw_m1 15 rfl) rfl⟩
theorem wMv_96 : wMv (kw_V adE adK adV zr b L0 xs lo) kt_M96 := ⟨by decide +kernel, lw_g (lw_at lw_m11 221 rfl) rfl, lw_g (lw_at lw_m11 220 rfl) rfl, lw_g (lw_at lw_m1 15 rfl) rfl⟩
theorem wMv_97 : wMv (kw_V adE adK adV zr b L0 xs lo) kt_M97 := ⟨by decide +kernel, lw_sl14 (List.mem_of_getElem? (i := 6) rfl), lw_g (lw_at lw_m10 164 rfl) rfl, lw_g (lw_at lw_m1 15 rfl) rfl⟩
theorem wMv_98 : wMv (kw_V adE adK adV zr b L0 xs lo) kt_M98 := ⟨by decide +kernel, lw_sl15 (List.mem_of_getElem? (i := 14) rfl), lw_g (lw_at lw_m11 57 rfl) rfl, lw_g (lw_at lw_m1 15 rfl) rfl⟩
theorem wMv_99 : wMv (kw_V adE adK adV zr b L0 xs lo) kt_M99 := ⟨by decide +kernel, lw_sl13 (List.mem_of_getElem? (i := 8) rfl), lw_g (lw_at lw_m10 68 rfl) rfl, lw_g (lw_at lw_m1 15 rfl) rfl⟩
theorem wMv_100 : wMv (kw_V adE adK adV zr b L0 xs lo) kt_M100 := ⟨by decide +kernel, lw_sl14 (List.mem_of_getElem? (i := 0) rfl), lw_g (lw_at lw_m10 132 rfl) rfl, lw_g (lw_at lw_m1 15 rfl) rfl⟩
theorem wMv_101 : wMv (kw_V adE adK adV zr b L0 xs lo) kt_M101 := ⟨by decide +kernel, lw_sl14 (List.mem_of_getElem? (i := 14) rfl), lw_g (lw_at lw_m10 228 rfl) rfl, lw_g (lw_at lw_m1 15 rfl) rfl⟩
theorem wMv_102 : wMv (kw_V adE adK adV zr b L0 xs lo) kt_M102 := ⟨by decide +kernel, lw_sl14 (List.mem_of_getElem? (i := 5) rfl), lw_g (lw_at lw_m10 160 rfl) rfl, lw_g (lw_at lw_m1 15 rfl) rfl⟩
theorem wMv_103 : wMv (kw_V adE adK adV zr b L0 xs lo) kt_M103 := ⟨by decide +kernel, lw_sl15 (List.mem_of_getElem? (i := 1) rfl), lw_g (lw_at lw_m11 0 rfl) rfl, lw_g (lw_at lw_m1 15 rfl) rfl⟩
theorem wMv_104 : wMv (kw_V adE adK adV zr b L0 xs lo) kt_M104 := ⟨by decide +kernel, lw_sl14 (List.mem_of_getElem? (i := 3) rfl), lw_g (lw_at lw_m10 152 rfl) rfl, lw_g (lw_at lw_m1 15 rfl) rfl⟩
theorem wMv_105 : wMv (kw_V adE adK adV zr b L0 xs lo) kt_M105 := ⟨by decide +kernel, lw_g (lw_at lw_m12 31 rfl) rfl, lw_g (lw_at lw_m12 30 rfl) rfl, lw_g (lw_at lw_m1 15 rfl) rfl⟩
theorem wMv_106 : wMv (kw_V adE adK adV zr b L0 xs lo) kt_M106 := ⟨by decide +kernel, lw_g (lw_at lw_m12 62 rfl) rfl, lw_g (lw_at lw_m12 61 rfl) rfl, lw_g (lw_at lw_m1 15 rfl) rfl⟩
theorem wMv_107 : wMv (kw_V adE adK adV zr b L0 xs lo) kt_M107 := ⟨by decide +kernel, lw_sl14 (List.mem_of_getElem? (i := 4) rfl), lw_g (lw_at lw_m10 156 rfl) rfl, lw_g (lw_at lw_m1 15 rfl) rfl⟩
theorem wMv_108 : wMv (kw_V adE adK adV zr b L0 xs lo) kt_M108 := ⟨by decide +kernel, lw_g (lw_at lw_m10 97 rfl) rfl, lw_g (lw_at lw_m10 96 rfl) rfl, lw_g (lw_at lw_m1 15 rfl) rfl⟩
theorem wMv_109 : wMv (kw_V adE adK adV zr b L0 xs lo) kt_M109 := ⟨by decide +kernel, lw_sl16 (List.mem_of_getElem? (i := 1) rfl), lw_g (lw_at lw_m11 71 rfl) rfl, lw_g (lw_at lw_m1 15 rfl) rfl⟩
theorem wMv_110 : wMv (kw_V adE adK adV zr b L0 xs lo) kt_M110 := ⟨by decide +kernel, lw_sl16 (List.mem_of_getElem? (i := 5) rfl), lw_g (lw_at lw_m11 91 rfl) rfl, lw_g (lw_at lw_m1 15 rfl) rfl⟩
theorem wMv_111 : wMv (kw_V adE adK adV zr b L0 xs lo) kt_M111 := ⟨by decide +kernel, lw_sl14 (List.mem_of_getElem? (i := 10) rfl), lw_g (lw_at lw_m10 188 rfl) rfl, lw_g (lw_at lw_m1 15 rfl) rfl⟩
theorem wMv_112 : wMv (kw_V adE adK adV zr b L0 xs lo) kt_M112 := ⟨by decide +kernel, lw_g (lw_at lw_m10 93 rfl) rfl, lw_g (lw_at lw_m10 92 rfl) rfl, lw_g (lw_at lw_m1 15 rfl) rfl⟩
theorem wMv_113 : wMv (kw_V adE adK adV zr b L0 xs lo) kt_M113 := ⟨by decide +kernel, lw_sl15 (List.mem_of_getElem? (i := 12) rfl), lw_g (lw_at lw_m11 49 rfl) rfl, lw_g (lw_at lw_m1 15 rfl) rfl⟩
theorem wMv_114 : wMv (kw_V adE adK adV zr b L0 xs lo) kt_M114 := ⟨by decide +kernel, lw_sl15 (List.mem_of_getElem? (i := 6) rfl), lw_g (lw_at lw_m11 25 rfl) rfl, lw_g (lw_at lw_m1 15 rfl) rfl⟩
theorem wMv_115 : wMv (kw_V adE adK adV zr b L0 xs lo) kt_M115 := ⟨by decide +kernel, lw_sl16 (List.mem_of_getElem? (i := 12) rfl), lw_g (lw_at lw_m12 66 rfl) rfl, lw_g (lw_at lw_m1 15 rfl) rfl⟩
theorem wMv_116 : wMv (kw_V adE adK adV zr b L0 xs lo) kt_M116 := ⟨by decide +kernel, lw_sl13 (List.mem_of_getElem? (i := 11) rfl), lw_g (lw_at lw_m10 87 rfl) rfl, lw_g (lw_at lw_m1 15 rfl) rfl⟩
theorem wMv_117 : wMv (kw_V adE adK adV zr b L0 xs lo) kt_M117 := ⟨by decide +kernel, lw_sl13 (List.mem_of_getElem? (i := 12) rfl), lw_g (lw_at lw_m10 115 rfl) rfl, lw_g (lw_at lw_m1 15 rfl) rfl⟩
theorem wMv_118 : wMv (kw_V adE adK adV zr b L0 xs lo) kt_M118 := ⟨by decide +kernel, lw_sl15 (List.mem_of_getElem? (i := 4) rfl), lw_g (lw_at lw_m11 14 rfl) rfl, lw_g (lw_at lw_m1 15 rfl) rfl⟩
theorem wMv_120 : wMv (kw_V adE adK adV zr b L0 xs lo) kt_M120 := ⟨by decide +kernel, lw_g (lw_at lw_m12 35 rfl) rfl, lw_g (lw_at lw_m12 34 rfl) rfl, lw_g (lw_at lw_m1 16 rfl) rfl⟩
theorem wMv_121 : wMv (kw_V adE adK adV zr b L0 xs lo) kt_M121 := ⟨by decide +kernel, lw_sl14 (List.mem_of_getElem? (i := 11) rfl), lw_g (lw_at lw_m10 196 rfl) rfl, lw_g (lw_at lw_m1 16 rfl) rfl⟩
theorem wMv_122 : wMv (kw_V adE adK adV zr b L0 xs lo) kt_M122 := ⟨by decide +kernel, lw_g (lw_at lw_m10 148 rfl) rfl, lw_g (lw_at lw_m10 147 rfl) rfl, lw_g (lw_at lw_m1 16 rfl) rfl⟩
theorem wMv_123 : wMv (kw_V adE adK adV zr b L0 xs lo) kt_M123 := ⟨by decide +kernel, lw_g (lw_at lw_m10 173 rfl) rfl, lw_g (lw_at lw_m10 172 rfl) rfl, lw_g (lw_at lw_m1 16 rfl) rfl⟩
theorem wMs_124 : wMs (kw_V adE adK adV zr b L0 xs lo) kt_M124 := ⟨by decide +kernel, lw_g (lw_at lw_m10 200 rfl) rfl, lw_g (lw_at lw_m1 16 rfl) rfl⟩
theorem wMv_125 : wMv (kw_V adE adK adV zr b L0 xs lo) kt_M125 := ⟨by decide +kernel, lw_g (lw_at lw_m10 192 rfl) rfl, lw_g (lw_at lw_m10 191 rfl) rfl, lw_g (lw_at lw_m1 16 rfl) rfl⟩
theorem wMv_126 : wMv (kw_V adE adK adV zr b L0 xs lo) kt_M126 := ⟨by decide +kernel, lw_g (lw_at lw_m10 220 rfl) rfl, lw_g (lw_at lw_m10 219 rfl) rfl, lw_g (lw_at lw_m1 16 rfl) rfl⟩
theorem wMv_127 : wMv (kw_V adE adK adV zr b L0 xs lo) kt_M127 := ⟨by decide +kernel, lw_g (lw_at lw_m10 111 rfl) rfl, lw_g (lw_at lw_m10 110 rfl) rfl, lw_g (lw_at lw_m1 16 rfl) rfl⟩
theorem wMv_128 : wMv (kw_V adE adK adV zr b L0 xs lo) kt_M128 := ⟨by decide +kernel, lw_g (lw_at lw_m10 212 rfl) rfl, lw_g (lw_at lw_m10 211 rfl) rfl, lw_g (lw_at lw_m1 16 rfl) rfl⟩
theorem wMv_129 : wMv (kw_V adE adK adV zr b L0 xs lo) kt_M129 := ⟨by decide +kernel, lw_g (lw_at lw_m10 140 rfl) rfl, lw_g (lw_at lw_m10 139 rfl) rfl, lw_g (lw_at lw_m1 16 rfl) rfl⟩
theorem wMv_131 : wMv (kw_V adE adK adV zr b L0 xs lo) kt_M131 := ⟨by decide +kernel, lw_sl6 (List.mem_of_getElem? (i := 3) rfl), lw_g (lw_at lw_m7 157 rfl) rfl, lw_g (lw_at lw_m1 10 rfl) rfl⟩
theorem wMv_132 : wMv (kw_V adE adK adV zr b L0 xs lo) kt_M132 := ⟨by decide +kernel, lw_sl5 (List.mem_of_getElem? (i := 7) rfl), lw_g (lw_at lw_m7 86 rfl) rfl, lw_g (lw_at lw_m1 10 rfl) rfl⟩
theorem wMv_133 : wMv (kw_V adE adK adV zr b L0 xs lo) kt_M133 := ⟨by decide +kernel, lw_sl6 (List.mem_of_getElem? (i := 12) rfl), lw_g (lw_at lw_m7 197 rfl) rfl, lw_g (lw_at lw_m1 10 rfl) rfl⟩
theorem wMv_134 : wMv (kw_V adE adK adV zr b L0 xs lo) kt_M134 := ⟨by decide +kernel, lw_sl6 (List.mem_of_getElem? (i := 8) rfl), lw_g (lw_at lw_m7 180 rfl) rfl, lw_g (lw_at lw_m1 10 rfl) rfl⟩
theorem wMv_135 : wMv (kw_V adE adK adV zr b L0 xs lo) kt_M135 := ⟨by decide +kernel, lw_sl6 (List.mem_of_getElem? (i := 11) rfl), lw_g (lw_at lw_m7 192 rfl) rfl, lw_g (lw_at lw_m1 10 rfl) rfl⟩
theorem wMv_136 : wMv (kw_V adE adK adV zr b L0 xs lo) kt_M136 := ⟨by decide +kernel, lw_sl5 (List.mem_of_getElem? (i := 6) rfl), lw_g (lw_at lw_m7 79 rfl) rfl, lw_g (lw_at lw_m1 10 rfl) rfl⟩
theorem wMv_137 : wMv (kw_V adE adK adV zr b L0 xs lo) kt_M137 := ⟨by decide +kernel, lw_sl5 (List.mem_of_getElem? (i := 4) rfl), lw_g (lw_at lw_m6 139 rfl) rfl, lw_g (lw_at lw_m1 10 rfl) rfl⟩
theorem wMv_138 : wMv (kw_V adE adK adV zr b L0 xs lo) kt_M138 := ⟨by decide +kernel, lw_sl5 (List.mem_of_getElem? (i := 15) rfl), lw_g (lw_at lw_m7 134 rfl) rfl, lw_g (lw_at lw_m1 10 rfl) rfl⟩
theorem wMv_139 : wMv (kw_V adE adK adV zr b L0 xs lo) kt_M139 := ⟨by decide +kernel, lw_sl6 (List.mem_of_getElem? (i := 4) rfl), lw_g (lw_at lw_m7 161 rfl) rfl, lw_g (lw_at lw_m1 10 rfl) rfl⟩
theorem wMv_140 : wMv (kw_V adE adK adV zr b L0 xs lo) kt_M140 := ⟨by decide +kernel, lw_sl5 (List.mem_of_getElem? (i := 8) rfl), lw_g (lw_at lw_m7 94 rfl) rfl, lw_g (lw_at lw_m1 10 rfl) rfl⟩
theorem wMv_141 : wMv (kw_V adE adK adV zr b L0 xs lo) kt_M141 := ⟨by decide +kernel, lw_sl5 (List.mem_of_getElem? (i := 9) rfl), lw_g (lw_at lw_m7 98 rfl) rfl, lw_g (lw_at lw_m1 10 rfl) rfl⟩
theorem wMv_142 : wMv (kw_V adE adK adV zr b L0 xs lo) kt_M142 := ⟨by decide +kernel, lw_sl5 (List.mem_of_getElem? (i := 10) rfl), lw_g (lw_at lw_m7 102 rfl) rfl, lw_g (lw_at lw_m1 10 rfl) rfl⟩
theorem wMv_143 : wMv (kw_V adE adK adV zr b L0 xs lo) kt_M143 := ⟨by decide +kernel, lw_sl5 (List.mem_of_getElem? (i := 12) rfl), lw_g (lw_at lw_m7 116 rfl) rfl, lw_g (lw_at lw_m1 10 rfl) rfl⟩
theorem wMv_144 : wMv (kw_V adE adK adV zr b L0 xs lo) kt_M144 := ⟨by decide +kernel, lw_sl6 (List.mem_of_getElem? (i := 5) rfl), lw_g (lw_at lw_m7 167 rfl) rfl, lw_g (lw_at lw_m1 10 rfl) rfl⟩
theorem wMv_145 : wMv (kw_V adE adK adV zr b L0 xs lo) kt_M145 := ⟨by decide +kernel, lw_sl5 (List.mem_of_getElem? (i := 14) rfl), lw_g (lw_at lw_m7 124 rfl) rfl, lw_g (lw_at lw_m1 10 rfl) rfl⟩
theorem wMv_146 : wMv (kw_V adE adK adV zr b L0 xs lo) kt_M146 := ⟨by decide +kernel, lw_g (lw_at lw_m6 133 rfl) rfl, lw_g (lw_at lw_m6 132 rfl) rfl, lw_g (lw_at lw_m1 10 rfl) rfl⟩
theorem wMv_147 : wMv (kw_V adE adK adV zr b L0 xs lo) kt_M147 := ⟨by decide +kernel, lw_sl6 (List.mem_of_getElem? (i := 7) rfl), lw_g (lw_at lw_m7 175 rfl) rfl, lw_g (lw_at lw_m1 10 rfl) rfl⟩
theorem wMv_148 : wMv (kw_V adE adK adV zr b L0 xs lo) kt_M148 := ⟨by decide +kernel, lw_sl6 (List.mem_of_getElem? (i := 1) rfl), lw_g (lw_at lw_m7 143 rfl) rfl, lw_g (lw_at lw_m1 10 rfl) rfl⟩
theorem wMv_149 : wMv (kw_V adE adK adV zr b L0 xs lo) kt_M149 := ⟨by decide +kernel, lw_sl5 (List.mem_of_getElem? (i := 5) rfl), lw_g (lw_at lw_m7 75 rfl) rfl, lw_g (lw_at lw_m1 10 rfl) rfl⟩
theorem wMv_150 : wMv (kw_V adE adK adV zr b L0 xs lo) kt_M150 := ⟨by decide +kernel, lw_sl6 (List.mem_of_getElem? (i := 0) rfl), lw_g (lw_at lw_m7 138 rfl) rfl, lw_g (lw_at lw_m1 10 rfl) rfl⟩
theorem wMv_151 : wMv (kw_V adE adK adV zr b L0 xs lo) kt_M151 := ⟨by decide +kernel, lw_sl6 (List.mem_of_getElem? (i := 9) rfl), lw_g (lw_at lw_m7 184 rfl) rfl, lw_g (lw_at lw_m1 10 rfl) rfl⟩
theorem wMv_152 : wMv (kw_V adE adK adV zr b L0 xs lo) kt_M152 := ⟨by decide +kernel, lw_sl6 (List.mem_of_getElem? (i := 10) rfl), lw_g (lw_at lw_m7 188 rfl) rfl, lw_g (lw_at lw_m1 10 rfl) rfl⟩
theorem wMv_153 : wMv (kw_V adE adK adV zr b L0 xs lo) kt_M153 := ⟨by decide +kernel, lw_sl6 (List.mem_of_getElem? (i := 2) rfl), lw_g (lw_at lw_m7 149 rfl) rfl, lw_g (lw_at lw_m1 10 rfl) rfl⟩
theorem wMv_154 : wMv (kw_V adE adK adV zr b L0 xs lo) kt_M154 := ⟨by decide +kernel, lw_sl5 (List.mem_of_getElem? (i := 13) rfl), lw_g (lw_at lw_m7 120 rfl) rfl, lw_g (lw_at lw_m1 10 rfl) rfl⟩
theorem wMv_155 : wMv (kw_V adE adK adV zr b L0 xs lo) kt_M155 := ⟨by decide +kernel, lw_sl5 (List.mem_of_getElem? (i := 11) rfl), lw_g (lw_at lw_m7 106 rfl) rfl, lw_g (lw_at lw_m1 10 rfl) rfl⟩
theorem wMv_156 : wMv (kw_V adE adK adV zr b L0 xs lo) kt_M156 := ⟨by decide +kernel, lw_sl6 (List.mem_of_getElem? (i := 6) rfl), lw_g (lw_at lw_m7 171 rfl) rfl, lw_g (lw_at lw_m1 10 rfl) rfl⟩
theorem wMv_158 : wMv (kw_V adE adK adV zr b L0 xs lo) kt_M158 := ⟨by decide +kernel, lw_g (lw_at lw_m5 104 rfl) rfl, lw_g (lw_at lw_m5 103 rfl) rfl, lw_g (lw_at lw_m1 28 rfl) rfl⟩
theorem wMv_160 : wMv (kw_V adE adK adV zr b L0 xs lo) kt_M160 := ⟨by decide +kernel, lw_sl4 (List.mem_of_getElem? (i := 9) rfl), lw_g (lw_at lw_m6 50 rfl) rfl, lw_g (lw_at lw_m1 9 rfl) rfl⟩
theorem wMv_161 : wMv (kw_V adE adK adV zr b L0 xs lo) kt_M161 := ⟨by decide +kernel, lw_sl5 (List.mem_of_getElem? (i := 2) rfl), lw_g (lw_at lw_m6 121 rfl) rfl, lw_g (lw_at lw_m1 9 rfl) rfl⟩
theorem wMv_162 : wMv (kw_V adE adK adV zr b L0 xs lo) kt_M162 := ⟨by decide +kernel, lw_sl3 (List.mem_of_getElem? (i := 9) rfl), lw_g (lw_at lw_m5 195 rfl) rfl, lw_g (lw_at lw_m1 9 rfl) rfl⟩
theorem wMv_163 : wMv (kw_V adE adK adV zr b L0 xs lo) kt_M163 := ⟨by decide +kernel, lw_sl2 (List.mem_of_getElem? (i := 4) rfl), lw_g (lw_at lw_m4 154 rfl) rfl, lw_g (lw_at lw_m1 9 rfl) rfl⟩
theorem wMv_164 : wMv (kw_V adE adK adV zr b L0 xs lo) kt_M164 := ⟨by decide +kernel, lw_sl2 (List.mem_of_getElem? (i := 1) rfl), lw_g (lw_at lw_m4 137 rfl) rfl, lw_g (lw_at lw_m1 9 rfl) rfl⟩
theorem wMv_165 : wMv (kw_V adE adK adV zr b L0 xs lo) kt_M165 := ⟨by decide +kernel, lw_sl5 (List.mem_of_getElem? (i := 0) rfl), lw_g (lw_at lw_m6 104 rfl) rfl, lw_g (lw_at lw_m1 9 rfl) rfl⟩
theorem wMs_166 : wMs (kw_V adE adK adV zr b L0 xs lo) kt_M166 := ⟨by decide +kernel, lw_g (lw_at lw_m5 159 rfl) rfl, lw_g (lw_at lw_m1 9 rfl) rfl⟩
theorem wMv_167 : wMv (kw_V adE adK adV zr b L0 xs lo) kt_M167 := ⟨by decide +kernel, lw_sl4 (List.mem_of_getElem? (i := 10) rfl), lw_g (lw_at lw_m6 56 rfl) rfl, lw_g (lw_at lw_m1 9 rfl) rfl⟩
theorem wMv_168 : wMv (kw_V adE adK adV zr b L0 xs lo) kt_M168 := ⟨by decide +kernel, lw_sl3 (List.mem_of_getElem? (i := 13) rfl), lw_g (lw_at lw_m5 219 rfl) rfl, lw_g (lw_at lw_m1 9 rfl) rfl⟩
theorem wMv_169 : wMv (kw_V adE adK adV zr b L0 xs lo) kt_M169 := ⟨by decide +kernel, lw_sl4 (List.mem_of_getElem? (i := 15) rfl), lw_g (lw_at lw_m6 100 rfl) rfl, lw_g (lw_at lw_m1 9 rfl) rfl⟩
theorem wMv_170 : wMv (kw_V adE adK adV zr b L0 xs lo) kt_M170 := ⟨by decide +kernel, lw_sl4 (List.mem_of_getElem? (i := 0) rfl), lw_g (lw_at lw_m5 236 rfl) rfl, lw_g (lw_at lw_m1 9 rfl) rfl⟩
theorem wMv_171 : wMv (kw_V adE adK adV zr b L0 xs lo) kt_M171 := ⟨by decide +kernel, lw_sl2 (List.mem_of_getElem? (i := 11) rfl), lw_g (lw_at lw_m5 108 rfl) rfl, lw_g (lw_at lw_m1 9 rfl) rfl⟩
theorem wMv_172 : wMv (kw_V adE adK adV zr b L0 xs lo) kt_M172 := ⟨by decide +kernel, lw_sl4 (List.mem_of_getElem? (i := 3) rfl), lw_g (lw_at lw_m6 10 rfl) rfl, lw_g (lw_at lw_m1 9 rfl) rfl⟩
theorem wMv_173 : wMv (kw_V adE adK adV zr b L0 xs lo) kt_M173 := ⟨by decide +kernel, lw_sl4 (List.mem_of_getElem? (i := 11) rfl), lw_g (lw_at lw_m6 72 rfl) rfl, lw_g (lw_at lw_m1 9 rfl) rfl⟩
theorem wMv_174 : wMv (kw_V adE adK adV zr b L0 xs lo) kt_M174 := ⟨by decide +kernel, lw_sl3 (List.mem_of_getElem? (i := 15) rfl), lw_g (lw_at lw_m5 231 rfl) rfl, lw_g (lw_at lw_m1 9 rfl) rfl⟩
theorem wMv_175 : wMv (kw_V adE adK adV zr b L0 xs lo) kt_M175 := ⟨by decide +kernel, lw_sl3 (List.mem_of_getElem? (i := 1) rfl), lw_g (lw_at lw_m5 136 rfl) rfl, lw_g (lw_at lw_m1 9 rfl) rfl⟩
theorem wMv_176 : wMv (kw_V adE adK adV zr b L0 xs lo) kt_M176 := ⟨by decide +kernel, lw_sl3 (List.mem_of_getElem? (i := 4) rfl), lw_g (lw_at lw_m5 150 rfl) rfl, lw_g (lw_at lw_m1 9 rfl) rfl⟩
theorem wMv_177 : wMv (kw_V adE adK adV zr b L0 xs lo) kt_M177 := ⟨by decide +kernel, lw_sl3 (List.mem_of_getElem? (i := 6) rfl), lw_g (lw_at lw_m5 163 rfl) rfl, lw_g (lw_at lw_m1 9 rfl) rfl⟩
theorem wMv_178 : wMv (kw_V adE adK adV zr b L0 xs lo) kt_M178 := ⟨by decide +kernel, lw_sl3 (List.mem_of_getElem? (i := 10) rfl), lw_g (lw_at lw_m5 199 rfl) rfl, lw_g (lw_at lw_m1 9 rfl) rfl⟩
theorem wMv_179 : wMv (kw_V adE adK adV zr b L0 xs lo) kt_M179 := ⟨by decide +kernel, lw_sl3 (List.mem_of_getElem? (i := 0) rfl), lw_g (lw_at lw_m5 132 rfl) rfl, lw_g (lw_at lw_m1 9 rfl) rfl⟩
theorem wMv_180 : wMv (kw_V adE adK adV zr b L0 xs lo) kt_M180 := ⟨by decide +kernel, lw_sl2 (List.mem_of_getElem? (i := 14) rfl), lw_g (lw_at lw_m5 122 rfl) rfl, lw_g (lw_at lw_m1 9 rfl) rfl⟩
theorem wMv_181 : wMv (kw_V adE adK adV zr b L0 xs lo) kt_M181 := ⟨by decide +kernel, lw_sl5 (List.mem_of_getElem? (i := 3) rfl), lw_g (lw_at lw_m6 127 rfl) rfl, lw_g (lw_at lw_m1 9 rfl) rfl⟩
theorem wMv_182 : wMv (kw_V adE adK adV zr b L0 xs lo) kt_M182 := ⟨by decide +kernel, lw_sl3 (List.mem_of_getElem? (i := 8) rfl), lw_g (lw_at lw_m5 189 rfl) rfl, lw_g (lw_at lw_m1 9 rfl) rfl⟩
theorem wMv_183 : wMv (kw_V adE adK adV zr b L0 xs lo) kt_M183 := ⟨by decide +kernel, lw_sl2 (List.mem_of_getElem? (i := 3) rfl), lw_g (lw_at lw_m4 149 rfl) rfl, lw_g (lw_at lw_m1 9 rfl) rfl⟩
theorem wMv_184 : wMv (kw_V adE adK adV zr b L0 xs lo) kt_M184 := ⟨by decide +kernel, lw_sl2 (List.mem_of_getElem? (i := 5) rfl), lw_g (lw_at lw_m4 158 rfl) rfl, lw_g (lw_at lw_m1 9 rfl) rfl⟩
theorem wMv_185 : wMv (kw_V adE adK adV zr b L0 xs lo) kt_M185 := ⟨by decide +kernel, lw_sl3 (List.mem_of_getElem? (i := 14) rfl), lw_g (lw_at lw_m5 225 rfl) rfl, lw_g (lw_at lw_m1 9 rfl) rfl⟩
theorem wMv_186 : wMv (kw_V adE adK adV zr b L0 xs lo) kt_M186 := ⟨by decide +kernel, lw_sl2 (List.mem_of_getElem? (i := 2) rfl), lw_g (lw_at lw_m4 141 rfl) rfl, lw_g (lw_at lw_m1 9 rfl) rfl⟩
theorem wMv_187 : wMv (kw_V adE adK adV zr b L0 xs lo) kt_M187 := ⟨by decide +kernel, lw_sl3 (List.mem_of_getElem? (i := 5) rfl), lw_g (lw_at lw_m5 154 rfl) rfl, lw_g (lw_at lw_m1 9 rfl) rfl⟩
theorem wMv_188 : wMv (kw_V adE adK adV zr b L0 xs lo) kt_M188 := ⟨by decide +kernel, lw_sl3 (List.mem_of_getElem? (i := 3) rfl), lw_g (lw_at lw_m5 146 rfl) rfl, lw_g (lw_at lw_m1 9 rfl) rfl⟩
theorem wMv_189 : wMv (kw_V adE adK adV zr b L0 xs lo) kt_M189 := ⟨by decide +kernel, lw_sl1 (List.mem_of_getElem? (i := 15) rfl), lw_g (lw_at lw_m4 125 rfl) rfl, lw_g (lw_at lw_m1 9 rfl) rfl⟩
theorem wMv_190 : wMv (kw_V adE adK adV zr b L0 xs lo) kt_M190 := ⟨by decide +kernel, lw_sl4 (List.mem_of_getElem? (i := 4) rfl), lw_g (lw_at lw_m6 18 rfl) rfl, lw_g (lw_at lw_m1 9 rfl) rfl⟩
theorem wMv_191 : wMv (kw_V adE adK adV zr b L0 xs lo) kt_M191 := ⟨by decide +kernel, lw_sl1 (List.mem_of_getElem? (i := 14) rfl), lw_g (lw_at lw_m4 120 rfl) rfl, lw_g (lw_at lw_m1 9 rfl) rfl⟩
theorem wMv_192 : wMv (kw_V adE adK adV zr b L0 xs lo) kt_M192 := ⟨by decide +kernel, lw_sl2 (List.mem_of_getElem? (i := 8) rfl), lw_g (lw_at lw_m4 171 rfl) rfl, lw_g (lw_at lw_m1 9 rfl) rfl⟩
theorem wMv_193 : wMv (kw_V adE adK adV zr b L0 xs lo) kt_M193 := ⟨by decide +kernel, lw_sl2 (List.mem_of_getElem? (i := 15) rfl), lw_g (lw_at lw_m5 128 rfl) rfl, lw_g (lw_at lw_m1 9 rfl) rfl⟩
theorem wMv_194 : wMv (kw_V adE adK adV zr b L0 xs lo) kt_M194 := ⟨by decide +kernel, lw_sl4 (List.mem_of_getElem? (i := 1) rfl), lw_g (lw_at lw_m6 0 rfl) rfl, lw_g (lw_at lw_m1 9 rfl) rfl⟩
theorem wMv_195 : wMv (kw_V adE adK adV zr b L0 xs lo) kt_M195 := ⟨by decide +kernel, lw_sl2 (List.mem_of_getElem? (i := 13) rfl), lw_g (lw_at lw_m5 118 rfl) rfl, lw_g (lw_at lw_m1 9 rfl) rfl⟩
theorem wMv_196 : wMv (kw_V adE adK adV zr b L0 xs lo) kt_M196 := ⟨by decide +kernel, lw_sl2 (List.mem_of_getElem? (i := 10) rfl), lw_g (lw_at lw_m4 182 rfl) rfl, lw_g (lw_at lw_m1 9 rfl) rfl⟩
theorem wMv_197 : wMv (kw_V adE adK adV zr b L0 xs lo) kt_M197 := ⟨by decide +kernel, lw_sl3 (List.mem_of_getElem? (i := 2) rfl), lw_g (lw_at lw_m5 142 rfl) rfl, lw_g (lw_at lw_m1 9 rfl) rfl⟩
theorem wMv_198 : wMv (kw_V adE adK adV zr b L0 xs lo) kt_M198 := ⟨by decide +kernel, lw_sl3 (List.mem_of_getElem? (i := 7) rfl), lw_g (lw_at lw_m5 169 rfl) rfl, lw_g (lw_at lw_m1 9 rfl) rfl⟩
theorem wMv_199 : wMv (kw_V adE adK adV zr b L0 xs lo) kt_M199 := ⟨by decide +kernel, lw_sl5 (List.mem_of_getElem? (i := 1) rfl), lw_g (lw_at lw_m6 113 rfl) rfl, lw_g (lw_at lw_m1 9 rfl) rfl⟩
theorem wMv_200 : wMv (kw_V adE adK adV zr b L0 xs lo) kt_M200 := ⟨by decide +kernel, lw_sl4 (List.mem_of_getElem? (i := 7) rfl), lw_g (lw_at lw_m6 34 rfl) rfl, lw_g (lw_at lw_m1 9 rfl) rfl⟩
theorem wMv_201 : wMv (kw_V adE adK adV zr b L0 xs lo) kt_M201 := ⟨by decide +kernel, lw_sl4 (List.mem_of_getElem? (i := 8) rfl), lw_g (lw_at lw_m6 44 rfl) rfl, lw_g (lw_at lw_m1 9 rfl) rfl⟩
theorem wMv_202 : wMv (kw_V adE adK adV zr b L0 xs lo) kt_M202 := ⟨by decide +kernel, lw_sl2 (List.mem_of_getElem? (i := 0) rfl), lw_g (lw_at lw_m4 133 rfl) rfl, lw_g (lw_at lw_m1 9 rfl) rfl⟩
theorem wMv_203 : wMv (kw_V adE adK adV zr b L0 xs lo) kt_M203 := ⟨by decide +kernel, lw_sl4 (List.mem_of_getElem? (i := 14) rfl), lw_g (lw_at lw_m6 94 rfl) rfl, lw_g (lw_at lw_m1 9 rfl) rfl⟩
theorem wMv_204 : wMv (kw_V adE adK adV zr b L0 xs lo) kt_M204 := ⟨by decide +kernel, lw_g (lw_at lw_m4 116 rfl) rfl, lw_g (lw_at lw_m4 115 rfl) rfl, lw_g (lw_at lw_m1 9 rfl) rfl⟩
theorem wMv_205 : wMv (kw_V adE adK adV zr b L0 xs lo) kt_M205 := ⟨by decide +kernel, lw_sl4 (List.mem_of_getElem? (i := 6) rfl), lw_g (lw_at lw_m6 28 rfl) rfl, lw_g (lw_at lw_m1 9 rfl) rfl⟩
theorem wMv_206 : wMv (kw_V adE adK adV zr b L0 xs lo) kt_M206 := ⟨by decide +kernel, lw_sl4 (List.mem_of_getElem? (i := 13) rfl), lw_g (lw_at lw_m6 88 rfl) rfl, lw_g (lw_at lw_m1 9 rfl) rfl⟩
theorem wMv_207 : wMv (kw_V adE adK adV zr b L0 xs lo) kt_M207 := ⟨by decide +kernel, lw_sl4 (List.mem_of_getElem? (i := 2) rfl), lw_g (lw_at lw_m6 4 rfl) rfl, lw_g (lw_at lw_m1 9 rfl) rfl⟩
theorem wMv_208 : wMv (kw_V adE adK adV zr b L0 xs lo) kt_M208 := ⟨by decide +kernel, lw_sl3 (List.mem_of_getElem? (i := 11) rfl), lw_g (lw_at lw_m5 203 rfl) rfl, lw_g (lw_at lw_m1 9 rfl) rfl⟩
theorem wMv_209 : wMv (kw_V adE adK adV zr b L0 xs lo) kt_M209 := ⟨by decide +kernel, lw_sl3 (List.mem_of_getElem? (i := 12) rfl), lw_g (lw_at lw_m5 207 rfl) rfl, lw_g (lw_at lw_m1 9 rfl) rfl⟩
theorem wMv_210 : wMv (kw_V adE adK adV zr b L0 xs lo) kt_M210 := ⟨by decide +kernel, lw_sl2 (List.mem_of_getElem? (i := 7) rfl), lw_g (lw_at lw_m4 167 rfl) rfl, lw_g (lw_at lw_m1 9 rfl) rfl⟩
theorem wMv_211 : wMv (kw_V adE adK adV zr b L0 xs lo) kt_M211 := ⟨by decide +kernel, lw_sl2 (List.mem_of_getElem? (i := 6) rfl), lw_g (lw_at lw_m4 163 rfl) rfl, lw_g (lw_at lw_m1 9 rfl) rfl⟩
theorem wMv_212 : wMv (kw_V adE adK adV zr b L0 xs lo) kt_M212 := ⟨by decide +kernel, lw_sl2 (List.mem_of_getElem? (i := 12) rfl), lw_g (lw_at lw_m5 114 rfl) rfl, lw_g (lw_at lw_m1 9 rfl) rfl⟩
theorem wMv_213 : wMv (kw_V adE adK adV zr b L0 xs lo) kt_M213 := ⟨by decide +kernel, lw_sl2 (List.mem_of_getElem? (i := 9) rfl), lw_g (lw_at lw_m4 176 rfl) rfl, lw_g (lw_at lw_m1 9 rfl) rfl⟩
theorem wMv_214 : wMv (kw_V adE adK adV zr b L0 xs lo) kt_M214 := ⟨by decide +kernel, lw_sl4 (List.mem_of_getElem? (i := 5) rfl), lw_g (lw_at lw_m6 22 rfl) rfl, lw_g (lw_at lw_m1 9 rfl) rfl⟩
theorem wMv_215 : wMv (kw_V adE adK adV zr b L0 xs lo) kt_M215 := ⟨by decide +kernel, lw_sl4 (List.mem_of_getElem? (i := 12) rfl), lw_g (lw_at lw_m6 76 rfl) rfl, lw_g (lw_at lw_m1 9 rfl) rfl⟩
theorem wMs_216 : wMs (kw_V adE adK adV zr b L0 xs lo) kt_M216 := ⟨by decide +kernel, lw_g (lw_at lw_m8 44 rfl) rfl, lw_g (lw_at lw_m1 31 rfl) rfl⟩
theorem wMs_217 : wMs (kw_V adE adK adV zr b L0 xs lo) kt_M217 := ⟨by decide +kernel, lw_g (lw_at lw_m8 47 rfl) rfl, lw_g (lw_at lw_m1 31 rfl) rfl⟩
theorem wMv_219 : wMv (kw_V adE adK adV zr b L0 xs lo) kt_M219 := ⟨by decide +kernel, lw_g (lw_at lw_m9 150 rfl) rfl, lw_g (lw_at lw_m9 149 rfl) rfl, lw_g (lw_at lw_m1 14 rfl) rfl⟩
theorem wMv_220 : wMv (kw_V adE adK adV zr b L0 xs lo) kt_M220 := ⟨by decide +kernel, lw_g (lw_at lw_m9 78 rfl) rfl, lw_g (lw_at lw_m9 77 rfl) rfl, lw_g (lw_at lw_m1 14 rfl) rfl⟩
theorem wMv_221 : wMv (kw_V adE adK adV zr b L0 xs lo) kt_M221 := ⟨by decide +kernel, lw_g (lw_at lw_m10 13 rfl) rfl, lw_g (lw_at lw_m10 12 rfl) rfl, lw_g (lw_at lw_m1 14 rfl) rfl⟩
theorem wMv_222 : wMv (kw_V adE adK adV zr b L0 xs lo) kt_M222 := ⟨by decide +kernel, lw_g (lw_at lw_m10 5 rfl) rfl, lw_g (lw_at lw_m10 4 rfl) rfl, lw_g (lw_at lw_m1 14 rfl) rfl⟩
theorem wMv_224 : wMv (kw_V adE adK adV zr b L0 xs lo) kt_M224 := ⟨by decide +kernel, lw_g (lw_at lw_m3 209 rfl) rfl, lw_g (lw_at lw_m3 208 rfl) rfl, lw_g (lw_at lw_m1 8 rfl) rfl⟩
theorem wMv_225 : wMv (kw_V adE adK adV zr b L0 xs lo) kt_M225 := ⟨by decide +kernel, lw_g (lw_at lw_m4 186 rfl) rfl, lw_g (lw_at lw_m4 185 rfl) rfl, lw_g (lw_at lw_m1 8 rfl) rfl⟩
theorem wMv_226 : wMv (kw_V adE adK adV zr b L0 xs lo) kt_M226 := ⟨by decide +kernel, lw_g (lw_at lw_m6 143 rfl) rfl, lw_g (lw_at lw_m6 142 rfl) rfl, lw_g (lw_at lw_m1 8 rfl) rfl⟩
theorem wMv_227 : wMv (kw_V adE adK adV zr b L0 xs lo) kt_M227 := ⟨by decide +kernel, lw_g (lw_at lw_m9 87 rfl) rfl, lw_g (lw_at lw_m9 86 rfl) rfl, lw_g (lw_at lw_m1 8 rfl) rfl⟩
theorem wMv_229 : wMv (kw_V adE adK adV zr b L0 xs lo) kt_M229 := ⟨by decide +kernel, lw_g (lw_at lw_m7 71 rfl) rfl, lw_g (lw_at lw_m7 70 rfl) rfl, lw_g (lw_at lw_m1 30 rfl) rfl⟩
theorem wMv_231 : wMv (kw_V adE adK adV zr b L0 xs lo) kt_M231 := ⟨by decide +kernel, lw_g (lw_at lw_m11 204 rfl) rfl, lw_g (lw_at lw_m11 203 rfl) rfl, lw_g (lw_at lw_m1 36 rfl) rfl⟩
theorem wMs_232 : wMs (kw_V adE adK adV zr b L0 xs lo) kt_M232 := ⟨by decide +kernel, lw_g (lw_at lw_m10 207 rfl) rfl, lw_g (lw_at lw_m1 36 rfl) rfl⟩
theorem wMv_233 : wMv (kw_V adE adK adV zr b L0 xs lo) kt_M233 := ⟨by decide +kernel, lw_g (lw_at lw_m11 79 rfl) rfl, lw_g (lw_at lw_m11 78 rfl) rfl, lw_g (lw_at lw_m1 36 rfl) rfl⟩
theorem wMv_234 : wMv (kw_V adE adK adV zr b L0 xs lo) kt_M234 := ⟨by decide +kernel, lw_g (lw_at lw_m10 204 rfl) rfl, lw_g (lw_at lw_m10 203 rfl) rfl, lw_g (lw_at lw_m1 36 rfl) rfl⟩
theorem wMv_236 : wMv (kw_V adE adK adV zr b L0 xs lo) kt_M236 := ⟨by decide +kernel, lw_sl1 (List.mem_of_getElem? (i := 7) rfl), lw_g (lw_at lw_m4 62 rfl) rfl, lw_g (lw_at lw_m1 2 rfl) rfl⟩
theorem wMv_237 : wMv (kw_V adE adK adV zr b L0 xs lo) kt_M237 := ⟨by decide +kernel, lw_sl1 (List.mem_of_getElem? (i := 12) rfl), lw_g (lw_at lw_m4 92 rfl) rfl, lw_g (lw_at lw_m1 2 rfl) rfl⟩
theorem wMv_238 : wMv (kw_V adE adK adV zr b L0 xs lo) kt_M238 := ⟨by decide +kernel, lw_g (lw_at lw_m3 213 rfl) rfl, lw_g (lw_at lw_m3 212 rfl) rfl, lw_g (lw_at lw_m1 2 rfl) rfl⟩
theorem wMv_239 : wMv (kw_V adE adK adV zr b L0 xs lo) kt_M239 := ⟨by decide +kernel, lw_sl1 (List.mem_of_getElem? (i := 4) rfl), lw_g (lw_at lw_m4 37 rfl) rfl, lw_g (lw_at lw_m1 2 rfl) rfl⟩
theorem wMs_240 : wMs (kw_V adE adK adV zr b L0 xs lo) kt_M240 := ⟨by decide +kernel, lw_g (lw_at lw_m4 54 rfl) rfl, lw_g (lw_at lw_m1 2 rfl) rfl⟩
theorem wMs_241 : wMs (kw_V adE adK adV zr b L0 xs lo) kt_M241 := ⟨by decide +kernel, lw_g (lw_at lw_m4 44 rfl) rfl, lw_g (lw_at lw_m1 2 rfl) rfl⟩
theorem wMs_242 : wMs (kw_V adE adK adV zr b L0 xs lo) kt_M242 := ⟨by decide +kernel, lw_g (lw_at lw_m4 51 rfl) rfl, lw_g (lw_at lw_m1 2 rfl) rfl⟩
theorem wMv_243 : wMv (kw_V adE adK adV zr b L0 xs lo) kt_M243 := ⟨by decide +kernel, lw_sl1 (List.mem_of_getElem? (i := 2) rfl), lw_g (lw_at lw_m3 220 rfl) rfl, lw_g (lw_at lw_m1 2 rfl) rfl⟩
theorem wMv_244 : wMv (kw_V adE adK adV zr b L0 xs lo) kt_M244 := ⟨by decide +kernel, lw_sl1 (List.mem_of_getElem? (i := 3) rfl), lw_g (lw_at lw_m4 33 rfl) rfl, lw_g (lw_at lw_m1 2 rfl) rfl⟩
theorem wMv_245 : wMv (kw_V adE adK adV zr b L0 xs lo) kt_M245 := ⟨by decide +kernel, lw_sl1 (List.mem_of_getElem? (i := 8) rfl), lw_g (lw_at lw_m4 66 rfl) rfl, lw_g (lw_at lw_m1 2 rfl) rfl⟩
theorem wMv_246 : wMv (kw_V adE adK adV zr b L0 xs lo) kt_M246 := ⟨by decide +kernel, lw_sl1 (List.mem_of_getElem? (i := 11) rfl), lw_g (lw_at lw_m4 86 rfl) rfl, lw_g (lw_at lw_m1 2 rfl) rfl⟩
theorem wMv_247 : wMv (kw_V adE adK adV zr b L0 xs lo) kt_M247 := ⟨by decide +kernel, lw_sl1 (List.mem_of_getElem? (i := 13) rfl), lw_g (lw_at lw_m4 98 rfl) rfl, lw_g (lw_at lw_m1 2 rfl) rfl⟩
theorem wMs_248 : wMs (kw_V adE adK adV zr b L0 xs lo) kt_M248 := ⟨by decide +kernel, lw_g (lw_at lw_m4 78 rfl) rfl, lw_g (lw_at lw_m1 2 rfl) rfl⟩
theorem wMv_249 : wMv (kw_V adE adK adV zr b L0 xs lo) kt_M249 := ⟨by decide +kernel, lw_sl1 (List.mem_of_getElem? (i := 9) rfl), lw_g (lw_at lw_m4 75 rfl) rfl, lw_g (lw_at lw_m1 2 rfl) rfl⟩
theorem wMv_250 : wMv (kw_V adE adK adV zr b L0 xs lo) kt_M250 := ⟨by decide +kernel, lw_sl1 (List.mem_of_getElem? (i := 10) rfl), lw_g (lw_at lw_m4 82 rfl) rfl, lw_g (lw_at lw_m1 2 rfl) rfl⟩
theorem wMv_251 : wMv (kw_V adE adK adV zr b L0 xs lo) kt_M251 := ⟨by decide +kernel, lw_sl1 (List.mem_of_getElem? (i := 5) rfl), lw_g (lw_at lw_m4 41 rfl) rfl, lw_g (lw_at lw_m1 2 rfl) rfl⟩
theorem wMv_252 : wMv (kw_V adE adK adV zr b L0 xs lo) kt_M252 := ⟨by decide +kernel, lw_sl1 (List.mem_of_getElem? (i := 6) rfl), lw_g (lw_at lw_m4 48 rfl) rfl, lw_g (lw_at lw_m1 2 rfl) rfl⟩
theorem wMv_254 : wMv (kw_V adE adK adV zr b L0 xs lo) kt_M254 := ⟨by decide +kernel, lw_sl8 (List.mem_of_getElem? (i := 0) rfl), lw_g (lw_at lw_m8 62 rfl) rfl, lw_g (lw_at lw_m1 11 rfl) rfl⟩
theorem wMv_255 : wMv (kw_V adE adK adV zr b L0 xs lo) kt_M255 := ⟨by decide +kernel, lw_sl8 (List.mem_of_getElem? (i := 5) rfl), lw_g (lw_at lw_m8 83 rfl) rfl, lw_g (lw_at lw_m1 11 rfl) rfl⟩
theorem wMs_256 : wMs (kw_V adE adK adV zr b L0 xs lo) kt_M256 := ⟨by decide +kernel, lw_g (lw_at lw_m8 31 rfl) rfl, lw_g (lw_at lw_m1 11 rfl) rfl⟩
theorem wMv_257 : wMv (kw_V adE adK adV zr b L0 xs lo) kt_M257 := ⟨by decide +kernel, lw_sl8 (List.mem_of_getElem? (i := 15) rfl), lw_g (lw_at lw_m8 132 rfl) rfl, lw_g (lw_at lw_m1 11 rfl) rfl⟩
theorem wMv_258 : wMv (kw_V adE adK adV zr b L0 xs lo) kt_M258 := ⟨by decide +kernel, lw_sl7 (List.mem_of_getElem? (i := 11) rfl), lw_g (lw_at lw_m8 28 rfl) rfl, lw_g (lw_at lw_m1 11 rfl) rfl⟩
theorem wMv_259 : wMv (kw_V adE adK adV zr b L0 xs lo) kt_M259 := ⟨by decide +kernel, lw_sl7 (List.mem_of_getElem? (i := 10) rfl), lw_g (lw_at lw_m8 22 rfl) rfl, lw_g (lw_at lw_m1 11 rfl) rfl⟩
theorem wMv_260 : wMv (kw_V adE adK adV zr b L0 xs lo) kt_M260 := ⟨by decide +kernel, lw_sl8 (List.mem_of_getElem? (i := 6) rfl), lw_g (lw_at lw_m8 87 rfl) rfl, lw_g (lw_at lw_m1 11 rfl) rfl⟩
theorem wMv_261 : wMv (kw_V adE adK adV zr b L0 xs lo) kt_M261 := ⟨by decide +kernel, lw_sl7 (List.mem_of_getElem? (i := 14) rfl), lw_g (lw_at lw_m8 51 rfl) rfl, lw_g (lw_at lw_m1 11 rfl) rfl⟩
theorem wMv_262 : wMv (kw_V adE adK adV zr b L0 xs lo) kt_M262 := ⟨by decide +kernel, lw_sl7 (List.mem_of_getElem? (i := 3) rfl), lw_g (lw_at lw_m7 234 rfl) rfl, lw_g (lw_at lw_m1 11 rfl) rfl⟩
theorem wMv_263 : wMv (kw_V adE adK adV zr b L0 xs lo) kt_M263 := ⟨by decide +kernel, lw_sl6 (List.mem_of_getElem? (i := 15) rfl), lw_g (lw_at lw_m7 213 rfl) rfl, lw_g (lw_at lw_m1 11 rfl) rfl⟩
theorem wMv_264 : wMv (kw_V adE adK adV zr b L0 xs lo) kt_M264 := ⟨by decide +kernel, lw_sl6 (List.mem_of_getElem? (i := 14) rfl), lw_g (lw_at lw_m7 209 rfl) rfl, lw_g (lw_at lw_m1 11 rfl) rfl⟩
theorem wMv_265 : wMv (kw_V adE adK adV zr b L0 xs lo) kt_M265 := ⟨by decide +kernel, lw_sl7 (List.mem_of_getElem? (i := 7) rfl), lw_g (lw_at lw_m8 10 rfl) rfl, lw_g (lw_at lw_m1 11 rfl) rfl⟩
theorem wMv_266 : wMv (kw_V adE adK adV zr b L0 xs lo) kt_M266 := ⟨by decide +kernel, lw_sl7 (List.mem_of_getElem? (i := 1) rfl), lw_g (lw_at lw_m7 226 rfl) rfl, lw_g (lw_at lw_m1 11 rfl) rfl⟩
theorem wMv_267 : wMv (kw_V adE adK adV zr b L0 xs lo) kt_M267 := ⟨by decide +kernel, lw_sl7 (List.mem_of_getElem? (i := 5) rfl), lw_g (lw_at lw_m8 2 rfl) rfl, lw_g (lw_at lw_m1 11 rfl) rfl⟩
theorem wMv_268 : wMv (kw_V adE adK adV zr b L0 xs lo) kt_M268 := ⟨by decide +kernel, lw_sl8 (List.mem_of_getElem? (i := 7) rfl), lw_g (lw_at lw_m8 91 rfl) rfl, lw_g (lw_at lw_m1 11 rfl) rfl⟩
theorem wMv_269 : wMv (kw_V adE adK adV zr b L0 xs lo) kt_M269 := ⟨by decide +kernel, lw_sl7 (List.mem_of_getElem? (i := 2) rfl), lw_g (lw_at lw_m7 230 rfl) rfl, lw_g (lw_at lw_m1 11 rfl) rfl⟩
theorem wMv_270 : wMv (kw_V adE adK adV zr b L0 xs lo) kt_M270 := ⟨by decide +kernel, lw_sl7 (List.mem_of_getElem? (i := 9) rfl), lw_g (lw_at lw_m8 18 rfl) rfl, lw_g (lw_at lw_m1 11 rfl) rfl⟩
theorem wMv_271 : wMv (kw_V adE adK adV zr b L0 xs lo) kt_M271 := ⟨by decide +kernel, lw_sl8 (List.mem_of_getElem? (i := 8) rfl), lw_g (lw_at lw_m8 95 rfl) rfl, lw_g (lw_at lw_m1 11 rfl) rfl⟩
theorem wMv_272 : wMv (kw_V adE adK adV zr b L0 xs lo) kt_M272 := ⟨by decide +kernel, lw_g (lw_at lw_m7 201 rfl) rfl, lw_g (lw_at lw_m7 200 rfl) rfl, lw_g (lw_at lw_m1 11 rfl) rfl⟩
theorem wMv_273 : wMv (kw_V adE adK adV zr b L0 xs lo) kt_M273 := ⟨by decide +kernel, lw_sl8 (List.mem_of_getElem? (i := 10) rfl), lw_g (lw_at lw_m8 103 rfl) rfl, lw_g (lw_at lw_m1 11 rfl) rfl⟩
theorem wMv_274 : wMv (kw_V adE adK adV zr b L0 xs lo) kt_M274 := ⟨by decide +kernel, lw_sl7 (List.mem_of_getElem? (i := 12) rfl), lw_g (lw_at lw_m8 36 rfl) rfl, lw_g (lw_at lw_m1 11 rfl) rfl⟩
theorem wMv_275 : wMv (kw_V adE adK adV zr b L0 xs lo) kt_M275 := ⟨by decide +kernel, lw_sl8 (List.mem_of_getElem? (i := 14) rfl), lw_g (lw_at lw_m8 127 rfl) rfl, lw_g (lw_at lw_m1 11 rfl) rfl⟩
theorem wMv_276 : wMv (kw_V adE adK adV zr b L0 xs lo) kt_M276 := ⟨by decide +kernel, lw_sl8 (List.mem_of_getElem? (i := 13) rfl), lw_g (lw_at lw_m8 123 rfl) rfl, lw_g (lw_at lw_m1 11 rfl) rfl⟩
theorem wMv_277 : wMv (kw_V adE adK adV zr b L0 xs lo) kt_M277 := ⟨by decide +kernel, lw_sl8 (List.mem_of_getElem? (i := 11) rfl), lw_g (lw_at lw_m8 108 rfl) rfl, lw_g (lw_at lw_m1 11 rfl) rfl⟩
theorem wMv_278 : wMv (kw_V adE adK adV zr b L0 xs lo) kt_M278 := ⟨by decide +kernel, lw_sl8 (List.mem_of_getElem? (i := 1) rfl), lw_g (lw_at lw_m8 66 rfl) rfl, lw_g (lw_at lw_m1 11 rfl) rfl⟩
theorem wMv_279 : wMv (kw_V adE adK adV zr b L0 xs lo) kt_M279 := ⟨by decide +kernel, lw_sl7 (List.mem_of_getElem? (i := 8) rfl), lw_g (lw_at lw_m8 14 rfl) rfl, lw_g (lw_at lw_m1 11 rfl) rfl⟩
theorem wMv_280 : wMv (kw_V adE adK adV zr b L0 xs lo) kt_M280 := ⟨by decide +kernel, lw_sl6 (List.mem_of_getElem? (i := 13) rfl), lw_g (lw_at lw_m7 205 rfl) rfl, lw_g (lw_at lw_m1 11 rfl) rfl⟩
theorem wMv_281 : wMv (kw_V adE adK adV zr b L0 xs lo) kt_M281 := ⟨by decide +kernel, lw_sl8 (List.mem_of_getElem? (i := 12) rfl), lw_g (lw_at lw_m8 114 rfl) rfl, lw_g (lw_at lw_m1 11 rfl) rfl⟩
theorem wMv_282 : wMv (kw_V adE adK adV zr b L0 xs lo) kt_M282 := ⟨by decide +kernel, lw_sl8 (List.mem_of_getElem? (i := 3) rfl), lw_g (lw_at lw_m8 75 rfl) rfl, lw_g (lw_at lw_m1 11 rfl) rfl⟩
theorem wMv_283 : wMv (kw_V adE adK adV zr b L0 xs lo) kt_M283 := ⟨by decide +kernel, lw_sl8 (List.mem_of_getElem? (i := 2) rfl), lw_g (lw_at lw_m8 70 rfl) rfl, lw_g (lw_at lw_m1 11 rfl) rfl⟩
theorem wMv_284 : wMv (kw_V adE adK adV zr b L0 xs lo) kt_M284 := ⟨by decide +kernel, lw_sl7 (List.mem_of_getElem? (i := 0) rfl), lw_g (lw_at lw_m7 222 rfl) rfl, lw_g (lw_at lw_m1 11 rfl) rfl⟩
theorem wMv_285 : wMv (kw_V adE adK adV zr b L0 xs lo) kt_M285 := ⟨by decide +kernel, lw_sl7 (List.mem_of_getElem? (i := 6) rfl), lw_g (lw_at lw_m8 6 rfl) rfl, lw_g (lw_at lw_m1 11 rfl) rfl⟩
theorem wMv_286 : wMv (kw_V adE adK adV zr b L0 xs lo) kt_M286 := ⟨by decide +kernel, lw_sl7 (List.mem_of_getElem? (i := 13) rfl), lw_g (lw_at lw_m8 41 rfl) rfl, lw_g (lw_at lw_m1 11 rfl) rfl⟩
theorem wMv_287 : wMv (kw_V adE adK adV zr b L0 xs lo) kt_M287 := ⟨by decide +kernel, lw_sl7 (List.mem_of_getElem? (i := 15) rfl), lw_g (lw_at lw_m8 58 rfl) rfl, lw_g (lw_at lw_m1 11 rfl) rfl⟩
theorem wMv_288 : wMv (kw_V adE adK adV zr b L0 xs lo) kt_M288 := ⟨by decide +kernel, lw_sl8 (List.mem_of_getElem? (i := 9) rfl), lw_g (lw_at lw_m8 99 rfl) rfl, lw_g (lw_at lw_m1 11 rfl) rfl⟩
theorem wMv_289 : wMv (kw_V adE adK adV zr b L0 xs lo) kt_M289 := ⟨by decide +kernel, lw_sl8 (List.mem_of_getElem? (i := 4) rfl), lw_g (lw_at lw_m8 79 rfl) rfl, lw_g (lw_at lw_m1 11 rfl) rfl⟩
theorem wMv_290 : wMv (kw_V adE adK adV zr b L0 xs lo) kt_M290 := ⟨by decide +kernel, lw_sl7 (List.mem_of_getElem? (i := 4) rfl), lw_g (lw_at lw_m7 238 rfl) rfl, lw_g (lw_at lw_m1 11 rfl) rfl⟩
theorem wMv_292 : wMv (kw_V adE adK adV zr b L0 xs lo) kt_M292 := ⟨by decide +kernel, lw_g (lw_at lw_m9 128 rfl) rfl, lw_g (lw_at lw_m9 127 rfl) rfl, lw_g (lw_at lw_m1 33 rfl) rfl⟩
theorem wMv_294 : wMv (kw_V adE adK adV zr b L0 xs lo) kt_M294 := ⟨by decide +kernel, lw_sl10 (List.mem_of_getElem? (i := 9) rfl), lw_g (lw_at lw_m9 21 rfl) rfl, lw_g (lw_at lw_m1 12 rfl) rfl⟩
theorem wMv_295 : wMv (kw_V adE adK adV zr b L0 xs lo) kt_M295 := ⟨by decide +kernel, lw_sl10 (List.mem_of_getElem? (i := 2) rfl), lw_g (lw_at lw_m8 227 rfl) rfl, lw_g (lw_at lw_m1 12 rfl) rfl⟩
theorem wMv_296 : wMv (kw_V adE adK adV zr b L0 xs lo) kt_M296 := ⟨by decide +kernel, lw_sl9 (List.mem_of_getElem? (i := 0) rfl), lw_g (lw_at lw_m8 140 rfl) rfl, lw_g (lw_at lw_m1 12 rfl) rfl⟩
theorem wMv_297 : wMv (kw_V adE adK adV zr b L0 xs lo) kt_M297 := ⟨by decide +kernel, lw_sl10 (List.mem_of_getElem? (i := 7) rfl), lw_g (lw_at lw_m9 13 rfl) rfl, lw_g (lw_at lw_m1 12 rfl) rfl⟩
theorem wMv_298 : wMv (kw_V adE adK adV zr b L0 xs lo) kt_M298 := ⟨by decide +kernel, lw_sl9 (List.mem_of_getElem? (i := 8) rfl), lw_g (lw_at lw_m8 178 rfl) rfl, lw_g (lw_at lw_m1 12 rfl) rfl⟩
theorem wMs_299 : wMs (kw_V adE adK adV zr b L0 xs lo) kt_M299 := ⟨by decide +kernel, lw_g (lw_at lw_m9 27 rfl) rfl, lw_g (lw_at lw_m1 12 rfl) rfl⟩
theorem wMv_300 : wMv (kw_V adE adK adV zr b L0 xs lo) kt_M300 := ⟨by decide +kernel, lw_sl9 (List.mem_of_getElem? (i := 10) rfl), lw_g (lw_at lw_m8 186 rfl) rfl, lw_g (lw_at lw_m1 12 rfl) rfl⟩
theorem wMv_301 : wMv (kw_V adE adK adV zr b L0 xs lo) kt_M301 := ⟨by decide +kernel, lw_sl11 (List.mem_of_getElem? (i := 2) rfl), lw_g (lw_at lw_m9 67 rfl) rfl, lw_g (lw_at lw_m1 12 rfl) rfl⟩
theorem wMv_302 : wMv (kw_V adE adK adV zr b L0 xs lo) kt_M302 := ⟨by decide +kernel, lw_sl11 (List.mem_of_getElem? (i := 1) rfl), lw_g (lw_at lw_m9 63 rfl) rfl, lw_g (lw_at lw_m1 12 rfl) rfl⟩
theorem wMv_303 : wMv (kw_V adE adK adV zr b L0 xs lo) kt_M303 := ⟨by decide +kernel, lw_sl10 (List.mem_of_getElem? (i := 11) rfl), lw_g (lw_at lw_m9 35 rfl) rfl, lw_g (lw_at lw_m1 12 rfl) rfl⟩
theorem wMv_304 : wMv (kw_V adE adK adV zr b L0 xs lo) kt_M304 := ⟨by decide +kernel, lw_sl10 (List.mem_of_getElem? (i := 5) rfl), lw_g (lw_at lw_m9 3 rfl) rfl, lw_g (lw_at lw_m1 12 rfl) rfl⟩
theorem wMv_305 : wMv (kw_V adE adK adV zr b L0 xs lo) kt_M305 := ⟨by decide +kernel, lw_sl10 (List.mem_of_getElem? (i := 3) rfl), lw_g (lw_at lw_m8 231 rfl) rfl, lw_g (lw_at lw_m1 12 rfl) rfl⟩
theorem wMv_306 : wMv (kw_V adE adK adV zr b L0 xs lo) kt_M306 := ⟨by decide +kernel, lw_sl9 (List.mem_of_getElem? (i := 4) rfl), lw_g (lw_at lw_m8 159 rfl) rfl, lw_g (lw_at lw_m1 12 rfl) rfl⟩
theorem wMv_307 : wMv (kw_V adE adK adV zr b L0 xs lo) kt_M307 := ⟨by decide +kernel, lw_sl9 (List.mem_of_getElem? (i := 7) rfl), lw_g (lw_at lw_m8 174 rfl) rfl, lw_g (lw_at lw_m1 12 rfl) rfl⟩
theorem wMv_308 : wMv (kw_V adE adK adV zr b L0 xs lo) kt_M308 := ⟨by decide +kernel, lw_sl9 (List.mem_of_getElem? (i := 5) rfl), lw_g (lw_at lw_m8 164 rfl) rfl, lw_g (lw_at lw_m1 12 rfl) rfl⟩
theorem wMv_309 : wMv (kw_V adE adK adV zr b L0 xs lo) kt_M309 := ⟨by decide +kernel, lw_sl9 (List.mem_of_getElem? (i := 6) rfl), lw_g (lw_at lw_m8 169 rfl) rfl, lw_g (lw_at lw_m1 12 rfl) rfl⟩
theorem wMv_310 : wMv (kw_V adE adK adV zr b L0 xs lo) kt_M310 := ⟨by decide +kernel, lw_sl10 (List.mem_of_getElem? (i := 14) rfl), lw_g (lw_at lw_m9 51 rfl) rfl, lw_g (lw_at lw_m1 12 rfl) rfl⟩
theorem wMv_311 : wMv (kw_V adE adK adV zr b L0 xs lo) kt_M311 := ⟨by decide +kernel, lw_sl10 (List.mem_of_getElem? (i := 15) rfl), lw_g (lw_at lw_m9 55 rfl) rfl, lw_g (lw_at lw_m1 12 rfl) rfl⟩
theorem wMv_312 : wMv (kw_V adE adK adV zr b L0 xs lo) kt_M312 := ⟨by decide +kernel, lw_sl10 (List.mem_of_getElem? (i := 12) rfl), lw_g (lw_at lw_m9 39 rfl) rfl, lw_g (lw_at lw_m1 12 rfl) rfl⟩
theorem wMs_313 : wMs (kw_V adE adK adV zr b L0 xs lo) kt_M313 := ⟨by decide +kernel, lw_g (lw_at lw_m8 189 rfl) rfl, lw_g (lw_at lw_m1 12 rfl) rfl⟩
theorem wMv_314 : wMv (kw_V adE adK adV zr b L0 xs lo) kt_M314 := ⟨by decide +kernel, lw_sl10 (List.mem_of_getElem? (i := 4) rfl), lw_g (lw_at lw_m8 237 rfl) rfl, lw_g (lw_at lw_m1 12 rfl) rfl⟩
theorem wMv_315 : wMv (kw_V adE adK adV zr b L0 xs lo) kt_M315 := ⟨by decide +kernel, lw_sl9 (List.mem_of_getElem? (i := 11) rfl), lw_g (lw_at lw_m8 194 rfl) rfl, lw_g (lw_at lw_m1 12 rfl) rfl⟩
theorem wMv_316 : wMv (kw_V adE adK adV zr b L0 xs lo) kt_M316 := ⟨by decide +kernel, lw_sl9 (List.mem_of_getElem? (i := 12) rfl), lw_g (lw_at lw_m8 198 rfl) rfl, lw_g (lw_at lw_m1 12 rfl) rfl⟩
theorem wMv_317 : wMv (kw_V adE adK adV zr b L0 xs lo) kt_M317 := ⟨by decide +kernel, lw_g (lw_at lw_m8 136 rfl) rfl, lw_g (lw_at lw_m8 135 rfl) rfl, lw_g (lw_at lw_m1 12 rfl) rfl⟩
theorem wMv_318 : wMv (kw_V adE adK adV zr b L0 xs lo) kt_M318 := ⟨by decide +kernel, lw_sl10 (List.mem_of_getElem? (i := 1) rfl), lw_g (lw_at lw_m8 222 rfl) rfl, lw_g (lw_at lw_m1 12 rfl) rfl⟩
theorem wMv_319 : wMv (kw_V adE adK adV zr b L0 xs lo) kt_M319 := ⟨by decide +kernel, lw_sl9 (List.mem_of_getElem? (i := 9) rfl), lw_g (lw_at lw_m8 182 rfl) rfl, lw_g (lw_at lw_m1 12 rfl) rfl⟩
theorem wMv_320 : wMv (kw_V adE adK adV zr b L0 xs lo) kt_M320 := ⟨by decide +kernel, lw_sl10 (List.mem_of_getElem? (i := 10) rfl), lw_g (lw_at lw_m9 31 rfl) rfl, lw_g (lw_at lw_m1 12 rfl) rfl⟩
theorem wMv_321 : wMv (kw_V adE adK adV zr b L0 xs lo) kt_M321 := ⟨by decide +kernel, lw_sl9 (List.mem_of_getElem? (i := 3) rfl), lw_g (lw_at lw_m8 155 rfl) rfl, lw_g (lw_at lw_m1 12 rfl) rfl⟩
theorem wMv_322 : wMv (kw_V adE adK adV zr b L0 xs lo) kt_M322 := ⟨by decide +kernel, lw_sl10 (List.mem_of_getElem? (i := 8) rfl), lw_g (lw_at lw_m9 17 rfl) rfl, lw_g (lw_at lw_m1 12 rfl) rfl⟩
theorem wMv_323 : wMv (kw_V adE adK adV zr b L0 xs lo) kt_M323 := ⟨by decide +kernel, lw_sl10 (List.mem_of_getElem? (i := 6) rfl), lw_g (lw_at lw_m9 8 rfl) rfl, lw_g (lw_at lw_m1 12 rfl) rfl⟩
theorem wMv_324 : wMv (kw_V adE adK adV zr b L0 xs lo) kt_M324 := ⟨by decide +kernel, lw_sl9 (List.mem_of_getElem? (i := 1) rfl), lw_g (lw_at lw_m8 144 rfl) rfl, lw_g (lw_at lw_m1 12 rfl) rfl⟩
theorem wMv_325 : wMv (kw_V adE adK adV zr b L0 xs lo) kt_M325 := ⟨by decide +kernel, lw_sl11 (List.mem_of_getElem? (i := 0) rfl), lw_g (lw_at lw_m9 59 rfl) rfl, lw_g (lw_at lw_m1 12 rfl) rfl⟩
theorem wMv_326 : wMv (kw_V adE adK adV zr b L0 xs lo) kt_M326 := ⟨by decide +kernel, lw_sl9 (List.mem_of_getElem? (i := 14) rfl), lw_g (lw_at lw_m8 207 rfl) rfl, lw_g (lw_at lw_m1 12 rfl) rfl⟩
theorem wMv_327 : wMv (kw_V adE adK adV zr b L0 xs lo) kt_M327 := ⟨by decide +kernel, lw_g (lw_at lw_m9 47 rfl) rfl, lw_g (lw_at lw_m9 46 rfl) rfl, lw_g (lw_at lw_m1 12 rfl) rfl⟩
theorem wMv_328 : wMv (kw_V adE adK adV zr b L0 xs lo) kt_M328 := ⟨by decide +kernel, lw_sl9 (List.mem_of_getElem? (i := 2) rfl), lw_g (lw_at lw_m8 150 rfl) rfl, lw_g (lw_at lw_m1 12 rfl) rfl⟩
theorem wMv_329 : wMv (kw_V adE adK adV zr b L0 xs lo) kt_M329 := ⟨by decide +kernel, lw_sl10 (List.mem_of_getElem? (i := 0) rfl), lw_g (lw_at lw_m8 218 rfl) rfl, lw_g (lw_at lw_m1 12 rfl) rfl⟩
theorem wMv_330 : wMv (kw_V adE adK adV zr b L0 xs lo) kt_M330 := ⟨by decide +kernel, lw_sl9 (List.mem_of_getElem? (i := 13) rfl), lw_g (lw_at lw_m8 202 rfl) rfl, lw_g (lw_at lw_m1 12 rfl) rfl⟩
theorem wMv_331 : wMv (kw_V adE adK adV zr b L0 xs lo) kt_M331 := ⟨by decide +kernel, lw_sl9 (List.mem_of_getElem? (i := 15) rfl), lw_g (lw_at lw_m8 211 rfl) rfl, lw_g (lw_at lw_m1 12 rfl) rfl⟩
theorem wMv_332 : wMv (kw_V adE adK adV zr b L0 xs lo) kt_M332 := ⟨by decide +kernel, lw_sl10 (List.mem_of_getElem? (i := 13) rfl), lw_g (lw_at lw_m9 43 rfl) rfl, lw_g (lw_at lw_m1 12 rfl) rfl⟩
theorem wMs_333 : wMs (kw_V adE adK adV zr b L0 xs lo) kt_M333 := ⟨by decide +kernel, lw_g (lw_at lw_m4 145 rfl) rfl, lw_g (lw_at lw_m1 26 rfl) rfl⟩
theorem wMs_334 : wMs (kw_V adE adK adV zr b L0 xs lo) kt_M334 := ⟨by decide +kernel, lw_g (lw_at lw_m4 104 rfl) rfl, lw_g (lw_at lw_m1 26 rfl) rfl⟩
theorem wMs_335 : wMs (kw_V adE adK adV zr b L0 xs lo) kt_M335 := ⟨by decide +kernel, lw_g (lw_at lw_m4 101 rfl) rfl, lw_g (lw_at lw_m1 26 rfl) rfl⟩
theorem wMs_336 : wMs (kw_V adE adK adV zr b L0 xs lo) kt_M336 := ⟨by decide +kernel, lw_g (lw_at lw_m12 7 rfl) rfl, lw_g (lw_at lw_m1 0 rfl) rfl⟩
theorem wMs_337 : wMs (kw_V adE adK adV zr b L0 xs lo) kt_M337 := ⟨by decide +kernel, lw_g (lw_at lw_m12 38 rfl) rfl, lw_g (lw_at lw_m1 0 rfl) rfl⟩
theorem wMv_339 : wMv (kw_V adE adK adV zr b L0 xs lo) kt_M339 := ⟨by decide +kernel, lw_sl19 (List.mem_of_getElem? (i := 3) rfl), lw_g (lw_at lw_m15 194 rfl) rfl, lw_g (lw_at lw_m1 17 rfl) rfl⟩
theorem wMv_340 : wMv (kw_V adE adK adV zr b L0 xs lo) kt_M340 := ⟨by decide +kernel, lw_sl28 (List.mem_of_getElem? (i := 5) rfl), lw_g (lw_at lw_m18 85 rfl) rfl, lw_g (lw_at lw_m1 17 rfl) rfl⟩
theorem wMv_341 : wMv (kw_V adE adK adV zr b L0 xs lo) kt_M341 := ⟨by decide +kernel, lw_sl25 (List.mem_of_getElem? (i := 13) rfl), lw_g (lw_at lw_m17 160 rfl) rfl, lw_g (lw_at lw_m1 17 rfl) rfl⟩
theorem wMv_342 : wMv (kw_V adE adK adV zr b L0 xs lo) kt_M342 := ⟨by decide +kernel, lw_sl24 (List.mem_of_getElem? (i := 7) rfl), lw_g (lw_at lw_m17 62 rfl) rfl, lw_g (lw_at lw_m1 17 rfl) rfl⟩
theorem wMv_343 : wMv (kw_V adE adK adV zr b L0 xs lo) kt_M343 := ⟨by decide +kernel, lw_sl25 (List.mem_of_getElem? (i := 15) rfl), lw_g (lw_at lw_m17 168 rfl) rfl, lw_g (lw_at lw_m1 17 rfl) rfl⟩
theorem wMv_344 : wMv (kw_V adE adK adV zr b L0 xs lo) kt_M344 := ⟨by decide +kernel, lw_sl25 (List.mem_of_getElem? (i := 14) rfl), lw_g (lw_at lw_m17 164 rfl) rfl, lw_g (lw_at lw_m1 17 rfl) rfl⟩
theorem wMv_345 : wMv (kw_V adE adK adV zr b L0 xs lo) kt_M345 := ⟨by decide +kernel, lw_sl24 (List.mem_of_getElem? (i := 8) rfl), lw_g (lw_at lw_m17 66 rfl) rfl, lw_g (lw_at lw_m1 17 rfl) rfl⟩
theorem wMv_346 : wMv (kw_V adE adK adV zr b L0 xs lo) kt_M346 := ⟨by decide +kernel, lw_sl19 (List.mem_of_getElem? (i := 9) rfl), lw_g (lw_at lw_m15 218 rfl) rfl, lw_g (lw_at lw_m1 17 rfl) rfl⟩
theorem wMs_347 : wMs (kw_V adE adK adV zr b L0 xs lo) kt_M347 := ⟨by decide +kernel, lw_g (lw_at lw_m15 93 rfl) rfl, lw_g (lw_at lw_m1 17 rfl) rfl⟩
theorem wMv_348 : wMv (kw_V adE adK adV zr b L0 xs lo) kt_M348 := ⟨by decide +kernel, lw_sl29 (List.mem_of_getElem? (i := 5) rfl), lw_g (lw_at lw_m18 149 rfl) rfl, lw_g (lw_at lw_m1 17 rfl) rfl⟩
theorem wMv_349 : wMv (kw_V adE adK adV zr b L0 xs lo) kt_M349 := ⟨by decide +kernel, lw_sl18 (List.mem_of_getElem? (i := 12) rfl), lw_g (lw_at lw_m15 163 rfl) rfl, lw_g (lw_at lw_m1 17 rfl) rfl⟩
theorem wMv_350 : wMv (kw_V adE adK adV zr b L0 xs lo) kt_M350 := ⟨by decide +kernel, lw_sl20 (List.mem_of_getElem? (i := 2) rfl), lw_g (lw_at lw_m16 14 rfl) rfl, lw_g (lw_at lw_m1 17 rfl) rfl⟩
theorem wMv_351 : wMv (kw_V adE adK adV zr b L0 xs lo) kt_M351 := ⟨by decide +kernel, lw_sl30 (List.mem_of_getElem? (i := 4) rfl), lw_g (lw_at lw_m18 212 rfl) rfl, lw_g (lw_at lw_m1 17 rfl) rfl⟩
theorem wMv_352 : wMv (kw_V adE adK adV zr b L0 xs lo) kt_M352 := ⟨by decide +kernel, lw_sl18 (List.mem_of_getElem? (i := 14) rfl), lw_g (lw_at lw_m15 171 rfl) rfl, lw_g (lw_at lw_m1 17 rfl) rfl⟩
theorem wMv_353 : wMv (kw_V adE adK adV zr b L0 xs lo) kt_M353 := ⟨by decide +kernel, lw_sl30 (List.mem_of_getElem? (i := 14) rfl), lw_g (lw_at lw_m19 13 rfl) rfl, lw_g (lw_at lw_m1 17 rfl) rfl⟩
theorem wMv_354 : wMv (kw_V adE adK adV zr b L0 xs lo) kt_M354 := ⟨by decide +kernel, lw_sl19 (List.mem_of_getElem? (i := 12) rfl), lw_g (lw_at lw_m15 230 rfl) rfl, lw_g (lw_at lw_m1 17 rfl) rfl⟩
theorem wMv_355 : wMv (kw_V adE adK adV zr b L0 xs lo) kt_M355 := ⟨by decide +kernel, lw_sl28 (List.mem_of_getElem? (i := 7) rfl), lw_g (lw_at lw_m18 93 rfl) rfl, lw_g (lw_at lw_m1 17 rfl) rfl⟩
theorem wMv_356 : wMv (kw_V adE adK adV zr b L0 xs lo) kt_M356 := ⟨by decide +kernel, lw_g (lw_at lw_m15 3 rfl) rfl, lw_g (lw_at lw_m15 2 rfl) rfl, lw_g (lw_at lw_m1 17 rfl) rfl⟩
theorem wMv_357 : wMv (kw_V adE adK adV zr b L0 xs lo) kt_M357 := ⟨by decide +kernel, lw_sl22 (List.mem_of_getElem? (i := 6) rfl), lw_g (lw_at lw_m16 160 rfl) rfl, lw_g (lw_at lw_m1 17 rfl) rfl⟩
theorem wMv_358 : wMv (kw_V adE adK adV zr b L0 xs lo) kt_M358 := ⟨by decide +kernel, lw_g (lw_at lw_m17 192 rfl) rfl, lw_g (lw_at lw_m17 191 rfl) rfl, lw_g (lw_at lw_m1 17 rfl) rfl⟩
theorem wMs_359 : wMs (kw_V adE adK adV zr b L0 xs lo) kt_M359 := ⟨by decide +kernel, lw_g (lw_at lw_m15 84 rfl) rfl, lw_g (lw_at lw_m1 17 rfl) rfl⟩
theorem wMv_360 : wMv (kw_V adE adK adV zr b L0 xs lo) kt_M360 := ⟨by decide +kernel, lw_sl28 (List.mem_of_getElem? (i := 1) rfl), lw_g (lw_at lw_m18 69 rfl) rfl, lw_g (lw_at lw_m1 17 rfl) rfl⟩
theorem wMv_361 : wMv (kw_V adE adK adV zr b L0 xs lo) kt_M361 := ⟨by decide +kernel, lw_sl26 (List.mem_of_getElem? (i := 4) rfl), lw_g (lw_at lw_m17 188 rfl) rfl, lw_g (lw_at lw_m1 17 rfl) rfl⟩
theorem wMv_362 : wMv (kw_V adE adK adV zr b L0 xs lo) kt_M362 := ⟨by decide +kernel, lw_sl19 (List.mem_of_getElem? (i := 10) rfl), lw_g (lw_at lw_m15 222 rfl) rfl, lw_g (lw_at lw_m1 17 rfl) rfl⟩
theorem wMv_363 : wMv (kw_V adE adK adV zr b L0 xs lo) kt_M363 := ⟨by decide +kernel, lw_sl28 (List.mem_of_getElem? (i := 0) rfl), lw_g (lw_at lw_m18 65 rfl) rfl, lw_g (lw_at lw_m1 17 rfl) rfl⟩
theorem wMv_364 : wMv (kw_V adE adK adV zr b L0 xs lo) kt_M364 := ⟨by decide +kernel, lw_sl29 (List.mem_of_getElem? (i := 1) rfl), lw_g (lw_at lw_m18 133 rfl) rfl, lw_g (lw_at lw_m1 17 rfl) rfl⟩
theorem wMv_365 : wMv (kw_V adE adK adV zr b L0 xs lo) kt_M365 := ⟨by decide +kernel, lw_sl20 (List.mem_of_getElem? (i := 1) rfl), lw_g (lw_at lw_m16 10 rfl) rfl, lw_g (lw_at lw_m1 17 rfl) rfl⟩
theorem wMv_366 : wMv (kw_V adE adK adV zr b L0 xs lo) kt_M366 := ⟨by decide +kernel, lw_g (lw_at lw_m19 90 rfl) rfl, lw_g (lw_at lw_m19 89 rfl) rfl, lw_g (lw_at lw_m1 17 rfl) rfl⟩
theorem wMv_367 : wMv (kw_V adE adK adV zr b L0 xs lo) kt_M367 := ⟨by decide +kernel, lw_sl26 (List.mem_of_getElem? (i := 11) rfl), lw_g (lw_at lw_m17 220 rfl) rfl, lw_g (lw_at lw_m1 17 rfl) rfl⟩
theorem wMv_368 : wMv (kw_V adE adK adV zr b L0 xs lo) kt_M368 := ⟨by decide +kernel, lw_sl18 (List.mem_of_getElem? (i := 9) rfl), lw_g (lw_at lw_m15 151 rfl) rfl, lw_g (lw_at lw_m1 17 rfl) rfl⟩
theorem wMv_369 : wMv (kw_V adE adK adV zr b L0 xs lo) kt_M369 := ⟨by decide +kernel, lw_sl28 (List.mem_of_getElem? (i := 12) rfl), lw_g (lw_at lw_m18 113 rfl) rfl, lw_g (lw_at lw_m1 17 rfl) rfl⟩
theorem wMv_370 : wMv (kw_V adE adK adV zr b L0 xs lo) kt_M370 := ⟨by decide +kernel, lw_sl29 (List.mem_of_getElem? (i := 7) rfl), lw_g (lw_at lw_m18 157 rfl) rfl, lw_g (lw_at lw_m1 17 rfl) rfl⟩
theorem wMv_371 : wMv (kw_V adE adK adV zr b L0 xs lo) kt_M371 := ⟨by decide +kernel, lw_sl20 (List.mem_of_getElem? (i := 0) rfl), lw_g (lw_at lw_m16 6 rfl) rfl, lw_g (lw_at lw_m1 17 rfl) rfl⟩
theorem wMv_372 : wMv (kw_V adE adK adV zr b L0 xs lo) kt_M372 := ⟨by decide +kernel, lw_g (lw_at lw_m19 98 rfl) rfl, lw_g (lw_at lw_m19 97 rfl) rfl, lw_g (lw_at lw_m1 17 rfl) rfl⟩
theorem wMv_373 : wMv (kw_V adE adK adV zr b L0 xs lo) kt_M373 := ⟨by decide +kernel, lw_sl31 (List.mem_of_getElem? (i := 0) rfl), lw_g (lw_at lw_m19 21 rfl) rfl, lw_g (lw_at lw_m1 17 rfl) rfl⟩
theorem wMv_374 : wMv (kw_V adE adK adV zr b L0 xs lo) kt_M374 := ⟨by decide +kernel, lw_sl30 (List.mem_of_getElem? (i := 15) rfl), lw_g (lw_at lw_m19 17 rfl) rfl, lw_g (lw_at lw_m1 17 rfl) rfl⟩
theorem wMv_375 : wMv (kw_V adE adK adV zr b L0 xs lo) kt_M375 := ⟨by decide +kernel, lw_sl19 (List.mem_of_getElem? (i := 2) rfl), lw_g (lw_at lw_m15 190 rfl) rfl, lw_g (lw_at lw_m1 17 rfl) rfl⟩
theorem wMv_376 : wMv (kw_V adE adK adV zr b L0 xs lo) kt_M376 := ⟨by decide +kernel, lw_sl25 (List.mem_of_getElem? (i := 3) rfl), lw_g (lw_at lw_m17 114 rfl) rfl, lw_g (lw_at lw_m1 17 rfl) rfl⟩
theorem wMv_377 : wMv (kw_V adE adK adV zr b L0 xs lo) kt_M377 := ⟨by decide +kernel, lw_sl23 (List.mem_of_getElem? (i := 6) rfl), lw_g (lw_at lw_m16 228 rfl) rfl, lw_g (lw_at lw_m1 17 rfl) rfl⟩
theorem wMv_378 : wMv (kw_V adE adK adV zr b L0 xs lo) kt_M378 := ⟨by decide +kernel, lw_sl23 (List.mem_of_getElem? (i := 7) rfl), lw_g (lw_at lw_m16 233 rfl) rfl, lw_g (lw_at lw_m1 17 rfl) rfl⟩
theorem wMv_379 : wMv (kw_V adE adK adV zr b L0 xs lo) kt_M379 := ⟨by decide +kernel, lw_sl27 (List.mem_of_getElem? (i := 11) rfl), lw_g (lw_at lw_m18 45 rfl) rfl, lw_g (lw_at lw_m1 17 rfl) rfl⟩
theorem wMv_380 : wMv (kw_V adE adK adV zr b L0 xs lo) kt_M380 := ⟨by decide +kernel, lw_g (lw_at lw_m19 70 rfl) rfl, lw_g (lw_at lw_m19 69 rfl) rfl, lw_g (lw_at lw_m1 17 rfl) rfl⟩
theorem wMv_381 : wMv (kw_V adE adK adV zr b L0 xs lo) kt_M381 := ⟨by decide +kernel, lw_sl28 (List.mem_of_getElem? (i := 4) rfl), lw_g (lw_at lw_m18 81 rfl) rfl, lw_g (lw_at lw_m1 17 rfl) rfl⟩
theorem wMv_382 : wMv (kw_V adE adK adV zr b L0 xs lo) kt_M382 := ⟨by decide +kernel, lw_sl17 (List.mem_of_getElem? (i := 3) rfl), lw_g (lw_at lw_m15 42 rfl) rfl, lw_g (lw_at lw_m1 17 rfl) rfl⟩
theorem wMv_383 : wMv (kw_V adE adK adV zr b L0 xs lo) kt_M383 := ⟨by decide +kernel, lw_sl17 (List.mem_of_getElem? (i := 15) rfl), lw_g (lw_at lw_m15 111 rfl) rfl, lw_g (lw_at lw_m1 17 rfl) rfl⟩
theorem wMv_384 : wMv (kw_V adE adK adV zr b L0 xs lo) kt_M384 := ⟨by decide +kernel, lw_sl27 (List.mem_of_getElem? (i := 4) rfl), lw_g (lw_at lw_m18 17 rfl) rfl, lw_g (lw_at lw_m1 17 rfl) rfl⟩
theorem wMv_385 : wMv (kw_V adE adK adV zr b L0 xs lo) kt_M385 := ⟨by decide +kernel, lw_sl27 (List.mem_of_getElem? (i := 5) rfl), lw_g (lw_at lw_m18 21 rfl) rfl, lw_g (lw_at lw_m1 17 rfl) rfl⟩
theorem wMs_386 : wMs (kw_V adE adK adV zr b L0 xs lo) kt_M386 := ⟨by decide +kernel, lw_g (lw_at lw_m15 87 rfl) rfl, lw_g (lw_at lw_m1 17 rfl) rfl⟩
theorem wMv_387 : wMv (kw_V adE adK adV zr b L0 xs lo) kt_M387 := ⟨by decide +kernel, lw_sl24 (List.mem_of_getElem? (i := 13) rfl), lw_g (lw_at lw_m17 86 rfl) rfl, lw_g (lw_at lw_m1 17 rfl) rfl⟩
theorem wMv_388 : wMv (kw_V adE adK adV zr b L0 xs lo) kt_M388 := ⟨by decide +kernel, lw_sl25 (List.mem_of_getElem? (i := 7) rfl), lw_g (lw_at lw_m17 136 rfl) rfl, lw_g (lw_at lw_m1 17 rfl) rfl⟩
theorem wMv_389 : wMv (kw_V adE adK adV zr b L0 xs lo) kt_M389 := ⟨by decide +kernel, lw_sl30 (List.mem_of_getElem? (i := 8) rfl), lw_g (lw_at lw_m18 228 rfl) rfl, lw_g (lw_at lw_m1 17 rfl) rfl⟩
theorem wMv_390 : wMv (kw_V adE adK adV zr b L0 xs lo) kt_M390 := ⟨by decide +kernel, lw_sl26 (List.mem_of_getElem? (i := 9) rfl), lw_g (lw_at lw_m17 212 rfl) rfl, lw_g (lw_at lw_m1 17 rfl) rfl⟩
theorem wMv_391 : wMv (kw_V adE adK adV zr b L0 xs lo) kt_M391 := ⟨by decide +kernel, lw_sl26 (List.mem_of_getElem? (i := 6) rfl), lw_g (lw_at lw_m17 200 rfl) rfl, lw_g (lw_at lw_m1 17 rfl) rfl⟩
theorem wMv_392 : wMv (kw_V adE adK adV zr b L0 xs lo) kt_M392 := ⟨by decide +kernel, lw_sl30 (List.mem_of_getElem? (i := 2) rfl), lw_g (lw_at lw_m18 204 rfl) rfl, lw_g (lw_at lw_m1 17 rfl) rfl⟩
theorem wMv_393 : wMv (kw_V adE adK adV zr b L0 xs lo) kt_M393 := ⟨by decide +kernel, lw_sl18 (List.mem_of_getElem? (i := 10) rfl), lw_g (lw_at lw_m15 155 rfl) rfl, lw_g (lw_at lw_m1 17 rfl) rfl⟩
theorem wMv_394 : wMv (kw_V adE adK adV zr b L0 xs lo) kt_M394 := ⟨by decide +kernel, lw_sl19 (List.mem_of_getElem? (i := 0) rfl), lw_g (lw_at lw_m15 179 rfl) rfl, lw_g (lw_at lw_m1 17 rfl) rfl⟩
theorem wMv_395 : wMv (kw_V adE adK adV zr b L0 xs lo) kt_M395 := ⟨by decide +kernel, lw_sl24 (List.mem_of_getElem? (i := 14) rfl), lw_g (lw_at lw_m17 90 rfl) rfl, lw_g (lw_at lw_m1 17 rfl) rfl⟩
theorem wMv_396 : wMv (kw_V adE adK adV zr b L0 xs lo) kt_M396 := ⟨by decide +kernel, lw_sl18 (List.mem_of_getElem? (i := 13) rfl), lw_g (lw_at lw_m15 167 rfl) rfl, lw_g (lw_at lw_m1 17 rfl) rfl⟩
theorem wMv_397 : wMv (kw_V adE adK adV zr b L0 xs lo) kt_M397 := ⟨by decide +kernel, lw_sl19 (List.mem_of_getElem? (i := 11) rfl), lw_g (lw_at lw_m15 226 rfl) rfl, lw_g (lw_at lw_m1 17 rfl) rfl⟩
theorem wMv_398 : wMv (kw_V adE adK adV zr b L0 xs lo) kt_M398 := ⟨by decide +kernel, lw_sl19 (List.mem_of_getElem? (i := 13) rfl), lw_g (lw_at lw_m15 234 rfl) rfl, lw_g (lw_at lw_m1 17 rfl) rfl⟩
theorem wMv_399 : wMv (kw_V adE adK adV zr b L0 xs lo) kt_M399 := ⟨by decide +kernel, lw_sl24 (List.mem_of_getElem? (i := 15) rfl), lw_g (lw_at lw_m17 97 rfl) rfl, lw_g (lw_at lw_m1 17 rfl) rfl⟩
theorem wMv_400 : wMv (kw_V adE adK adV zr b L0 xs lo) kt_M400 := ⟨by decide +kernel, lw_sl19 (List.mem_of_getElem? (i := 1) rfl), lw_g (lw_at lw_m15 186 rfl) rfl, lw_g (lw_at lw_m1 17 rfl) rfl⟩
theorem wMv_401 : wMv (kw_V adE adK adV zr b L0 xs lo) kt_M401 := ⟨by decide +kernel, lw_sl31 (List.mem_of_getElem? (i := 4) rfl), lw_g (lw_at lw_m19 37 rfl) rfl, lw_g (lw_at lw_m1 17 rfl) rfl⟩
theorem wMv_402 : wMv (kw_V adE adK adV zr b L0 xs lo) kt_M402 := ⟨by decide +kernel, lw_sl26 (List.mem_of_getElem? (i := 15) rfl), lw_g (lw_at lw_m17 237 rfl) rfl, lw_g (lw_at lw_m1 17 rfl) rfl⟩
theorem wMv_403 : wMv (kw_V adE adK adV zr b L0 xs lo) kt_M403 := ⟨by decide +kernel, lw_sl26 (List.mem_of_getElem? (i := 14) rfl), lw_g (lw_at lw_m17 232 rfl) rfl, lw_g (lw_at lw_m1 17 rfl) rfl⟩
theorem wMv_404 : wMv (kw_V adE adK adV zr b L0 xs lo) kt_M404 := ⟨by decide +kernel, lw_sl27 (List.mem_of_getElem? (i := 14) rfl), lw_g (lw_at lw_m18 57 rfl) rfl, lw_g (lw_at lw_m1 17 rfl) rfl⟩
theorem wMv_405 : wMv (kw_V adE adK adV zr b L0 xs lo) kt_M405 := ⟨by decide +kernel, lw_sl27 (List.mem_of_getElem? (i := 12) rfl), lw_g (lw_at lw_m18 49 rfl) rfl, lw_g (lw_at lw_m1 17 rfl) rfl⟩
theorem wMv_406 : wMv (kw_V adE adK adV zr b L0 xs lo) kt_M406 := ⟨by decide +kernel, lw_sl23 (List.mem_of_getElem? (i := 3) rfl), lw_g (lw_at lw_m16 213 rfl) rfl, lw_g (lw_at lw_m1 17 rfl) rfl⟩
theorem wMs_407 : wMs (kw_V adE adK adV zr b L0 xs lo) kt_M407 := ⟨by decide +kernel, lw_g (lw_at lw_m15 96 rfl) rfl, lw_g (lw_at lw_m1 17 rfl) rfl⟩
theorem wMv_408 : wMv (kw_V adE adK adV zr b L0 xs lo) kt_M408 := ⟨by decide +kernel, lw_sl23 (List.mem_of_getElem? (i := 4) rfl), lw_g (lw_at lw_m16 217 rfl) rfl, lw_g (lw_at lw_m1 17 rfl) rfl⟩
theorem wMv_409 : wMv (kw_V adE adK adV zr b L0 xs lo) kt_M409 := ⟨by decide +kernel, lw_g (lw_at lw_m14 235 rfl) rfl, lw_g (lw_at lw_m14 234 rfl) rfl, lw_g (lw_at lw_m1 17 rfl) rfl⟩
theorem wMv_410 : wMv (kw_V adE adK adV zr b L0 xs lo) kt_M410 := ⟨by decide +kernel, lw_sl27 (List.mem_of_getElem? (i := 9) rfl), lw_g (lw_at lw_m18 37 rfl) rfl, lw_g (lw_at lw_m1 17 rfl) rfl⟩
theorem wMv_411 : wMv (kw_V adE adK adV zr b L0 xs lo) kt_M411 := ⟨by decide +kernel, lw_sl20 (List.mem_of_getElem? (i := 13) rfl), lw_g (lw_at lw_m16 60 rfl) rfl, lw_g (lw_at lw_m1 17 rfl) rfl⟩
theorem wMv_412 : wMv (kw_V adE adK adV zr b L0 xs lo) kt_M412 := ⟨by decide +kernel, lw_sl22 (List.mem_of_getElem? (i := 10) rfl), lw_g (lw_at lw_m16 176 rfl) rfl, lw_g (lw_at lw_m1 17 rfl) rfl⟩
theorem wMs_413 : wMs (kw_V adE adK adV zr b L0 xs lo) kt_M413 := ⟨by decide +kernel, lw_g (lw_at lw_m18 164 rfl) rfl, lw_g (lw_at lw_m1 17 rfl) rfl⟩
theorem wMv_414 : wMv (kw_V adE adK adV zr b L0 xs lo) kt_M414 := ⟨by decide +kernel, lw_sl18 (List.mem_of_getElem? (i := 3) rfl), lw_g (lw_at lw_m15 127 rfl) rfl, lw_g (lw_at lw_m1 17 rfl) rfl⟩
theorem wMv_415 : wMv (kw_V adE adK adV zr b L0 xs lo) kt_M415 := ⟨by decide +kernel, lw_sl27 (List.mem_of_getElem? (i := 8) rfl), lw_g (lw_at lw_m18 33 rfl) rfl, lw_g (lw_at lw_m1 17 rfl) rfl⟩
theorem wMv_416 : wMv (kw_V adE adK adV zr b L0 xs lo) kt_M416 := ⟨by decide +kernel, lw_sl31 (List.mem_of_getElem? (i := 2) rfl), lw_g (lw_at lw_m19 29 rfl) rfl, lw_g (lw_at lw_m1 17 rfl) rfl⟩
theorem wMv_417 : wMv (kw_V adE adK adV zr b L0 xs lo) kt_M417 := ⟨by decide +kernel, lw_sl18 (List.mem_of_getElem? (i := 1) rfl), lw_g (lw_at lw_m15 119 rfl) rfl, lw_g (lw_at lw_m1 17 rfl) rfl⟩
theorem wMv_418 : wMv (kw_V adE adK adV zr b L0 xs lo) kt_M418 := ⟨by decide +kernel, lw_sl25 (List.mem_of_getElem? (i := 0) rfl), lw_g (lw_at lw_m17 101 rfl) rfl, lw_g (lw_at lw_m1 17 rfl) rfl⟩
theorem wMv_419 : wMv (kw_V adE adK adV zr b L0 xs lo) kt_M419 := ⟨by decide +kernel, lw_sl26 (List.mem_of_getElem? (i := 5) rfl), lw_g (lw_at lw_m17 196 rfl) rfl, lw_g (lw_at lw_m1 17 rfl) rfl⟩
theorem wMv_420 : wMv (kw_V adE adK adV zr b L0 xs lo) kt_M420 := ⟨by decide +kernel, lw_sl27 (List.mem_of_getElem? (i := 2) rfl), lw_g (lw_at lw_m18 9 rfl) rfl, lw_g (lw_at lw_m1 17 rfl) rfl⟩
theorem wMs_421 : wMs (kw_V adE adK adV zr b L0 xs lo) kt_M421 := ⟨by decide +kernel, lw_g (lw_at lw_m15 25 rfl) rfl, lw_g (lw_at lw_m1 17 rfl) rfl⟩
theorem wMv_422 : wMv (kw_V adE adK adV zr b L0 xs lo) kt_M422 := ⟨by decide +kernel, lw_sl20 (List.mem_of_getElem? (i := 3) rfl), lw_g (lw_at lw_m16 18 rfl) rfl, lw_g (lw_at lw_m1 17 rfl) rfl⟩
theorem wMv_423 : wMv (kw_V adE adK adV zr b L0 xs lo) kt_M423 := ⟨by decide +kernel, lw_sl30 (List.mem_of_getElem? (i := 6) rfl), lw_g (lw_at lw_m18 220 rfl) rfl, lw_g (lw_at lw_m1 17 rfl) rfl⟩
theorem wMv_424 : wMv (kw_V adE adK adV zr b L0 xs lo) kt_M424 := ⟨by decide +kernel, lw_sl30 (List.mem_of_getElem? (i := 5) rfl), lw_g (lw_at lw_m18 216 rfl) rfl, lw_g (lw_at lw_m1 17 rfl) rfl⟩
theorem wMv_425 : wMv (kw_V adE adK adV zr b L0 xs lo) kt_M425 := ⟨by decide +kernel, lw_sl29 (List.mem_of_getElem? (i := 13) rfl), lw_g (lw_at lw_m18 184 rfl) rfl, lw_g (lw_at lw_m1 17 rfl) rfl⟩
theorem wMv_426 : wMv (kw_V adE adK adV zr b L0 xs lo) kt_M426 := ⟨by decide +kernel, lw_sl29 (List.mem_of_getElem? (i := 0) rfl), lw_g (lw_at lw_m18 129 rfl) rfl, lw_g (lw_at lw_m1 17 rfl) rfl⟩
theorem wMv_427 : wMv (kw_V adE adK adV zr b L0 xs lo) kt_M427 := ⟨by decide +kernel, lw_sl21 (List.mem_of_getElem? (i := 11) rfl), lw_g (lw_at lw_m16 116 rfl) rfl, lw_g (lw_at lw_m1 17 rfl) rfl⟩
theorem wMv_428 : wMv (kw_V adE adK adV zr b L0 xs lo) kt_M428 := ⟨by decide +kernel, lw_sl23 (List.mem_of_getElem? (i := 1) rfl), lw_g (lw_at lw_m16 204 rfl) rfl, lw_g (lw_at lw_m1 17 rfl) rfl⟩
theorem wMv_429 : wMv (kw_V adE adK adV zr b L0 xs lo) kt_M429 := ⟨by decide +kernel, lw_sl16 (List.mem_of_getElem? (i := 15) rfl), lw_g (lw_at lw_m15 15 rfl) rfl, lw_g (lw_at lw_m1 17 rfl) rfl⟩
theorem wMv_430 : wMv (kw_V adE adK adV zr b L0 xs lo) kt_M430 := ⟨by decide +kernel, lw_sl25 (List.mem_of_getElem? (i := 5) rfl), lw_g (lw_at lw_m17 122 rfl) rfl, lw_g (lw_at lw_m1 17 rfl) rfl⟩
theorem wMv_431 : wMv (kw_V adE adK adV zr b L0 xs lo) kt_M431 := ⟨by decide +kernel, lw_sl28 (List.mem_of_getElem? (i := 9) rfl), lw_g (lw_at lw_m18 101 rfl) rfl, lw_g (lw_at lw_m1 17 rfl) rfl⟩
theorem wMv_432 : wMv (kw_V adE adK adV zr b L0 xs lo) kt_M432 := ⟨by decide +kernel, lw_sl25 (List.mem_of_getElem? (i := 12) rfl), lw_g (lw_at lw_m17 156 rfl) rfl, lw_g (lw_at lw_m1 17 rfl) rfl⟩
theorem wMv_433 : wMv (kw_V adE adK adV zr b L0 xs lo) kt_M433 := ⟨by decide +kernel, lw_sl28 (List.mem_of_getElem? (i := 2) rfl), lw_g (lw_at lw_m18 73 rfl) rfl, lw_g (lw_at lw_m1 17 rfl) rfl⟩
theorem wMv_434 : wMv (kw_V adE adK adV zr b L0 xs lo) kt_M434 := ⟨by decide +kernel, lw_sl30 (List.mem_of_getElem? (i := 12) rfl), lw_g (lw_at lw_m19 5 rfl) rfl, lw_g (lw_at lw_m1 17 rfl) rfl⟩
theorem wMv_435 : wMv (kw_V adE adK adV zr b L0 xs lo) kt_M435 := ⟨by decide +kernel, lw_sl22 (List.mem_of_getElem? (i := 5) rfl), lw_g (lw_at lw_m16 156 rfl) rfl, lw_g (lw_at lw_m1 17 rfl) rfl⟩
theorem wMv_436 : wMv (kw_V adE adK adV zr b L0 xs lo) kt_M436 := ⟨by decide +kernel, lw_sl31 (List.mem_of_getElem? (i := 5) rfl), lw_g (lw_at lw_m19 45 rfl) rfl, lw_g (lw_at lw_m1 17 rfl) rfl⟩
theorem wMv_437 : wMv (kw_V adE adK adV zr b L0 xs lo) kt_M437 := ⟨by decide +kernel, lw_sl28 (List.mem_of_getElem? (i := 8) rfl), lw_g (lw_at lw_m18 97 rfl) rfl, lw_g (lw_at lw_m1 17 rfl) rfl⟩
theorem wMv_438 : wMv (kw_V adE adK adV zr b L0 xs lo) kt_M438 := ⟨by decide +kernel, lw_sl17 (List.mem_of_getElem? (i := 11) rfl), lw_g (lw_at lw_m15 77 rfl) rfl, lw_g (lw_at lw_m1 17 rfl) rfl⟩
theorem wMv_439 : wMv (kw_V adE adK adV zr b L0 xs lo) kt_M439 := ⟨by decide +kernel, lw_sl28 (List.mem_of_getElem? (i := 13) rfl), lw_g (lw_at lw_m18 117 rfl) rfl, lw_g (lw_at lw_m1 17 rfl) rfl⟩
theorem wMv_440 : wMv (kw_V adE adK adV zr b L0 xs lo) kt_M440 := ⟨by decide +kernel, lw_sl22 (List.mem_of_getElem? (i := 15) rfl), lw_g (lw_at lw_m16 196 rfl) rfl, lw_g (lw_at lw_m1 17 rfl) rfl⟩
theorem wMs_441 : wMs (kw_V adE adK adV zr b L0 xs lo) kt_M441 := ⟨by decide +kernel, lw_g (lw_at lw_m15 28 rfl) rfl, lw_g (lw_at lw_m1 17 rfl) rfl⟩
theorem wMv_442 : wMv (kw_V adE adK adV zr b L0 xs lo) kt_M442 := ⟨by decide +kernel, lw_sl25 (List.mem_of_getElem? (i := 1) rfl), lw_g (lw_at lw_m17 106 rfl) rfl, lw_g (lw_at lw_m1 17 rfl) rfl⟩
theorem wMs_443 : wMs (kw_V adE adK adV zr b L0 xs lo) kt_M443 := ⟨by decide +kernel, lw_g (lw_at lw_m15 22 rfl) rfl, lw_g (lw_at lw_m1 17 rfl) rfl⟩
theorem wMs_444 : wMs (kw_V adE adK adV zr b L0 xs lo) kt_M444 := ⟨by decide +kernel, lw_g (lw_at lw_m17 128 rfl) rfl, lw_g (lw_at lw_m1 17 rfl) rfl⟩
theorem wMs_445 : wMs (kw_V adE adK adV zr b L0 xs lo) kt_M445 := ⟨by decide +kernel, lw_g (lw_at lw_m15 182 rfl) rfl, lw_g (lw_at lw_m1 17 rfl) rfl⟩
theorem wMv_446 : wMv (kw_V adE adK adV zr b L0 xs lo) kt_M446 := ⟨by decide +kernel, lw_sl30 (List.mem_of_getElem? (i := 7) rfl), lw_g (lw_at lw_m18 224 rfl) rfl, lw_g (lw_at lw_m1 17 rfl) rfl⟩
theorem wMv_447 : wMv (kw_V adE adK adV zr b L0 xs lo) kt_M447 := ⟨by decide +kernel, lw_sl24 (List.mem_of_getElem? (i := 6) rfl), lw_g (lw_at lw_m17 58 rfl) rfl, lw_g (lw_at lw_m1 17 rfl) rfl⟩
theorem wMs_448 : wMs (kw_V adE adK adV zr b L0 xs lo) kt_M448 := ⟨by decide +kernel, lw_g (lw_at lw_m15 90 rfl) rfl, lw_g (lw_at lw_m1 17 rfl) rfl⟩
theorem wMv_449 : wMv (kw_V adE adK adV zr b L0 xs lo) kt_M449 := ⟨by decide +kernel, lw_sl28 (List.mem_of_getElem? (i := 15) rfl), lw_g (lw_at lw_m18 125 rfl) rfl, lw_g (lw_at lw_m1 17 rfl) rfl⟩
theorem wMs_450 : wMs (kw_V adE adK adV zr b L0 xs lo) kt_M450 := ⟨by decide +kernel, lw_g (lw_at lw_m16 220 rfl) rfl, lw_g (lw_at lw_m1 17 rfl) rfl⟩
theorem wMv_451 : wMv (kw_V adE adK adV zr b L0 xs lo) kt_M451 := ⟨by decide +kernel, lw_sl19 (List.mem_of_getElem? (i := 4) rfl), lw_g (lw_at lw_m15 198 rfl) rfl, lw_g (lw_at lw_m1 17 rfl) rfl⟩
theorem wMv_452 : wMv (kw_V adE adK adV zr b L0 xs lo) kt_M452 := ⟨by decide +kernel, lw_sl27 (List.mem_of_getElem? (i := 13) rfl), lw_g (lw_at lw_m18 53 rfl) rfl, lw_g (lw_at lw_m1 17 rfl) rfl⟩
theorem wMv_453 : wMv (kw_V adE adK adV zr b L0 xs lo) kt_M453 := ⟨by decide +kernel, lw_g (lw_at lw_m19 66 rfl) rfl, lw_g (lw_at lw_m19 65 rfl) rfl, lw_g (lw_at lw_m1 17 rfl) rfl⟩
theorem wMv_454 : wMv (kw_V adE adK adV zr b L0 xs lo) kt_M454 := ⟨by decide +kernel, lw_sl21 (List.mem_of_getElem? (i := 1) rfl), lw_g (lw_at lw_m16 76 rfl) rfl, lw_g (lw_at lw_m1 17 rfl) rfl⟩
theorem wMv_455 : wMv (kw_V adE adK adV zr b L0 xs lo) kt_M455 := ⟨by decide +kernel, lw_sl20 (List.mem_of_getElem? (i := 8) rfl), lw_g (lw_at lw_m16 39 rfl) rfl, lw_g (lw_at lw_m1 17 rfl) rfl⟩
theorem wMv_456 : wMv (kw_V adE adK adV zr b L0 xs lo) kt_M456 := ⟨by decide +kernel, lw_sl29 (List.mem_of_getElem? (i := 9) rfl), lw_g (lw_at lw_m18 168 rfl) rfl, lw_g (lw_at lw_m1 17 rfl) rfl⟩
theorem wMv_457 : wMv (kw_V adE adK adV zr b L0 xs lo) kt_M457 := ⟨by decide +kernel, lw_sl27 (List.mem_of_getElem? (i := 10) rfl), lw_g (lw_at lw_m18 41 rfl) rfl, lw_g (lw_at lw_m1 17 rfl) rfl⟩
theorem wMv_458 : wMv (kw_V adE adK adV zr b L0 xs lo) kt_M458 := ⟨by decide +kernel, lw_sl17 (List.mem_of_getElem? (i := 10) rfl), lw_g (lw_at lw_m15 73 rfl) rfl, lw_g (lw_at lw_m1 17 rfl) rfl⟩
theorem wMv_459 : wMv (kw_V adE adK adV zr b L0 xs lo) kt_M459 := ⟨by decide +kernel, lw_sl18 (List.mem_of_getElem? (i := 15) rfl), lw_g (lw_at lw_m15 175 rfl) rfl, lw_g (lw_at lw_m1 17 rfl) rfl⟩
theorem wMv_460 : wMv (kw_V adE adK adV zr b L0 xs lo) kt_M460 := ⟨by decide +kernel, lw_sl27 (List.mem_of_getElem? (i := 0) rfl), lw_g (lw_at lw_m18 1 rfl) rfl, lw_g (lw_at lw_m1 17 rfl) rfl⟩
theorem wMs_461 : wMs (kw_V adE adK adV zr b L0 xs lo) kt_M461 := ⟨by decide +kernel, lw_g (lw_at lw_m17 93 rfl) rfl, lw_g (lw_at lw_m1 17 rfl) rfl⟩
theorem wMv_462 : wMv (kw_V adE adK adV zr b L0 xs lo) kt_M462 := ⟨by decide +kernel, lw_sl17 (List.mem_of_getElem? (i := 12) rfl), lw_g (lw_at lw_m15 81 rfl) rfl, lw_g (lw_at lw_m1 17 rfl) rfl⟩
theorem wMv_463 : wMv (kw_V adE adK adV zr b L0 xs lo) kt_M463 := ⟨by decide +kernel, lw_sl28 (List.mem_of_getElem? (i := 6) rfl), lw_g (lw_at lw_m18 89 rfl) rfl, lw_g (lw_at lw_m1 17 rfl) rfl⟩
theorem wMv_464 : wMv (kw_V adE adK adV zr b L0 xs lo) kt_M464 := ⟨by decide +kernel, lw_sl28 (List.mem_of_getElem? (i := 3) rfl), lw_g (lw_at lw_m18 77 rfl) rfl, lw_g (lw_at lw_m1 17 rfl) rfl⟩
theorem wMv_465 : wMv (kw_V adE adK adV zr b L0 xs lo) kt_M465 := ⟨by decide +kernel, lw_sl23 (List.mem_of_getElem? (i := 0) rfl), lw_g (lw_at lw_m16 200 rfl) rfl, lw_g (lw_at lw_m1 17 rfl) rfl⟩
theorem wMv_466 : wMv (kw_V adE adK adV zr b L0 xs lo) kt_M466 := ⟨by decide +kernel, lw_sl18 (List.mem_of_getElem? (i := 5) rfl), lw_g (lw_at lw_m15 135 rfl) rfl, lw_g (lw_at lw_m1 17 rfl) rfl⟩
theorem wMv_467 : wMv (kw_V adE adK adV zr b L0 xs lo) kt_M467 := ⟨by decide +kernel, lw_sl20 (List.mem_of_getElem? (i := 14) rfl), lw_g (lw_at lw_m16 64 rfl) rfl, lw_g (lw_at lw_m1 17 rfl) rfl⟩
theorem wMv_468 : wMv (kw_V adE adK adV zr b L0 xs lo) kt_M468 := ⟨by decide +kernel, lw_sl29 (List.mem_of_getElem? (i := 11) rfl), lw_g (lw_at lw_m18 176 rfl) rfl, lw_g (lw_at lw_m1 17 rfl) rfl⟩
theorem wMv_469 : wMv (kw_V adE adK adV zr b L0 xs lo) kt_M469 := ⟨by decide +kernel, lw_g (lw_at lw_m19 94 rfl) rfl, lw_g (lw_at lw_m19 93 rfl) rfl, lw_g (lw_at lw_m1 17 rfl) rfl⟩
theorem wMs_470 : wMs (kw_V adE adK adV zr b L0 xs lo) kt_M470 := ⟨by decide +kernel, lw_g (lw_at lw_m17 125 rfl) rfl, lw_g (lw_at lw_m1 17 rfl) rfl⟩
theorem wMv_471 : wMv (kw_V adE adK adV zr b L0 xs lo) kt_M471 := ⟨by decide +kernel, lw_sl21 (List.mem_of_getElem? (i := 8) rfl), lw_g (lw_at lw_m16 104 rfl) rfl, lw_g (lw_at lw_m1 17 rfl) rfl⟩
theorem wMv_472 : wMv (kw_V adE adK adV zr b L0 xs lo) kt_M472 := ⟨by decide +kernel, lw_sl21 (List.mem_of_getElem? (i := 2) rfl), lw_g (lw_at lw_m16 80 rfl) rfl, lw_g (lw_at lw_m1 17 rfl) rfl⟩
theorem wMv_473 : wMv (kw_V adE adK adV zr b L0 xs lo) kt_M473 := ⟨by decide +kernel, lw_sl20 (List.mem_of_getElem? (i := 9) rfl), lw_g (lw_at lw_m16 44 rfl) rfl, lw_g (lw_at lw_m1 17 rfl) rfl⟩
theorem wMv_474 : wMv (kw_V adE adK adV zr b L0 xs lo) kt_M474 := ⟨by decide +kernel, lw_sl20 (List.mem_of_getElem? (i := 11) rfl), lw_g (lw_at lw_m16 52 rfl) rfl, lw_g (lw_at lw_m1 17 rfl) rfl⟩
theorem wMv_475 : wMv (kw_V adE adK adV zr b L0 xs lo) kt_M475 := ⟨by decide +kernel, lw_sl20 (List.mem_of_getElem? (i := 10) rfl), lw_g (lw_at lw_m16 48 rfl) rfl, lw_g (lw_at lw_m1 17 rfl) rfl⟩
theorem wMv_476 : wMv (kw_V adE adK adV zr b L0 xs lo) kt_M476 := ⟨by decide +kernel, lw_sl20 (List.mem_of_getElem? (i := 12) rfl), lw_g (lw_at lw_m16 56 rfl) rfl, lw_g (lw_at lw_m1 17 rfl) rfl⟩
theorem wMv_477 : wMv (kw_V adE adK adV zr b L0 xs lo) kt_M477 := ⟨by decide +kernel, lw_sl21 (List.mem_of_getElem? (i := 0) rfl), lw_g (lw_at lw_m16 72 rfl) rfl, lw_g (lw_at lw_m1 17 rfl) rfl⟩
theorem wMv_478 : wMv (kw_V adE adK adV zr b L0 xs lo) kt_M478 := ⟨by decide +kernel, lw_sl21 (List.mem_of_getElem? (i := 7) rfl), lw_g (lw_at lw_m16 100 rfl) rfl, lw_g (lw_at lw_m1 17 rfl) rfl⟩
theorem wMv_479 : wMv (kw_V adE adK adV zr b L0 xs lo) kt_M479 := ⟨by decide +kernel, lw_sl21 (List.mem_of_getElem? (i := 9) rfl), lw_g (lw_at lw_m16 108 rfl) rfl, lw_g (lw_at lw_m1 17 rfl) rfl⟩
theorem wMv_480 : wMv (kw_V adE adK adV zr b L0 xs lo) kt_M480 := ⟨by decide +kernel, lw_sl17 (List.mem_of_getElem? (i := 2) rfl), lw_g (lw_at lw_m15 38 rfl) rfl, lw_g (lw_at lw_m1 17 rfl) rfl⟩
theorem wMv_481 : wMv (kw_V adE adK adV zr b L0 xs lo) kt_M481 := ⟨by decide +kernel, lw_sl21 (List.mem_of_getElem? (i := 10) rfl), lw_g (lw_at lw_m16 112 rfl) rfl, lw_g (lw_at lw_m1 17 rfl) rfl⟩
theorem wMv_482 : wMv (kw_V adE adK adV zr b L0 xs lo) kt_M482 := ⟨by decide +kernel, lw_sl21 (List.mem_of_getElem? (i := 13) rfl), lw_g (lw_at lw_m16 124 rfl) rfl, lw_g (lw_at lw_m1 17 rfl) rfl⟩
theorem wMv_483 : wMv (kw_V adE adK adV zr b L0 xs lo) kt_M483 := ⟨by decide +kernel, lw_sl21 (List.mem_of_getElem? (i := 3) rfl), lw_g (lw_at lw_m16 84 rfl) rfl, lw_g (lw_at lw_m1 17 rfl) rfl⟩
theorem wMv_484 : wMv (kw_V adE adK adV zr b L0 xs lo) kt_M484 := ⟨by decide +kernel, lw_sl21 (List.mem_of_getElem? (i := 12) rfl), lw_g (lw_at lw_m16 120 rfl) rfl, lw_g (lw_at lw_m1 17 rfl) rfl⟩
theorem wMv_485 : wMv (kw_V adE adK adV zr b L0 xs lo) kt_M485 := ⟨by decide +kernel, lw_sl21 (List.mem_of_getElem? (i := 4) rfl), lw_g (lw_at lw_m16 88 rfl) rfl, lw_g (lw_at lw_m1 17 rfl) rfl⟩
theorem wMv_486 : wMv (kw_V adE adK adV zr b L0 xs lo) kt_M486 := ⟨by decide +kernel, lw_sl21 (List.mem_of_getElem? (i := 5) rfl), lw_g (lw_at lw_m16 92 rfl) rfl, lw_g (lw_at lw_m1 17 rfl) rfl⟩
theorem wMv_487 : wMv (kw_V adE adK adV zr b L0 xs lo) kt_M487 := ⟨by decide +kernel, lw_sl20 (List.mem_of_getElem? (i := 5) rfl), lw_g (lw_at lw_m16 26 rfl) rfl, lw_g (lw_at lw_m1 17 rfl) rfl⟩
theorem wMv_488 : wMv (kw_V adE adK adV zr b L0 xs lo) kt_M488 := ⟨by decide +kernel, lw_sl31 (List.mem_of_getElem? (i := 7) rfl), lw_g (lw_at lw_m19 53 rfl) rfl, lw_g (lw_at lw_m1 17 rfl) rfl⟩
theorem wMv_489 : wMv (kw_V adE adK adV zr b L0 xs lo) kt_M489 := ⟨by decide +kernel, lw_sl31 (List.mem_of_getElem? (i := 6) rfl), lw_g (lw_at lw_m19 49 rfl) rfl, lw_g (lw_at lw_m1 17 rfl) rfl⟩
theorem wMv_490 : wMv (kw_V adE adK adV zr b L0 xs lo) kt_M490 := ⟨by decide +kernel, lw_sl26 (List.mem_of_getElem? (i := 7) rfl), lw_g (lw_at lw_m17 204 rfl) rfl, lw_g (lw_at lw_m1 17 rfl) rfl⟩
theorem wMv_491 : wMv (kw_V adE adK adV zr b L0 xs lo) kt_M491 := ⟨by decide +kernel, lw_sl26 (List.mem_of_getElem? (i := 12) rfl), lw_g (lw_at lw_m17 224 rfl) rfl, lw_g (lw_at lw_m1 17 rfl) rfl⟩
theorem wMv_492 : wMv (kw_V adE adK adV zr b L0 xs lo) kt_M492 := ⟨by decide +kernel, lw_sl21 (List.mem_of_getElem? (i := 6) rfl), lw_g (lw_at lw_m16 96 rfl) rfl, lw_g (lw_at lw_m1 17 rfl) rfl⟩
theorem wMv_493 : wMv (kw_V adE adK adV zr b L0 xs lo) kt_M493 := ⟨by decide +kernel, lw_sl25 (List.mem_of_getElem? (i := 2) rfl), lw_g (lw_at lw_m17 110 rfl) rfl, lw_g (lw_at lw_m1 17 rfl) rfl⟩
theorem wMv_494 : wMv (kw_V adE adK adV zr b L0 xs lo) kt_M494 := ⟨by decide +kernel, lw_sl17 (List.mem_of_getElem? (i := 14) rfl), lw_g (lw_at lw_m15 107 rfl) rfl, lw_g (lw_at lw_m1 17 rfl) rfl⟩
theorem wMv_495 : wMv (kw_V adE adK adV zr b L0 xs lo) kt_M495 := ⟨by decide +kernel, lw_sl17 (List.mem_of_getElem? (i := 5) rfl), lw_g (lw_at lw_m15 53 rfl) rfl, lw_g (lw_at lw_m1 17 rfl) rfl⟩
theorem wMv_496 : wMv (kw_V adE adK adV zr b L0 xs lo) kt_M496 := ⟨by decide +kernel, lw_sl27 (List.mem_of_getElem? (i := 6) rfl), lw_g (lw_at lw_m18 25 rfl) rfl, lw_g (lw_at lw_m1 17 rfl) rfl⟩
theorem wMv_497 : wMv (kw_V adE adK adV zr b L0 xs lo) kt_M497 := ⟨by decide +kernel, lw_sl18 (List.mem_of_getElem? (i := 4) rfl), lw_g (lw_at lw_m15 131 rfl) rfl, lw_g (lw_at lw_m1 17 rfl) rfl⟩
theorem wMv_498 : wMv (kw_V adE adK adV zr b L0 xs lo) kt_M498 := ⟨by decide +kernel, lw_sl18 (List.mem_of_getElem? (i := 11) rfl), lw_g (lw_at lw_m15 159 rfl) rfl, lw_g (lw_at lw_m1 17 rfl) rfl⟩
theorem wMs_499 : wMs (kw_V adE adK adV zr b L0 xs lo) kt_M499 := ⟨by decide +kernel, lw_g (lw_at lw_m15 99 rfl) rfl, lw_g (lw_at lw_m1 17 rfl) rfl⟩
theorem wMv_500 : wMv (kw_V adE adK adV zr b L0 xs lo) kt_M500 := ⟨by decide +kernel, lw_g (lw_at lw_m19 82 rfl) rfl, lw_g (lw_at lw_m19 81 rfl) rfl, lw_g (lw_at lw_m1 17 rfl) rfl⟩
theorem wMv_501 : wMv (kw_V adE adK adV zr b L0 xs lo) kt_M501 := ⟨by decide +kernel, lw_sl29 (List.mem_of_getElem? (i := 3) rfl), lw_g (lw_at lw_m18 141 rfl) rfl, lw_g (lw_at lw_m1 17 rfl) rfl⟩
theorem wMv_502 : wMv (kw_V adE adK adV zr b L0 xs lo) kt_M502 := ⟨by decide +kernel, lw_sl17 (List.mem_of_getElem? (i := 8) rfl), lw_g (lw_at lw_m15 65 rfl) rfl, lw_g (lw_at lw_m1 17 rfl) rfl⟩
theorem wMv_503 : wMv (kw_V adE adK adV zr b L0 xs lo) kt_M503 := ⟨by decide +kernel, lw_sl19 (List.mem_of_getElem? (i := 7) rfl), lw_g (lw_at lw_m15 210 rfl) rfl, lw_g (lw_at lw_m1 17 rfl) rfl⟩
theorem wMv_504 : wMv (kw_V adE adK adV zr b L0 xs lo) kt_M504 := ⟨by decide +kernel, lw_sl24 (List.mem_of_getElem? (i := 1) rfl), lw_g (lw_at lw_m17 36 rfl) rfl, lw_g (lw_at lw_m1 17 rfl) rfl⟩
theorem wMv_505 : wMv (kw_V adE adK adV zr b L0 xs lo) kt_M505 := ⟨by decide +kernel, lw_sl29 (List.mem_of_getElem? (i := 8) rfl), lw_g (lw_at lw_m18 161 rfl) rfl, lw_g (lw_at lw_m1 17 rfl) rfl⟩
theorem wMv_506 : wMv (kw_V adE adK adV zr b L0 xs lo) kt_M506 := ⟨by decide +kernel, lw_sl24 (List.mem_of_getElem? (i := 0) rfl), lw_g (lw_at lw_m17 32 rfl) rfl, lw_g (lw_at lw_m1 17 rfl) rfl⟩
theorem wMv_507 : wMv (kw_V adE adK adV zr b L0 xs lo) kt_M507 := ⟨by decide +kernel, lw_sl19 (List.mem_of_getElem? (i := 6) rfl), lw_g (lw_at lw_m15 206 rfl) rfl, lw_g (lw_at lw_m1 17 rfl) rfl⟩
theorem wMv_508 : wMv (kw_V adE adK adV zr b L0 xs lo) kt_M508 := ⟨by decide +kernel, lw_sl23 (List.mem_of_getElem? (i := 14) rfl), lw_g (lw_at lw_m17 24 rfl) rfl, lw_g (lw_at lw_m1 17 rfl) rfl⟩
theorem wMv_509 : wMv (kw_V adE adK adV zr b L0 xs lo) kt_M509 := ⟨by decide +kernel, lw_sl25 (List.mem_of_getElem? (i := 8) rfl), lw_g (lw_at lw_m17 140 rfl) rfl, lw_g (lw_at lw_m1 17 rfl) rfl⟩
theorem wMv_510 : wMv (kw_V adE adK adV zr b L0 xs lo) kt_M510 := ⟨by decide +kernel, lw_sl30 (List.mem_of_getElem? (i := 11) rfl), lw_g (lw_at lw_m19 1 rfl) rfl, lw_g (lw_at lw_m1 17 rfl) rfl⟩
theorem wMv_511 : wMv (kw_V adE adK adV zr b L0 xs lo) kt_M511 := ⟨by decide +kernel, lw_sl27 (List.mem_of_getElem? (i := 3) rfl), lw_g (lw_at lw_m18 13 rfl) rfl, lw_g (lw_at lw_m1 17 rfl) rfl⟩
theorem wMv_512 : wMv (kw_V adE adK adV zr b L0 xs lo) kt_M512 := ⟨by decide +kernel, lw_sl19 (List.mem_of_getElem? (i := 8) rfl), lw_g (lw_at lw_m15 214 rfl) rfl, lw_g (lw_at lw_m1 17 rfl) rfl⟩
theorem wMv_513 : wMv (kw_V adE adK adV zr b L0 xs lo) kt_M513 := ⟨by decide +kernel, lw_sl27 (List.mem_of_getElem? (i := 1) rfl), lw_g (lw_at lw_m18 5 rfl) rfl, lw_g (lw_at lw_m1 17 rfl) rfl⟩
theorem wMv_514 : wMv (kw_V adE adK adV zr b L0 xs lo) kt_M514 := ⟨by decide +kernel, lw_sl17 (List.mem_of_getElem? (i := 9) rfl), lw_g (lw_at lw_m15 69 rfl) rfl, lw_g (lw_at lw_m1 17 rfl) rfl⟩
theorem wMv_515 : wMv (kw_V adE adK adV zr b L0 xs lo) kt_M515 := ⟨by decide +kernel, lw_g (lw_at lw_m19 86 rfl) rfl, lw_g (lw_at lw_m19 85 rfl) rfl, lw_g (lw_at lw_m1 17 rfl) rfl⟩
theorem wMv_516 : wMv (kw_V adE adK adV zr b L0 xs lo) kt_M516 := ⟨by decide +kernel, lw_sl19 (List.mem_of_getElem? (i := 15) rfl), lw_g (lw_at lw_m16 2 rfl) rfl, lw_g (lw_at lw_m1 17 rfl) rfl⟩
theorem wMv_517 : wMv (kw_V adE adK adV zr b L0 xs lo) kt_M517 := ⟨by decide +kernel, lw_sl19 (List.mem_of_getElem? (i := 5) rfl), lw_g (lw_at lw_m15 202 rfl) rfl, lw_g (lw_at lw_m1 17 rfl) rfl⟩
theorem wMv_518 : wMv (kw_V adE adK adV zr b L0 xs lo) kt_M518 := ⟨by decide +kernel, lw_sl26 (List.mem_of_getElem? (i := 13) rfl), lw_g (lw_at lw_m17 228 rfl) rfl, lw_g (lw_at lw_m1 17 rfl) rfl⟩
theorem wMv_519 : wMv (kw_V adE adK adV zr b L0 xs lo) kt_M519 := ⟨by decide +kernel, lw_sl16 (List.mem_of_getElem? (i := 13) rfl), lw_g (lw_at lw_m14 239 rfl) rfl, lw_g (lw_at lw_m1 17 rfl) rfl⟩
theorem wMv_520 : wMv (kw_V adE adK adV zr b L0 xs lo) kt_M520 := ⟨by decide +kernel, lw_g (lw_at lw_m15 7 rfl) rfl, lw_g (lw_at lw_m15 6 rfl) rfl, lw_g (lw_at lw_m1 17 rfl) rfl⟩
theorem wMv_521 : wMv (kw_V adE adK adV zr b L0 xs lo) kt_M521 := ⟨by decide +kernel, lw_sl30 (List.mem_of_getElem? (i := 10) rfl), lw_g (lw_at lw_m18 237 rfl) rfl, lw_g (lw_at lw_m1 17 rfl) rfl⟩
theorem wMv_522 : wMv (kw_V adE adK adV zr b L0 xs lo) kt_M522 := ⟨by decide +kernel, lw_sl29 (List.mem_of_getElem? (i := 14) rfl), lw_g (lw_at lw_m18 188 rfl) rfl, lw_g (lw_at lw_m1 17 rfl) rfl⟩
theorem wMv_523 : wMv (kw_V adE adK adV zr b L0 xs lo) kt_M523 := ⟨by decide +kernel, lw_sl29 (List.mem_of_getElem? (i := 15) rfl), lw_g (lw_at lw_m18 192 rfl) rfl, lw_g (lw_at lw_m1 17 rfl) rfl⟩
theorem wMv_524 : wMv (kw_V adE adK adV zr b L0 xs lo) kt_M524 := ⟨by decide +kernel, lw_sl26 (List.mem_of_getElem? (i := 8) rfl), lw_g (lw_at lw_m17 208 rfl) rfl, lw_g (lw_at lw_m1 17 rfl) rfl⟩
theorem wMv_525 : wMv (kw_V adE adK adV zr b L0 xs lo) kt_M525 := ⟨by decide +kernel, lw_sl19 (List.mem_of_getElem? (i := 14) rfl), lw_g (lw_at lw_m15 238 rfl) rfl, lw_g (lw_at lw_m1 17 rfl) rfl⟩
theorem wMv_526 : wMv (kw_V adE adK adV zr b L0 xs lo) kt_M526 := ⟨by decide +kernel, lw_sl20 (List.mem_of_getElem? (i := 4) rfl), lw_g (lw_at lw_m16 22 rfl) rfl, lw_g (lw_at lw_m1 17 rfl) rfl⟩
theorem wMv_527 : wMv (kw_V adE adK adV zr b L0 xs lo) kt_M527 := ⟨by decide +kernel, lw_g (lw_at lw_m19 41 rfl) rfl, lw_g (lw_at lw_m19 40 rfl) rfl, lw_g (lw_at lw_m1 17 rfl) rfl⟩
theorem wMs_528 : wMs (kw_V adE adK adV zr b L0 xs lo) kt_M528 := ⟨by decide +kernel, lw_g (lw_at lw_m17 12 rfl) rfl, lw_g (lw_at lw_m1 17 rfl) rfl⟩
theorem wMv_529 : wMv (kw_V adE adK adV zr b L0 xs lo) kt_M529 := ⟨by decide +kernel, lw_sl29 (List.mem_of_getElem? (i := 4) rfl), lw_g (lw_at lw_m18 145 rfl) rfl, lw_g (lw_at lw_m1 17 rfl) rfl⟩
theorem wMv_530 : wMv (kw_V adE adK adV zr b L0 xs lo) kt_M530 := ⟨by decide +kernel, lw_sl17 (List.mem_of_getElem? (i := 0) rfl), lw_g (lw_at lw_m15 19 rfl) rfl, lw_g (lw_at lw_m1 17 rfl) rfl⟩
theorem wMv_531 : wMv (kw_V adE adK adV zr b L0 xs lo) kt_M531 := ⟨by decide +kernel, lw_sl16 (List.mem_of_getElem? (i := 14) rfl), lw_g (lw_at lw_m15 11 rfl) rfl, lw_g (lw_at lw_m1 17 rfl) rfl⟩
theorem wMv_532 : wMv (kw_V adE adK adV zr b L0 xs lo) kt_M532 := ⟨by decide +kernel, lw_sl26 (List.mem_of_getElem? (i := 2) rfl), lw_g (lw_at lw_m17 180 rfl) rfl, lw_g (lw_at lw_m1 17 rfl) rfl⟩
theorem wMv_533 : wMv (kw_V adE adK adV zr b L0 xs lo) kt_M533 := ⟨by decide +kernel, lw_sl26 (List.mem_of_getElem? (i := 0) rfl), lw_g (lw_at lw_m17 172 rfl) rfl, lw_g (lw_at lw_m1 17 rfl) rfl⟩
theorem wMv_534 : wMv (kw_V adE adK adV zr b L0 xs lo) kt_M534 := ⟨by decide +kernel, lw_sl26 (List.mem_of_getElem? (i := 1) rfl), lw_g (lw_at lw_m17 176 rfl) rfl, lw_g (lw_at lw_m1 17 rfl) rfl⟩
theorem wMv_535 : wMv (kw_V adE adK adV zr b L0 xs lo) kt_M535 := ⟨by decide +kernel, lw_sl26 (List.mem_of_getElem? (i := 3) rfl), lw_g (lw_at lw_m17 184 rfl) rfl, lw_g (lw_at lw_m1 17 rfl) rfl⟩
theorem wMv_536 : wMv (kw_V adE adK adV zr b L0 xs lo) kt_M536 := ⟨by decide +kernel, lw_sl23 (List.mem_of_getElem? (i := 2) rfl), lw_g (lw_at lw_m16 209 rfl) rfl, lw_g (lw_at lw_m1 17 rfl) rfl⟩
theorem wMv_537 : wMv (kw_V adE adK adV zr b L0 xs lo) kt_M537 := ⟨by decide +kernel, lw_sl17 (List.mem_of_getElem? (i := 4) rfl), lw_g (lw_at lw_m15 49 rfl) rfl, lw_g (lw_at lw_m1 17 rfl) rfl⟩
theorem wMv_538 : wMv (kw_V adE adK adV zr b L0 xs lo) kt_M538 := ⟨by decide +kernel, lw_sl27 (List.mem_of_getElem? (i := 15) rfl), lw_g (lw_at lw_m18 61 rfl) rfl, lw_g (lw_at lw_m1 17 rfl) rfl⟩
theorem wMv_539 : wMv (kw_V adE adK adV zr b L0 xs lo) kt_M539 := ⟨by decide +kernel, lw_sl22 (List.mem_of_getElem? (i := 2) rfl), lw_g (lw_at lw_m16 144 rfl) rfl, lw_g (lw_at lw_m1 17 rfl) rfl⟩
theorem wMv_540 : wMv (kw_V adE adK adV zr b L0 xs lo) kt_M540 := ⟨by decide +kernel, lw_sl27 (List.mem_of_getElem? (i := 7) rfl), lw_g (lw_at lw_m18 29 rfl) rfl, lw_g (lw_at lw_m1 17 rfl) rfl⟩
theorem wMv_541 : wMv (kw_V adE adK adV zr b L0 xs lo) kt_M541 := ⟨by decide +kernel, lw_sl28 (List.mem_of_getElem? (i := 14) rfl), lw_g (lw_at lw_m18 121 rfl) rfl, lw_g (lw_at lw_m1 17 rfl) rfl⟩
theorem wMv_542 : wMv (kw_V adE adK adV zr b L0 xs lo) kt_M542 := ⟨by decide +kernel, lw_sl28 (List.mem_of_getElem? (i := 10) rfl), lw_g (lw_at lw_m18 105 rfl) rfl, lw_g (lw_at lw_m1 17 rfl) rfl⟩
theorem wMv_543 : wMv (kw_V adE adK adV zr b L0 xs lo) kt_M543 := ⟨by decide +kernel, lw_sl31 (List.mem_of_getElem? (i := 10) rfl), lw_g (lw_at lw_m19 74 rfl) rfl, lw_g (lw_at lw_m1 17 rfl) rfl⟩
theorem wMv_544 : wMv (kw_V adE adK adV zr b L0 xs lo) kt_M544 := ⟨by decide +kernel, lw_sl31 (List.mem_of_getElem? (i := 9) rfl), lw_g (lw_at lw_m19 62 rfl) rfl, lw_g (lw_at lw_m1 17 rfl) rfl⟩
theorem wMv_545 : wMv (kw_V adE adK adV zr b L0 xs lo) kt_M545 := ⟨by decide +kernel, lw_sl17 (List.mem_of_getElem? (i := 13) rfl), lw_g (lw_at lw_m15 103 rfl) rfl, lw_g (lw_at lw_m1 17 rfl) rfl⟩
theorem wMv_546 : wMv (kw_V adE adK adV zr b L0 xs lo) kt_M546 := ⟨by decide +kernel, lw_sl30 (List.mem_of_getElem? (i := 1) rfl), lw_g (lw_at lw_m18 200 rfl) rfl, lw_g (lw_at lw_m1 17 rfl) rfl⟩
theorem wMv_547 : wMv (kw_V adE adK adV zr b L0 xs lo) kt_M547 := ⟨by decide +kernel, lw_sl26 (List.mem_of_getElem? (i := 10) rfl), lw_g (lw_at lw_m17 216 rfl) rfl, lw_g (lw_at lw_m1 17 rfl) rfl⟩
theorem wMv_548 : wMv (kw_V adE adK adV zr b L0 xs lo) kt_M548 := ⟨by decide +kernel, lw_sl17 (List.mem_of_getElem? (i := 6) rfl), lw_g (lw_at lw_m15 57 rfl) rfl, lw_g (lw_at lw_m1 17 rfl) rfl⟩
theorem wMv_549 : wMv (kw_V adE adK adV zr b L0 xs lo) kt_M549 := ⟨by decide +kernel, lw_sl24 (List.mem_of_getElem? (i := 9) rfl), lw_g (lw_at lw_m17 70 rfl) rfl, lw_g (lw_at lw_m1 17 rfl) rfl⟩
theorem wMv_550 : wMv (kw_V adE adK adV zr b L0 xs lo) kt_M550 := ⟨by decide +kernel, lw_sl20 (List.mem_of_getElem? (i := 7) rfl), lw_g (lw_at lw_m16 35 rfl) rfl, lw_g (lw_at lw_m1 17 rfl) rfl⟩
theorem wMv_551 : wMv (kw_V adE adK adV zr b L0 xs lo) kt_M551 := ⟨by decide +kernel, lw_sl30 (List.mem_of_getElem? (i := 3) rfl), lw_g (lw_at lw_m18 208 rfl) rfl, lw_g (lw_at lw_m1 17 rfl) rfl⟩
theorem wMv_552 : wMv (kw_V adE adK adV zr b L0 xs lo) kt_M552 := ⟨by decide +kernel, lw_sl30 (List.mem_of_getElem? (i := 13) rfl), lw_g (lw_at lw_m19 9 rfl) rfl, lw_g (lw_at lw_m1 17 rfl) rfl⟩
theorem wMv_553 : wMv (kw_V adE adK adV zr b L0 xs lo) kt_M553 := ⟨by decide +kernel, lw_sl18 (List.mem_of_getElem? (i := 8) rfl), lw_g (lw_at lw_m15 147 rfl) rfl, lw_g (lw_at lw_m1 17 rfl) rfl⟩
theorem wMv_554 : wMv (kw_V adE adK adV zr b L0 xs lo) kt_M554 := ⟨by decide +kernel, lw_sl18 (List.mem_of_getElem? (i := 0) rfl), lw_g (lw_at lw_m15 115 rfl) rfl, lw_g (lw_at lw_m1 17 rfl) rfl⟩
theorem wMv_555 : wMv (kw_V adE adK adV zr b L0 xs lo) kt_M555 := ⟨by decide +kernel, lw_sl30 (List.mem_of_getElem? (i := 9) rfl), lw_g (lw_at lw_m18 233 rfl) rfl, lw_g (lw_at lw_m1 17 rfl) rfl⟩
theorem wMv_556 : wMv (kw_V adE adK adV zr b L0 xs lo) kt_M556 := ⟨by decide +kernel, lw_sl29 (List.mem_of_getElem? (i := 2) rfl), lw_g (lw_at lw_m18 137 rfl) rfl, lw_g (lw_at lw_m1 17 rfl) rfl⟩
theorem wMv_557 : wMv (kw_V adE adK adV zr b L0 xs lo) kt_M557 := ⟨by decide +kernel, lw_sl28 (List.mem_of_getElem? (i := 11) rfl), lw_g (lw_at lw_m18 109 rfl) rfl, lw_g (lw_at lw_m1 17 rfl) rfl⟩
theorem wMv_558 : wMv (kw_V adE adK adV zr b L0 xs lo) kt_M558 := ⟨by decide +kernel, lw_sl29 (List.mem_of_getElem? (i := 6) rfl), lw_g (lw_at lw_m18 153 rfl) rfl, lw_g (lw_at lw_m1 17 rfl) rfl⟩
theorem wMv_559 : wMv (kw_V adE adK adV zr b L0 xs lo) kt_M559 := ⟨by decide +kernel, lw_sl22 (List.mem_of_getElem? (i := 1) rfl), lw_g (lw_at lw_m16 140 rfl) rfl, lw_g (lw_at lw_m1 17 rfl) rfl⟩
theorem wMv_560 : wMv (kw_V adE adK adV zr b L0 xs lo) kt_M560 := ⟨by decide +kernel, lw_sl20 (List.mem_of_getElem? (i := 15) rfl), lw_g (lw_at lw_m16 68 rfl) rfl, lw_g (lw_at lw_m1 17 rfl) rfl⟩
theorem wMv_561 : wMv (kw_V adE adK adV zr b L0 xs lo) kt_M561 := ⟨by decide +kernel, lw_g (lw_at lw_m14 231 rfl) rfl, lw_g (lw_at lw_m14 230 rfl) rfl, lw_g (lw_at lw_m1 17 rfl) rfl⟩
theorem wMv_562 : wMv (kw_V adE adK adV zr b L0 xs lo) kt_M562 := ⟨by decide +kernel, lw_sl17 (List.mem_of_getElem? (i := 7) rfl), lw_g (lw_at lw_m15 61 rfl) rfl, lw_g (lw_at lw_m1 17 rfl) rfl⟩
theorem wMv_563 : wMv (kw_V adE adK adV zr b L0 xs lo) kt_M563 := ⟨by decide +kernel, lw_sl25 (List.mem_of_getElem? (i := 6) rfl), lw_g (lw_at lw_m17 132 rfl) rfl, lw_g (lw_at lw_m1 17 rfl) rfl⟩
theorem wMv_564 : wMv (kw_V adE adK adV zr b L0 xs lo) kt_M564 := ⟨by decide +kernel, lw_sl25 (List.mem_of_getElem? (i := 4) rfl), lw_g (lw_at lw_m17 118 rfl) rfl, lw_g (lw_at lw_m1 17 rfl) rfl⟩
theorem wMv_565 : wMv (kw_V adE adK adV zr b L0 xs lo) kt_M565 := ⟨by decide +kernel, lw_sl23 (List.mem_of_getElem? (i := 10) rfl), lw_g (lw_at lw_m17 5 rfl) rfl, lw_g (lw_at lw_m1 17 rfl) rfl⟩
theorem wMv_566 : wMv (kw_V adE adK adV zr b L0 xs lo) kt_M566 := ⟨by decide +kernel, lw_sl23 (List.mem_of_getElem? (i := 9) rfl), lw_g (lw_at lw_m17 1 rfl) rfl, lw_g (lw_at lw_m1 17 rfl) rfl⟩
theorem wMv_567 : wMv (kw_V adE adK adV zr b L0 xs lo) kt_M567 := ⟨by decide +kernel, lw_sl22 (List.mem_of_getElem? (i := 13) rfl), lw_g (lw_at lw_m16 188 rfl) rfl, lw_g (lw_at lw_m1 17 rfl) rfl⟩
theorem wMv_568 : wMv (kw_V adE adK adV zr b L0 xs lo) kt_M568 := ⟨by decide +kernel, lw_sl22 (List.mem_of_getElem? (i := 12) rfl), lw_g (lw_at lw_m16 184 rfl) rfl, lw_g (lw_at lw_m1 17 rfl) rfl⟩
theorem wMv_569 : wMv (kw_V adE adK adV zr b L0 xs lo) kt_M569 := ⟨by decide +kernel, lw_sl23 (List.mem_of_getElem? (i := 11) rfl), lw_g (lw_at lw_m17 9 rfl) rfl, lw_g (lw_at lw_m1 17 rfl) rfl⟩
theorem wMv_570 : wMv (kw_V adE adK adV zr b L0 xs lo) kt_M570 := ⟨by decide +kernel, lw_sl22 (List.mem_of_getElem? (i := 11) rfl), lw_g (lw_at lw_m16 180 rfl) rfl, lw_g (lw_at lw_m1 17 rfl) rfl⟩
theorem wMv_571 : wMv (kw_V adE adK adV zr b L0 xs lo) kt_M571 := ⟨by decide +kernel, lw_sl21 (List.mem_of_getElem? (i := 14) rfl), lw_g (lw_at lw_m16 128 rfl) rfl, lw_g (lw_at lw_m1 17 rfl) rfl⟩
theorem wMv_572 : wMv (kw_V adE adK adV zr b L0 xs lo) kt_M572 := ⟨by decide +kernel, lw_sl24 (List.mem_of_getElem? (i := 5) rfl), lw_g (lw_at lw_m17 54 rfl) rfl, lw_g (lw_at lw_m1 17 rfl) rfl⟩
theorem wMv_573 : wMv (kw_V adE adK adV zr b L0 xs lo) kt_M573 := ⟨by decide +kernel, lw_sl23 (List.mem_of_getElem? (i := 13) rfl), lw_g (lw_at lw_m17 20 rfl) rfl, lw_g (lw_at lw_m1 17 rfl) rfl⟩
theorem wMv_574 : wMv (kw_V adE adK adV zr b L0 xs lo) kt_M574 := ⟨by decide +kernel, lw_sl22 (List.mem_of_getElem? (i := 0) rfl), lw_g (lw_at lw_m16 136 rfl) rfl, lw_g (lw_at lw_m1 17 rfl) rfl⟩
theorem wMv_575 : wMv (kw_V adE adK adV zr b L0 xs lo) kt_M575 := ⟨by decide +kernel, lw_sl21 (List.mem_of_getElem? (i := 15) rfl), lw_g (lw_at lw_m16 132 rfl) rfl, lw_g (lw_at lw_m1 17 rfl) rfl⟩
theorem wMv_576 : wMv (kw_V adE adK adV zr b L0 xs lo) kt_M576 := ⟨by decide +kernel, lw_sl22 (List.mem_of_getElem? (i := 3) rfl), lw_g (lw_at lw_m16 148 rfl) rfl, lw_g (lw_at lw_m1 17 rfl) rfl⟩
theorem wMv_577 : wMv (kw_V adE adK adV zr b L0 xs lo) kt_M577 := ⟨by decide +kernel, lw_sl22 (List.mem_of_getElem? (i := 14) rfl), lw_g (lw_at lw_m16 192 rfl) rfl, lw_g (lw_at lw_m1 17 rfl) rfl⟩
theorem wMv_578 : wMv (kw_V adE adK adV zr b L0 xs lo) kt_M578 := ⟨by decide +kernel, lw_sl23 (List.mem_of_getElem? (i := 12) rfl), lw_g (lw_at lw_m17 16 rfl) rfl, lw_g (lw_at lw_m1 17 rfl) rfl⟩
theorem wMv_579 : wMv (kw_V adE adK adV zr b L0 xs lo) kt_M579 := ⟨by decide +kernel, lw_sl24 (List.mem_of_getElem? (i := 2) rfl), lw_g (lw_at lw_m17 40 rfl) rfl, lw_g (lw_at lw_m1 17 rfl) rfl⟩
theorem wMv_580 : wMv (kw_V adE adK adV zr b L0 xs lo) kt_M580 := ⟨by decide +kernel, lw_sl23 (List.mem_of_getElem? (i := 15) rfl), lw_g (lw_at lw_m17 28 rfl) rfl, lw_g (lw_at lw_m1 17 rfl) rfl⟩
theorem wMv_581 : wMv (kw_V adE adK adV zr b L0 xs lo) kt_M581 := ⟨by decide +kernel, lw_sl22 (List.mem_of_getElem? (i := 8) rfl), lw_g (lw_at lw_m16 168 rfl) rfl, lw_g (lw_at lw_m1 17 rfl) rfl⟩
theorem wMv_582 : wMv (kw_V adE adK adV zr b L0 xs lo) kt_M582 := ⟨by decide +kernel, lw_sl22 (List.mem_of_getElem? (i := 4) rfl), lw_g (lw_at lw_m16 152 rfl) rfl, lw_g (lw_at lw_m1 17 rfl) rfl⟩
theorem wMv_583 : wMv (kw_V adE adK adV zr b L0 xs lo) kt_M583 := ⟨by decide +kernel, lw_sl24 (List.mem_of_getElem? (i := 3) rfl), lw_g (lw_at lw_m17 44 rfl) rfl, lw_g (lw_at lw_m1 17 rfl) rfl⟩
theorem wMv_584 : wMv (kw_V adE adK adV zr b L0 xs lo) kt_M584 := ⟨by decide +kernel, lw_sl23 (List.mem_of_getElem? (i := 8) rfl), lw_g (lw_at lw_m16 237 rfl) rfl, lw_g (lw_at lw_m1 17 rfl) rfl⟩
theorem wMv_585 : wMv (kw_V adE adK adV zr b L0 xs lo) kt_M585 := ⟨by decide +kernel, lw_sl24 (List.mem_of_getElem? (i := 4) rfl), lw_g (lw_at lw_m17 48 rfl) rfl, lw_g (lw_at lw_m1 17 rfl) rfl⟩
theorem wMv_586 : wMv (kw_V adE adK adV zr b L0 xs lo) kt_M586 := ⟨by decide +kernel, lw_sl22 (List.mem_of_getElem? (i := 7) rfl), lw_g (lw_at lw_m16 164 rfl) rfl, lw_g (lw_at lw_m1 17 rfl) rfl⟩
theorem wMv_587 : wMv (kw_V adE adK adV zr b L0 xs lo) kt_M587 := ⟨by decide +kernel, lw_sl31 (List.mem_of_getElem? (i := 1) rfl), lw_g (lw_at lw_m19 25 rfl) rfl, lw_g (lw_at lw_m1 17 rfl) rfl⟩
theorem wMv_588 : wMv (kw_V adE adK adV zr b L0 xs lo) kt_M588 := ⟨by decide +kernel, lw_sl25 (List.mem_of_getElem? (i := 10) rfl), lw_g (lw_at lw_m17 148 rfl) rfl, lw_g (lw_at lw_m1 17 rfl) rfl⟩
theorem wMv_589 : wMv (kw_V adE adK adV zr b L0 xs lo) kt_M589 := ⟨by decide +kernel, lw_sl25 (List.mem_of_getElem? (i := 9) rfl), lw_g (lw_at lw_m17 144 rfl) rfl, lw_g (lw_at lw_m1 17 rfl) rfl⟩
theorem wMv_590 : wMv (kw_V adE adK adV zr b L0 xs lo) kt_M590 := ⟨by decide +kernel, lw_sl25 (List.mem_of_getElem? (i := 11) rfl), lw_g (lw_at lw_m17 152 rfl) rfl, lw_g (lw_at lw_m1 17 rfl) rfl⟩
theorem wMv_591 : wMv (kw_V adE adK adV zr b L0 xs lo) kt_M591 := ⟨by decide +kernel, lw_sl24 (List.mem_of_getElem? (i := 10) rfl), lw_g (lw_at lw_m17 74 rfl) rfl, lw_g (lw_at lw_m1 17 rfl) rfl⟩
theorem wMv_592 : wMv (kw_V adE adK adV zr b L0 xs lo) kt_M592 := ⟨by decide +kernel, lw_sl24 (List.mem_of_getElem? (i := 11) rfl), lw_g (lw_at lw_m17 78 rfl) rfl, lw_g (lw_at lw_m1 17 rfl) rfl⟩
theorem wMv_593 : wMv (kw_V adE adK adV zr b L0 xs lo) kt_M593 := ⟨by decide +kernel, lw_sl24 (List.mem_of_getElem? (i := 12) rfl), lw_g (lw_at lw_m17 82 rfl) rfl, lw_g (lw_at lw_m1 17 rfl) rfl⟩
theorem wMv_594 : wMv (kw_V adE adK adV zr b L0 xs lo) kt_M594 := ⟨by decide +kernel, lw_sl31 (List.mem_of_getElem? (i := 3) rfl), lw_g (lw_at lw_m19 33 rfl) rfl, lw_g (lw_at lw_m1 17 rfl) rfl⟩
theorem wMv_595 : wMv (kw_V adE adK adV zr b L0 xs lo) kt_M595 := ⟨by decide +kernel, lw_sl18 (List.mem_of_getElem? (i := 6) rfl), lw_g (lw_at lw_m15 139 rfl) rfl, lw_g (lw_at lw_m1 17 rfl) rfl⟩
theorem wMv_596 : wMv (kw_V adE adK adV zr b L0 xs lo) kt_M596 := ⟨by decide +kernel, lw_sl30 (List.mem_of_getElem? (i := 0) rfl), lw_g (lw_at lw_m18 196 rfl) rfl, lw_g (lw_at lw_m1 17 rfl) rfl⟩
theorem wMv_597 : wMv (kw_V adE adK adV zr b L0 xs lo) kt_M597 := ⟨by decide +kernel, lw_sl29 (List.mem_of_getElem? (i := 12) rfl), lw_g (lw_at lw_m18 180 rfl) rfl, lw_g (lw_at lw_m1 17 rfl) rfl⟩
theorem wMv_598 : wMv (kw_V adE adK adV zr b L0 xs lo) kt_M598 := ⟨by decide +kernel, lw_sl31 (List.mem_of_getElem? (i := 11) rfl), lw_g (lw_at lw_m19 78 rfl) rfl, lw_g (lw_at lw_m1 17 rfl) rfl⟩
theorem wMv_599 : wMv (kw_V adE adK adV zr b L0 xs lo) kt_M599 := ⟨by decide +kernel, lw_sl31 (List.mem_of_getElem? (i := 8) rfl), lw_g (lw_at lw_m19 58 rfl) rfl, lw_g (lw_at lw_m1 17 rfl) rfl⟩
theorem wMv_600 : wMv (kw_V adE adK adV zr b L0 xs lo) kt_M600 := ⟨by decide +kernel, lw_sl18 (List.mem_of_getElem? (i := 7) rfl), lw_g (lw_at lw_m15 143 rfl) rfl, lw_g (lw_at lw_m1 17 rfl) rfl⟩
theorem wMv_601 : wMv (kw_V adE adK adV zr b L0 xs lo) kt_M601 := ⟨by decide +kernel, lw_sl18 (List.mem_of_getElem? (i := 2) rfl), lw_g (lw_at lw_m15 123 rfl) rfl, lw_g (lw_at lw_m1 17 rfl) rfl⟩
theorem wMv_602 : wMv (kw_V adE adK adV zr b L0 xs lo) kt_M602 := ⟨by decide +kernel, lw_sl22 (List.mem_of_getElem? (i := 9) rfl), lw_g (lw_at lw_m16 172 rfl) rfl, lw_g (lw_at lw_m1 17 rfl) rfl⟩
theorem wMv_603 : wMv (kw_V adE adK adV zr b L0 xs lo) kt_M603 := ⟨by decide +kernel, lw_sl20 (List.mem_of_getElem? (i := 6) rfl), lw_g (lw_at lw_m16 31 rfl) rfl, lw_g (lw_at lw_m1 17 rfl) rfl⟩
theorem wMv_604 : wMv (kw_V adE adK adV zr b L0 xs lo) kt_M604 := ⟨by decide +kernel, lw_sl17 (List.mem_of_getElem? (i := 1) rfl), lw_g (lw_at lw_m15 32 rfl) rfl, lw_g (lw_at lw_m1 17 rfl) rfl⟩
theorem wMv_605 : wMv (kw_V adE adK adV zr b L0 xs lo) kt_M605 := ⟨by decide +kernel, lw_sl23 (List.mem_of_getElem? (i := 5) rfl), lw_g (lw_at lw_m16 224 rfl) rfl, lw_g (lw_at lw_m1 17 rfl) rfl⟩
theorem wMv_606 : wMv (kw_V adE adK adV zr b L0 xs lo) kt_M606 := ⟨by decide +kernel, lw_sl29 (List.mem_of_getElem? (i := 10) rfl), lw_g (lw_at lw_m18 172 rfl) rfl, lw_g (lw_at lw_m1 17 rfl) rfl⟩
theorem wMv_623 : wMv (kw_V adE adK adV zr b L0 xs lo) kt_M623 := ⟨by decide +kernel, lw_g (lw_at lw_m3 235 rfl) rfl, lw_g (lw_at lw_m3 234 rfl) rfl, lw_g (lw_at lw_m1 19 rfl) rfl⟩
theorem wMs_624 : wMs (kw_V adE adK adV zr b L0 xs lo) kt_M624 := ⟨by decide +kernel, lw_g (lw_at lw_m4 5 rfl) rfl, lw_g (lw_at lw_m1 19 rfl) rfl⟩
theorem wMv_625 : wMv (kw_V adE adK adV zr b L0 xs lo) kt_M625 := ⟨by decide +kernel, lw_g (lw_at lw_m3 229 rfl) rfl, lw_g (lw_at lw_m3 228 rfl) rfl, lw_g (lw_at lw_m1 19 rfl) rfl⟩
theorem wMv_626 : wMv (kw_V adE adK adV zr b L0 xs lo) kt_M626 := ⟨by decide +kernel, lw_g (lw_at lw_m3 239 rfl) rfl, lw_g (lw_at lw_m3 238 rfl) rfl, lw_g (lw_at lw_m1 19 rfl) rfl⟩
theorem wMv_627 : wMv (kw_V adE adK adV zr b L0 xs lo) kt_M627 := ⟨by decide +kernel, lw_g (lw_at lw_m3 225 rfl) rfl, lw_g (lw_at lw_m3 224 rfl) rfl, lw_g (lw_at lw_m1 19 rfl) rfl⟩
theorem wMs_628 : wMs (kw_V adE adK adV zr b L0 xs lo) kt_M628 := ⟨by decide +kernel, lw_g (lw_at lw_m4 2 rfl) rfl, lw_g (lw_at lw_m1 21 rfl) rfl⟩
theorem wMs_629 : wMs (kw_V adE adK adV zr b L0 xs lo) kt_M629 := ⟨by decide +kernel, lw_g (lw_at lw_m4 13 rfl) rfl, lw_g (lw_at lw_m1 23 rfl) rfl⟩
theorem wMs_630 : wMs (kw_V adE adK adV zr b L0 xs lo) kt_M630 := ⟨by decide +kernel, lw_g (lw_at lw_m4 16 rfl) rfl, lw_g (lw_at lw_m1 23 rfl) rfl⟩
theorem wMs_631 : wMs (kw_V adE adK adV zr b L0 xs lo) kt_M631 := ⟨by decide +kernel, lw_g (lw_at lw_m4 23 rfl) rfl, lw_g (lw_at lw_m1 23 rfl) rfl⟩
theorem wMs_632 : wMs (kw_V adE adK adV zr b L0 xs lo) kt_M632 := ⟨by decide +kernel, lw_g (lw_at lw_m4 19 rfl) rfl, lw_g (lw_at lw_m1 23 rfl) rfl⟩
theorem wMs_636 : wMs (kw_V adE adK adV zr b L0 xs lo) kt_M636 := ⟨by decide +kernel, lw_g (lw_at lw_m4 10 rfl) rfl, lw_g (lw_at lw_m1 22 rfl) rfl⟩
def wLkb (own : String) (q : Nat × kx_M × Nat) : Bool := decide (kt_get kt_mlA own q.1 = some q.2.1.1) && ((match kt_get kt_mcA own q.1 with
  | some M => decide (M.1 = q.2.1.1) && (decide (M.2.1.data.toList = q.2.1.2.1.data.toList) && (decide (M.2.2.1 = q.2.1.2.2.1) && (decide (M.2.2.2.1 = q.2.1.2.2.2.1) && decide (M.2.2.2.2 = q.2.1.2.2.2.2))))
  | none => false) && decide (kx_np q.2.1.1 = some q.2.2))
theorem wLkb_ok {own : String} {j n : Nat} {M' : kx_M} (h : wLkb own (j, M', n) = true) : wLk (kw_V adE adK adV zr b L0 xs lo) own j M' n := by
  unfold wLkb at h
  rw [Bool.and_eq_true, Bool.and_eq_true, decide_eq_true_eq, decide_eq_true_eq] at h
  obtain ⟨h1, h2, h3⟩ := h
  refine ⟨h1, ?_, h3⟩
  show (kt_get kt_mcA own j).filter _ = _
  split at h2
  · rename_i M hM
    rw [hM]
    simp only [Bool.and_eq_true, decide_eq_true_eq] at h2
    obtain ⟨e1, e2, e3, e6, e7⟩ := h2
    have e3 : M.2.2 = M'.2.2 := Prod.ext e3 (Prod.ext e6 e7)
    have e4 : M.2.1 = M'.2.1 := by
      have : M.2.1.data = M'.2.1.data := Array.toList_inj.mp e2
      cases hx : M.2.1 with
      | mk d =>
        cases hy : M'.2.1 with
        | mk d' =>
          rw [hx, hy] at this
          simp only at this
          rw [this]
    have e5 : M = M' := Prod.ext e1 (Prod.ext e4 e3)
    subst e5
    simp
  · cases h2
def wll_X1_0 : List (Nat × kx_M × Nat) := [(86, kt_M7, 1), (97, kt_M54, 0), (100, kt_M224, 0), (101, kt_M238, 2), (105, kt_M204, 0), (117, kt_M146, 1), (121, kt_M272, 1), (122, kt_M317, 2), (125, kt_M327, 1), (128, kt_M22, 4), (144, kt_M75, 0), (151, kt_M112, 0), (172, kt_M108, 0), (178, kt_M105, 1), (184, kt_M106, 0), (188, kt_M79, 1), (195, kt_M96, 2), (199, kt_M66, 1), (203, kt_M82, 2)]
theorem wlb_X1_0 : wll_X1_0.all (wLkb "MeetingHouse") = true := by decide +kernel
theorem wl_X1_86 : wLk (kw_V adE adK adV zr b L0 xs lo) "MeetingHouse" 86 kt_M7 1 := wLkb_ok (List.all_eq_true.mp wlb_X1_0 _ (List.mem_of_getElem? (i := 0) rfl))
theorem wl_X1_97 : wLk (kw_V adE adK adV zr b L0 xs lo) "MeetingHouse" 97 kt_M54 0 := wLkb_ok (List.all_eq_true.mp wlb_X1_0 _ (List.mem_of_getElem? (i := 1) rfl))
theorem wl_X1_100 : wLk (kw_V adE adK adV zr b L0 xs lo) "MeetingHouse" 100 kt_M224 0 := wLkb_ok (List.all_eq_true.mp wlb_X1_0 _ (List.mem_of_getElem? (i := 2) rfl))
theorem wl_X1_101 : wLk (kw_V adE adK adV zr b L0 xs lo) "MeetingHouse" 101 kt_M238 2 := wLkb_ok (List.all_eq_true.mp wlb_X1_0 _ (List.mem_of_getElem? (i := 3) rfl))
theorem wl_X1_105 : wLk (kw_V adE adK adV zr b L0 xs lo) "MeetingHouse" 105 kt_M204 0 := wLkb_ok (List.all_eq_true.mp wlb_X1_0 _ (List.mem_of_getElem? (i := 4) rfl))
theorem wl_X1_117 : wLk (kw_V adE adK adV zr b L0 xs lo) "MeetingHouse" 117 kt_M146 1 := wLkb_ok (List.all_eq_true.mp wlb_X1_0 _ (List.mem_of_getElem? (i := 5) rfl))
theorem wl_X1_121 : wLk (kw_V adE adK adV zr b L0 xs lo) "MeetingHouse" 121 kt_M272 1 := wLkb_ok (List.all_eq_true.mp wlb_X1_0 _ (List.mem_of_getElem? (i := 6) rfl))
theorem wl_X1_122 : wLk (kw_V adE adK adV zr b L0 xs lo) "MeetingHouse" 122 kt_M317 2 := wLkb_ok (List.all_eq_true.mp wlb_X1_0 _ (List.mem_of_getElem? (i := 7) rfl))
theorem wl_X1_125 : wLk (kw_V adE adK adV zr b L0 xs lo) "MeetingHouse" 125 kt_M327 1 := wLkb_ok (List.all_eq_true.mp wlb_X1_0 _ (List.mem_of_getElem? (i := 8) rfl))
theorem wl_X1_128 : wLk (kw_V adE adK adV zr b L0 xs lo) "MeetingHouse" 128 kt_M22 4 := wLkb_ok (List.all_eq_true.mp wlb_X1_0 _ (List.mem_of_getElem? (i := 9) rfl))
theorem wl_X1_144 : wLk (kw_V adE adK adV zr b L0 xs lo) "MeetingHouse" 144 kt_M75 0 := wLkb_ok (List.all_eq_true.mp wlb_X1_0 _ (List.mem_of_getElem? (i := 10) rfl))
theorem wl_X1_151 : wLk (kw_V adE adK adV zr b L0 xs lo) "MeetingHouse" 151 kt_M112 0 := wLkb_ok (List.all_eq_true.mp wlb_X1_0 _ (List.mem_of_getElem? (i := 11) rfl))
theorem wl_X1_172 : wLk (kw_V adE adK adV zr b L0 xs lo) "MeetingHouse" 172 kt_M108 0 := wLkb_ok (List.all_eq_true.mp wlb_X1_0 _ (List.mem_of_getElem? (i := 12) rfl))
theorem wl_X1_178 : wLk (kw_V adE adK adV zr b L0 xs lo) "MeetingHouse" 178 kt_M105 1 := wLkb_ok (List.all_eq_true.mp wlb_X1_0 _ (List.mem_of_getElem? (i := 13) rfl))
theorem wl_X1_184 : wLk (kw_V adE adK adV zr b L0 xs lo) "MeetingHouse" 184 kt_M106 0 := wLkb_ok (List.all_eq_true.mp wlb_X1_0 _ (List.mem_of_getElem? (i := 14) rfl))
theorem wl_X1_188 : wLk (kw_V adE adK adV zr b L0 xs lo) "MeetingHouse" 188 kt_M79 1 := wLkb_ok (List.all_eq_true.mp wlb_X1_0 _ (List.mem_of_getElem? (i := 15) rfl))
theorem wl_X1_195 : wLk (kw_V adE adK adV zr b L0 xs lo) "MeetingHouse" 195 kt_M96 2 := wLkb_ok (List.all_eq_true.mp wlb_X1_0 _ (List.mem_of_getElem? (i := 16) rfl))
theorem wl_X1_199 : wLk (kw_V adE adK adV zr b L0 xs lo) "MeetingHouse" 199 kt_M66 1 := wLkb_ok (List.all_eq_true.mp wlb_X1_0 _ (List.mem_of_getElem? (i := 17) rfl))
theorem wl_X1_203 : wLk (kw_V adE adK adV zr b L0 xs lo) "MeetingHouse" 203 kt_M82 2 := wLkb_ok (List.all_eq_true.mp wlb_X1_0 _ (List.mem_of_getElem? (i := 18) rfl))
def wll_X9_0 : List (Nat × kx_M × Nat) := [(38, kt_M219, 1), (42, kt_M25, 2), (46, kt_M29, 0), (50, kt_M222, 2), (57, kt_M227, 1), (79, kt_M220, 0), (85, kt_M38, 1), (99, kt_M23, 1), (132, kt_M16, 1), (137, kt_M24, 1), (139, kt_M35, 1), (148, kt_M50, 1), (154, kt_M26, 3), (160, kt_M49, 1), (163, kt_M51, 1), (169, kt_M30, 2), (175, kt_M42, 1), (179, kt_M44, 1), (182, kt_M36, 2), (186, kt_M47, 1), (192, kt_M39, 2), (198, kt_M19, 1), (200, kt_M27, 1), (203, kt_M28, 1), (209, kt_M32, 1), (218, kt_M46, 1), (236, kt_M33, 1), (239, kt_M15, 1), (242, kt_M20, 1), (254, kt_M31, 1), (257, kt_M52, 1), (260, kt_M41, 1), (263, kt_M18, 1), (266, kt_M48, 1), (269, kt_M43, 1), (272, kt_M21, 1), (275, kt_M40, 1), (278, kt_M17, 1), (291, kt_M45, 2), (300, kt_M34, 1)]
theorem wlb_X9_0 : wll_X9_0.all (wLkb "MeetingHouse$Compiler") = true := by decide +kernel
theorem wl_X9_38 : wLk (kw_V adE adK adV zr b L0 xs lo) "MeetingHouse$Compiler" 38 kt_M219 1 := wLkb_ok (List.all_eq_true.mp wlb_X9_0 _ (List.mem_of_getElem? (i := 0) rfl))
theorem wl_X9_42 : wLk (kw_V adE adK adV zr b L0 xs lo) "MeetingHouse$Compiler" 42 kt_M25 2 := wLkb_ok (List.all_eq_true.mp wlb_X9_0 _ (List.mem_of_getElem? (i := 1) rfl))
theorem wl_X9_46 : wLk (kw_V adE adK adV zr b L0 xs lo) "MeetingHouse$Compiler" 46 kt_M29 0 := wLkb_ok (List.all_eq_true.mp wlb_X9_0 _ (List.mem_of_getElem? (i := 2) rfl))
theorem wl_X9_50 : wLk (kw_V adE adK adV zr b L0 xs lo) "MeetingHouse$Compiler" 50 kt_M222 2 := wLkb_ok (List.all_eq_true.mp wlb_X9_0 _ (List.mem_of_getElem? (i := 3) rfl))
theorem wl_X9_57 : wLk (kw_V adE adK adV zr b L0 xs lo) "MeetingHouse$Compiler" 57 kt_M227 1 := wLkb_ok (List.all_eq_true.mp wlb_X9_0 _ (List.mem_of_getElem? (i := 4) rfl))
theorem wl_X9_79 : wLk (kw_V adE adK adV zr b L0 xs lo) "MeetingHouse$Compiler" 79 kt_M220 0 := wLkb_ok (List.all_eq_true.mp wlb_X9_0 _ (List.mem_of_getElem? (i := 5) rfl))
theorem wl_X9_85 : wLk (kw_V adE adK adV zr b L0 xs lo) "MeetingHouse$Compiler" 85 kt_M38 1 := wLkb_ok (List.all_eq_true.mp wlb_X9_0 _ (List.mem_of_getElem? (i := 6) rfl))
theorem wl_X9_99 : wLk (kw_V adE adK adV zr b L0 xs lo) "MeetingHouse$Compiler" 99 kt_M23 1 := wLkb_ok (List.all_eq_true.mp wlb_X9_0 _ (List.mem_of_getElem? (i := 7) rfl))
theorem wl_X9_132 : wLk (kw_V adE adK adV zr b L0 xs lo) "MeetingHouse$Compiler" 132 kt_M16 1 := wLkb_ok (List.all_eq_true.mp wlb_X9_0 _ (List.mem_of_getElem? (i := 8) rfl))
theorem wl_X9_137 : wLk (kw_V adE adK adV zr b L0 xs lo) "MeetingHouse$Compiler" 137 kt_M24 1 := wLkb_ok (List.all_eq_true.mp wlb_X9_0 _ (List.mem_of_getElem? (i := 9) rfl))
theorem wl_X9_139 : wLk (kw_V adE adK adV zr b L0 xs lo) "MeetingHouse$Compiler" 139 kt_M35 1 := wLkb_ok (List.all_eq_true.mp wlb_X9_0 _ (List.mem_of_getElem? (i := 10) rfl))
theorem wl_X9_148 : wLk (kw_V adE adK adV zr b L0 xs lo) "MeetingHouse$Compiler" 148 kt_M50 1 := wLkb_ok (List.all_eq_true.mp wlb_X9_0 _ (List.mem_of_getElem? (i := 11) rfl))
theorem wl_X9_154 : wLk (kw_V adE adK adV zr b L0 xs lo) "MeetingHouse$Compiler" 154 kt_M26 3 := wLkb_ok (List.all_eq_true.mp wlb_X9_0 _ (List.mem_of_getElem? (i := 12) rfl))
theorem wl_X9_160 : wLk (kw_V adE adK adV zr b L0 xs lo) "MeetingHouse$Compiler" 160 kt_M49 1 := wLkb_ok (List.all_eq_true.mp wlb_X9_0 _ (List.mem_of_getElem? (i := 13) rfl))
theorem wl_X9_163 : wLk (kw_V adE adK adV zr b L0 xs lo) "MeetingHouse$Compiler" 163 kt_M51 1 := wLkb_ok (List.all_eq_true.mp wlb_X9_0 _ (List.mem_of_getElem? (i := 14) rfl))
theorem wl_X9_169 : wLk (kw_V adE adK adV zr b L0 xs lo) "MeetingHouse$Compiler" 169 kt_M30 2 := wLkb_ok (List.all_eq_true.mp wlb_X9_0 _ (List.mem_of_getElem? (i := 15) rfl))
theorem wl_X9_175 : wLk (kw_V adE adK adV zr b L0 xs lo) "MeetingHouse$Compiler" 175 kt_M42 1 := wLkb_ok (List.all_eq_true.mp wlb_X9_0 _ (List.mem_of_getElem? (i := 16) rfl))
theorem wl_X9_179 : wLk (kw_V adE adK adV zr b L0 xs lo) "MeetingHouse$Compiler" 179 kt_M44 1 := wLkb_ok (List.all_eq_true.mp wlb_X9_0 _ (List.mem_of_getElem? (i := 17) rfl))
theorem wl_X9_182 : wLk (kw_V adE adK adV zr b L0 xs lo) "MeetingHouse$Compiler" 182 kt_M36 2 := wLkb_ok (List.all_eq_true.mp wlb_X9_0 _ (List.mem_of_getElem? (i := 18) rfl))
theorem wl_X9_186 : wLk (kw_V adE adK adV zr b L0 xs lo) "MeetingHouse$Compiler" 186 kt_M47 1 := wLkb_ok (List.all_eq_true.mp wlb_X9_0 _ (List.mem_of_getElem? (i := 19) rfl))
theorem wl_X9_192 : wLk (kw_V adE adK adV zr b L0 xs lo) "MeetingHouse$Compiler" 192 kt_M39 2 := wLkb_ok (List.all_eq_true.mp wlb_X9_0 _ (List.mem_of_getElem? (i := 20) rfl))
theorem wl_X9_198 : wLk (kw_V adE adK adV zr b L0 xs lo) "MeetingHouse$Compiler" 198 kt_M19 1 := wLkb_ok (List.all_eq_true.mp wlb_X9_0 _ (List.mem_of_getElem? (i := 21) rfl))
theorem wl_X9_200 : wLk (kw_V adE adK adV zr b L0 xs lo) "MeetingHouse$Compiler" 200 kt_M27 1 := wLkb_ok (List.all_eq_true.mp wlb_X9_0 _ (List.mem_of_getElem? (i := 22) rfl))
theorem wl_X9_203 : wLk (kw_V adE adK adV zr b L0 xs lo) "MeetingHouse$Compiler" 203 kt_M28 1 := wLkb_ok (List.all_eq_true.mp wlb_X9_0 _ (List.mem_of_getElem? (i := 23) rfl))
theorem wl_X9_209 : wLk (kw_V adE adK adV zr b L0 xs lo) "MeetingHouse$Compiler" 209 kt_M32 1 := wLkb_ok (List.all_eq_true.mp wlb_X9_0 _ (List.mem_of_getElem? (i := 24) rfl))
theorem wl_X9_218 : wLk (kw_V adE adK adV zr b L0 xs lo) "MeetingHouse$Compiler" 218 kt_M46 1 := wLkb_ok (List.all_eq_true.mp wlb_X9_0 _ (List.mem_of_getElem? (i := 25) rfl))
theorem wl_X9_236 : wLk (kw_V adE adK adV zr b L0 xs lo) "MeetingHouse$Compiler" 236 kt_M33 1 := wLkb_ok (List.all_eq_true.mp wlb_X9_0 _ (List.mem_of_getElem? (i := 26) rfl))
theorem wl_X9_239 : wLk (kw_V adE adK adV zr b L0 xs lo) "MeetingHouse$Compiler" 239 kt_M15 1 := wLkb_ok (List.all_eq_true.mp wlb_X9_0 _ (List.mem_of_getElem? (i := 27) rfl))
theorem wl_X9_242 : wLk (kw_V adE adK adV zr b L0 xs lo) "MeetingHouse$Compiler" 242 kt_M20 1 := wLkb_ok (List.all_eq_true.mp wlb_X9_0 _ (List.mem_of_getElem? (i := 28) rfl))
theorem wl_X9_254 : wLk (kw_V adE adK adV zr b L0 xs lo) "MeetingHouse$Compiler" 254 kt_M31 1 := wLkb_ok (List.all_eq_true.mp wlb_X9_0 _ (List.mem_of_getElem? (i := 29) rfl))
theorem wl_X9_257 : wLk (kw_V adE adK adV zr b L0 xs lo) "MeetingHouse$Compiler" 257 kt_M52 1 := wLkb_ok (List.all_eq_true.mp wlb_X9_0 _ (List.mem_of_getElem? (i := 30) rfl))
theorem wl_X9_260 : wLk (kw_V adE adK adV zr b L0 xs lo) "MeetingHouse$Compiler" 260 kt_M41 1 := wLkb_ok (List.all_eq_true.mp wlb_X9_0 _ (List.mem_of_getElem? (i := 31) rfl))
theorem wl_X9_263 : wLk (kw_V adE adK adV zr b L0 xs lo) "MeetingHouse$Compiler" 263 kt_M18 1 := wLkb_ok (List.all_eq_true.mp wlb_X9_0 _ (List.mem_of_getElem? (i := 32) rfl))
theorem wl_X9_266 : wLk (kw_V adE adK adV zr b L0 xs lo) "MeetingHouse$Compiler" 266 kt_M48 1 := wLkb_ok (List.all_eq_true.mp wlb_X9_0 _ (List.mem_of_getElem? (i := 33) rfl))
theorem wl_X9_269 : wLk (kw_V adE adK adV zr b L0 xs lo) "MeetingHouse$Compiler" 269 kt_M43 1 := wLkb_ok (List.all_eq_true.mp wlb_X9_0 _ (List.mem_of_getElem? (i := 34) rfl))
theorem wl_X9_272 : wLk (kw_V adE adK adV zr b L0 xs lo) "MeetingHouse$Compiler" 272 kt_M21 1 := wLkb_ok (List.all_eq_true.mp wlb_X9_0 _ (List.mem_of_getElem? (i := 35) rfl))
theorem wl_X9_275 : wLk (kw_V adE adK adV zr b L0 xs lo) "MeetingHouse$Compiler" 275 kt_M40 1 := wLkb_ok (List.all_eq_true.mp wlb_X9_0 _ (List.mem_of_getElem? (i := 36) rfl))
theorem wl_X9_278 : wLk (kw_V adE adK adV zr b L0 xs lo) "MeetingHouse$Compiler" 278 kt_M17 1 := wLkb_ok (List.all_eq_true.mp wlb_X9_0 _ (List.mem_of_getElem? (i := 37) rfl))
theorem wl_X9_291 : wLk (kw_V adE adK adV zr b L0 xs lo) "MeetingHouse$Compiler" 291 kt_M45 2 := wLkb_ok (List.all_eq_true.mp wlb_X9_0 _ (List.mem_of_getElem? (i := 38) rfl))
theorem wl_X9_300 : wLk (kw_V adE adK adV zr b L0 xs lo) "MeetingHouse$Compiler" 300 kt_M34 1 := wLkb_ok (List.all_eq_true.mp wlb_X9_0 _ (List.mem_of_getElem? (i := 39) rfl))
def wll_X9_1 : List (Nat × kx_M × Nat) := [(303, kt_M221, 1), (314, kt_M37, 2)]
theorem wlb_X9_1 : wll_X9_1.all (wLkb "MeetingHouse$Compiler") = true := by decide +kernel
theorem wl_X9_303 : wLk (kw_V adE adK adV zr b L0 xs lo) "MeetingHouse$Compiler" 303 kt_M221 1 := wLkb_ok (List.all_eq_true.mp wlb_X9_1 _ (List.mem_of_getElem? (i := 0) rfl))
theorem wl_X9_314 : wLk (kw_V adE adK adV zr b L0 xs lo) "MeetingHouse$Compiler" 314 kt_M37 2 := wLkb_ok (List.all_eq_true.mp wlb_X9_1 _ (List.mem_of_getElem? (i := 1) rfl))
def wll_X11_0 : List (Nat × kx_M × Nat) := [(62, kt_M221, 1), (87, kt_M125, 2), (94, kt_M128, 3), (103, kt_M231, 4), (131, kt_M70, 2), (138, kt_M102, 0), (141, kt_M122, 1), (157, kt_M81, 1), (167, kt_M76, 0), (171, kt_M120, 0), (210, kt_M87, 2), (217, kt_M117, 1), (227, kt_M85, 2), (242, kt_M77, 1), (252, kt_M99, 0), (256, kt_M86, 0), (260, kt_M116, 0), (264, kt_M115, 0), (267, kt_M69, 1), (276, kt_M88, 0), (280, kt_M100, 1), (283, kt_M74, 1), (286, kt_M58, 1), (289, kt_M129, 2), (292, kt_M104, 0), (295, kt_M107, 1), (298, kt_M59, 0), (301, kt_M97, 1), (304, kt_M95, 0), (307, kt_M123, 1), (308, kt_M91, 1), (311, kt_M216, 3), (316, kt_M217, 3), (321, kt_M84, 1), (327, kt_M111, 1), (332, kt_M93, 2), (336, kt_M126, 3), (339, kt_M234, 1), (342, kt_M101, 1), (345, kt_M73, 2)]
theorem wlb_X11_0 : wll_X11_0.all (wLkb "MeetingHouse$Machine") = true := by decide +kernel
theorem wl_X11_62 : wLk (kw_V adE adK adV zr b L0 xs lo) "MeetingHouse$Machine" 62 kt_M221 1 := wLkb_ok (List.all_eq_true.mp wlb_X11_0 _ (List.mem_of_getElem? (i := 0) rfl))
theorem wl_X11_87 : wLk (kw_V adE adK adV zr b L0 xs lo) "MeetingHouse$Machine" 87 kt_M125 2 := wLkb_ok (List.all_eq_true.mp wlb_X11_0 _ (List.mem_of_getElem? (i := 1) rfl))
theorem wl_X11_94 : wLk (kw_V adE adK adV zr b L0 xs lo) "MeetingHouse$Machine" 94 kt_M128 3 := wLkb_ok (List.all_eq_true.mp wlb_X11_0 _ (List.mem_of_getElem? (i := 2) rfl))
theorem wl_X11_103 : wLk (kw_V adE adK adV zr b L0 xs lo) "MeetingHouse$Machine" 103 kt_M231 4 := wLkb_ok (List.all_eq_true.mp wlb_X11_0 _ (List.mem_of_getElem? (i := 3) rfl))
theorem wl_X11_131 : wLk (kw_V adE adK adV zr b L0 xs lo) "MeetingHouse$Machine" 131 kt_M70 2 := wLkb_ok (List.all_eq_true.mp wlb_X11_0 _ (List.mem_of_getElem? (i := 4) rfl))
theorem wl_X11_138 : wLk (kw_V adE adK adV zr b L0 xs lo) "MeetingHouse$Machine" 138 kt_M102 0 := wLkb_ok (List.all_eq_true.mp wlb_X11_0 _ (List.mem_of_getElem? (i := 5) rfl))
theorem wl_X11_141 : wLk (kw_V adE adK adV zr b L0 xs lo) "MeetingHouse$Machine" 141 kt_M122 1 := wLkb_ok (List.all_eq_true.mp wlb_X11_0 _ (List.mem_of_getElem? (i := 6) rfl))
theorem wl_X11_157 : wLk (kw_V adE adK adV zr b L0 xs lo) "MeetingHouse$Machine" 157 kt_M81 1 := wLkb_ok (List.all_eq_true.mp wlb_X11_0 _ (List.mem_of_getElem? (i := 7) rfl))
theorem wl_X11_167 : wLk (kw_V adE adK adV zr b L0 xs lo) "MeetingHouse$Machine" 167 kt_M76 0 := wLkb_ok (List.all_eq_true.mp wlb_X11_0 _ (List.mem_of_getElem? (i := 8) rfl))
theorem wl_X11_171 : wLk (kw_V adE adK adV zr b L0 xs lo) "MeetingHouse$Machine" 171 kt_M120 0 := wLkb_ok (List.all_eq_true.mp wlb_X11_0 _ (List.mem_of_getElem? (i := 9) rfl))
theorem wl_X11_210 : wLk (kw_V adE adK adV zr b L0 xs lo) "MeetingHouse$Machine" 210 kt_M87 2 := wLkb_ok (List.all_eq_true.mp wlb_X11_0 _ (List.mem_of_getElem? (i := 10) rfl))
theorem wl_X11_217 : wLk (kw_V adE adK adV zr b L0 xs lo) "MeetingHouse$Machine" 217 kt_M117 1 := wLkb_ok (List.all_eq_true.mp wlb_X11_0 _ (List.mem_of_getElem? (i := 11) rfl))
theorem wl_X11_227 : wLk (kw_V adE adK adV zr b L0 xs lo) "MeetingHouse$Machine" 227 kt_M85 2 := wLkb_ok (List.all_eq_true.mp wlb_X11_0 _ (List.mem_of_getElem? (i := 12) rfl))
theorem wl_X11_242 : wLk (kw_V adE adK adV zr b L0 xs lo) "MeetingHouse$Machine" 242 kt_M77 1 := wLkb_ok (List.all_eq_true.mp wlb_X11_0 _ (List.mem_of_getElem? (i := 13) rfl))
theorem wl_X11_252 : wLk (kw_V adE adK adV zr b L0 xs lo) "MeetingHouse$Machine" 252 kt_M99 0 := wLkb_ok (List.all_eq_true.mp wlb_X11_0 _ (List.mem_of_getElem? (i := 14) rfl))
theorem wl_X11_256 : wLk (kw_V adE adK adV zr b L0 xs lo) "MeetingHouse$Machine" 256 kt_M86 0 := wLkb_ok (List.all_eq_true.mp wlb_X11_0 _ (List.mem_of_getElem? (i := 15) rfl))
theorem wl_X11_260 : wLk (kw_V adE adK adV zr b L0 xs lo) "MeetingHouse$Machine" 260 kt_M116 0 := wLkb_ok (List.all_eq_true.mp wlb_X11_0 _ (List.mem_of_getElem? (i := 16) rfl))
theorem wl_X11_264 : wLk (kw_V adE adK adV zr b L0 xs lo) "MeetingHouse$Machine" 264 kt_M115 0 := wLkb_ok (List.all_eq_true.mp wlb_X11_0 _ (List.mem_of_getElem? (i := 17) rfl))
theorem wl_X11_267 : wLk (kw_V adE adK adV zr b L0 xs lo) "MeetingHouse$Machine" 267 kt_M69 1 := wLkb_ok (List.all_eq_true.mp wlb_X11_0 _ (List.mem_of_getElem? (i := 18) rfl))
theorem wl_X11_276 : wLk (kw_V adE adK adV zr b L0 xs lo) "MeetingHouse$Machine" 276 kt_M88 0 := wLkb_ok (List.all_eq_true.mp wlb_X11_0 _ (List.mem_of_getElem? (i := 19) rfl))
theorem wl_X11_280 : wLk (kw_V adE adK adV zr b L0 xs lo) "MeetingHouse$Machine" 280 kt_M100 1 := wLkb_ok (List.all_eq_true.mp wlb_X11_0 _ (List.mem_of_getElem? (i := 20) rfl))
theorem wl_X11_283 : wLk (kw_V adE adK adV zr b L0 xs lo) "MeetingHouse$Machine" 283 kt_M74 1 := wLkb_ok (List.all_eq_true.mp wlb_X11_0 _ (List.mem_of_getElem? (i := 21) rfl))
theorem wl_X11_286 : wLk (kw_V adE adK adV zr b L0 xs lo) "MeetingHouse$Machine" 286 kt_M58 1 := wLkb_ok (List.all_eq_true.mp wlb_X11_0 _ (List.mem_of_getElem? (i := 22) rfl))
theorem wl_X11_289 : wLk (kw_V adE adK adV zr b L0 xs lo) "MeetingHouse$Machine" 289 kt_M129 2 := wLkb_ok (List.all_eq_true.mp wlb_X11_0 _ (List.mem_of_getElem? (i := 23) rfl))
theorem wl_X11_292 : wLk (kw_V adE adK adV zr b L0 xs lo) "MeetingHouse$Machine" 292 kt_M104 0 := wLkb_ok (List.all_eq_true.mp wlb_X11_0 _ (List.mem_of_getElem? (i := 24) rfl))
theorem wl_X11_295 : wLk (kw_V adE adK adV zr b L0 xs lo) "MeetingHouse$Machine" 295 kt_M107 1 := wLkb_ok (List.all_eq_true.mp wlb_X11_0 _ (List.mem_of_getElem? (i := 25) rfl))
theorem wl_X11_298 : wLk (kw_V adE adK adV zr b L0 xs lo) "MeetingHouse$Machine" 298 kt_M59 0 := wLkb_ok (List.all_eq_true.mp wlb_X11_0 _ (List.mem_of_getElem? (i := 26) rfl))
theorem wl_X11_301 : wLk (kw_V adE adK adV zr b L0 xs lo) "MeetingHouse$Machine" 301 kt_M97 1 := wLkb_ok (List.all_eq_true.mp wlb_X11_0 _ (List.mem_of_getElem? (i := 27) rfl))
theorem wl_X11_304 : wLk (kw_V adE adK adV zr b L0 xs lo) "MeetingHouse$Machine" 304 kt_M95 0 := wLkb_ok (List.all_eq_true.mp wlb_X11_0 _ (List.mem_of_getElem? (i := 28) rfl))
theorem wl_X11_307 : wLk (kw_V adE adK adV zr b L0 xs lo) "MeetingHouse$Machine" 307 kt_M123 1 := wLkb_ok (List.all_eq_true.mp wlb_X11_0 _ (List.mem_of_getElem? (i := 29) rfl))
theorem wl_X11_308 : wLk (kw_V adE adK adV zr b L0 xs lo) "MeetingHouse$Machine" 308 kt_M91 1 := wLkb_ok (List.all_eq_true.mp wlb_X11_0 _ (List.mem_of_getElem? (i := 30) rfl))
theorem wl_X11_311 : wLk (kw_V adE adK adV zr b L0 xs lo) "MeetingHouse$Machine" 311 kt_M216 3 := wLkb_ok (List.all_eq_true.mp wlb_X11_0 _ (List.mem_of_getElem? (i := 31) rfl))
theorem wl_X11_316 : wLk (kw_V adE adK adV zr b L0 xs lo) "MeetingHouse$Machine" 316 kt_M217 3 := wLkb_ok (List.all_eq_true.mp wlb_X11_0 _ (List.mem_of_getElem? (i := 32) rfl))
theorem wl_X11_321 : wLk (kw_V adE adK adV zr b L0 xs lo) "MeetingHouse$Machine" 321 kt_M84 1 := wLkb_ok (List.all_eq_true.mp wlb_X11_0 _ (List.mem_of_getElem? (i := 33) rfl))
theorem wl_X11_327 : wLk (kw_V adE adK adV zr b L0 xs lo) "MeetingHouse$Machine" 327 kt_M111 1 := wLkb_ok (List.all_eq_true.mp wlb_X11_0 _ (List.mem_of_getElem? (i := 34) rfl))
theorem wl_X11_332 : wLk (kw_V adE adK adV zr b L0 xs lo) "MeetingHouse$Machine" 332 kt_M93 2 := wLkb_ok (List.all_eq_true.mp wlb_X11_0 _ (List.mem_of_getElem? (i := 35) rfl))
theorem wl_X11_336 : wLk (kw_V adE adK adV zr b L0 xs lo) "MeetingHouse$Machine" 336 kt_M126 3 := wLkb_ok (List.all_eq_true.mp wlb_X11_0 _ (List.mem_of_getElem? (i := 36) rfl))
theorem wl_X11_339 : wLk (kw_V adE adK adV zr b L0 xs lo) "MeetingHouse$Machine" 339 kt_M234 1 := wLkb_ok (List.all_eq_true.mp wlb_X11_0 _ (List.mem_of_getElem? (i := 37) rfl))
theorem wl_X11_342 : wLk (kw_V adE adK adV zr b L0 xs lo) "MeetingHouse$Machine" 342 kt_M101 1 := wLkb_ok (List.all_eq_true.mp wlb_X11_0 _ (List.mem_of_getElem? (i := 38) rfl))
theorem wl_X11_345 : wLk (kw_V adE adK adV zr b L0 xs lo) "MeetingHouse$Machine" 345 kt_M73 2 := wLkb_ok (List.all_eq_true.mp wlb_X11_0 _ (List.mem_of_getElem? (i := 39) rfl))
def wll_X11_1 : List (Nat × kx_M × Nat) := [(348, kt_M127, 2), (351, kt_M60, 1), (354, kt_M103, 0), (375, kt_M92, 0), (377, kt_M118, 1), (380, kt_M98, 1), (383, kt_M64, 0), (386, kt_M109, 1), (389, kt_M114, 1), (393, kt_M233, 4), (397, kt_M67, 2), (403, kt_M65, 2), (406, kt_M61, 1), (409, kt_M62, 3), (413, kt_M71, 0), (432, kt_M94, 1), (440, kt_M90, 1), (444, kt_M83, 3), (450, kt_M68, 1), (453, kt_M63, 4), (457, kt_M72, 0), (466, kt_M113, 0), (469, kt_M78, 2), (473, kt_M110, 1), (476, kt_M80, 1), (479, kt_M89, 1)]
theorem wlb_X11_1 : wll_X11_1.all (wLkb "MeetingHouse$Machine") = true := by decide +kernel
theorem wl_X11_348 : wLk (kw_V adE adK adV zr b L0 xs lo) "MeetingHouse$Machine" 348 kt_M127 2 := wLkb_ok (List.all_eq_true.mp wlb_X11_1 _ (List.mem_of_getElem? (i := 0) rfl))
theorem wl_X11_351 : wLk (kw_V adE adK adV zr b L0 xs lo) "MeetingHouse$Machine" 351 kt_M60 1 := wLkb_ok (List.all_eq_true.mp wlb_X11_1 _ (List.mem_of_getElem? (i := 1) rfl))
theorem wl_X11_354 : wLk (kw_V adE adK adV zr b L0 xs lo) "MeetingHouse$Machine" 354 kt_M103 0 := wLkb_ok (List.all_eq_true.mp wlb_X11_1 _ (List.mem_of_getElem? (i := 2) rfl))
theorem wl_X11_375 : wLk (kw_V adE adK adV zr b L0 xs lo) "MeetingHouse$Machine" 375 kt_M92 0 := wLkb_ok (List.all_eq_true.mp wlb_X11_1 _ (List.mem_of_getElem? (i := 3) rfl))
theorem wl_X11_377 : wLk (kw_V adE adK adV zr b L0 xs lo) "MeetingHouse$Machine" 377 kt_M118 1 := wLkb_ok (List.all_eq_true.mp wlb_X11_1 _ (List.mem_of_getElem? (i := 4) rfl))
theorem wl_X11_380 : wLk (kw_V adE adK adV zr b L0 xs lo) "MeetingHouse$Machine" 380 kt_M98 1 := wLkb_ok (List.all_eq_true.mp wlb_X11_1 _ (List.mem_of_getElem? (i := 5) rfl))
theorem wl_X11_383 : wLk (kw_V adE adK adV zr b L0 xs lo) "MeetingHouse$Machine" 383 kt_M64 0 := wLkb_ok (List.all_eq_true.mp wlb_X11_1 _ (List.mem_of_getElem? (i := 6) rfl))
theorem wl_X11_386 : wLk (kw_V adE adK adV zr b L0 xs lo) "MeetingHouse$Machine" 386 kt_M109 1 := wLkb_ok (List.all_eq_true.mp wlb_X11_1 _ (List.mem_of_getElem? (i := 7) rfl))
theorem wl_X11_389 : wLk (kw_V adE adK adV zr b L0 xs lo) "MeetingHouse$Machine" 389 kt_M114 1 := wLkb_ok (List.all_eq_true.mp wlb_X11_1 _ (List.mem_of_getElem? (i := 8) rfl))
theorem wl_X11_393 : wLk (kw_V adE adK adV zr b L0 xs lo) "MeetingHouse$Machine" 393 kt_M233 4 := wLkb_ok (List.all_eq_true.mp wlb_X11_1 _ (List.mem_of_getElem? (i := 9) rfl))
theorem wl_X11_397 : wLk (kw_V adE adK adV zr b L0 xs lo) "MeetingHouse$Machine" 397 kt_M67 2 := wLkb_ok (List.all_eq_true.mp wlb_X11_1 _ (List.mem_of_getElem? (i := 10) rfl))
theorem wl_X11_403 : wLk (kw_V adE adK adV zr b L0 xs lo) "MeetingHouse$Machine" 403 kt_M65 2 := wLkb_ok (List.all_eq_true.mp wlb_X11_1 _ (List.mem_of_getElem? (i := 11) rfl))
theorem wl_X11_406 : wLk (kw_V adE adK adV zr b L0 xs lo) "MeetingHouse$Machine" 406 kt_M61 1 := wLkb_ok (List.all_eq_true.mp wlb_X11_1 _ (List.mem_of_getElem? (i := 12) rfl))
theorem wl_X11_409 : wLk (kw_V adE adK adV zr b L0 xs lo) "MeetingHouse$Machine" 409 kt_M62 3 := wLkb_ok (List.all_eq_true.mp wlb_X11_1 _ (List.mem_of_getElem? (i := 13) rfl))
theorem wl_X11_413 : wLk (kw_V adE adK adV zr b L0 xs lo) "MeetingHouse$Machine" 413 kt_M71 0 := wLkb_ok (List.all_eq_true.mp wlb_X11_1 _ (List.mem_of_getElem? (i := 14) rfl))
theorem wl_X11_432 : wLk (kw_V adE adK adV zr b L0 xs lo) "MeetingHouse$Machine" 432 kt_M94 1 := wLkb_ok (List.all_eq_true.mp wlb_X11_1 _ (List.mem_of_getElem? (i := 15) rfl))
theorem wl_X11_440 : wLk (kw_V adE adK adV zr b L0 xs lo) "MeetingHouse$Machine" 440 kt_M90 1 := wLkb_ok (List.all_eq_true.mp wlb_X11_1 _ (List.mem_of_getElem? (i := 16) rfl))
theorem wl_X11_444 : wLk (kw_V adE adK adV zr b L0 xs lo) "MeetingHouse$Machine" 444 kt_M83 3 := wLkb_ok (List.all_eq_true.mp wlb_X11_1 _ (List.mem_of_getElem? (i := 17) rfl))
theorem wl_X11_450 : wLk (kw_V adE adK adV zr b L0 xs lo) "MeetingHouse$Machine" 450 kt_M68 1 := wLkb_ok (List.all_eq_true.mp wlb_X11_1 _ (List.mem_of_getElem? (i := 18) rfl))
theorem wl_X11_453 : wLk (kw_V adE adK adV zr b L0 xs lo) "MeetingHouse$Machine" 453 kt_M63 4 := wLkb_ok (List.all_eq_true.mp wlb_X11_1 _ (List.mem_of_getElem? (i := 19) rfl))
theorem wl_X11_457 : wLk (kw_V adE adK adV zr b L0 xs lo) "MeetingHouse$Machine" 457 kt_M72 0 := wLkb_ok (List.all_eq_true.mp wlb_X11_1 _ (List.mem_of_getElem? (i := 20) rfl))
theorem wl_X11_466 : wLk (kw_V adE adK adV zr b L0 xs lo) "MeetingHouse$Machine" 466 kt_M113 0 := wLkb_ok (List.all_eq_true.mp wlb_X11_1 _ (List.mem_of_getElem? (i := 21) rfl))
theorem wl_X11_469 : wLk (kw_V adE adK adV zr b L0 xs lo) "MeetingHouse$Machine" 469 kt_M78 2 := wLkb_ok (List.all_eq_true.mp wlb_X11_1 _ (List.mem_of_getElem? (i := 22) rfl))
theorem wl_X11_473 : wLk (kw_V adE adK adV zr b L0 xs lo) "MeetingHouse$Machine" 473 kt_M110 1 := wLkb_ok (List.all_eq_true.mp wlb_X11_1 _ (List.mem_of_getElem? (i := 23) rfl))
theorem wl_X11_476 : wLk (kw_V adE adK adV zr b L0 xs lo) "MeetingHouse$Machine" 476 kt_M80 1 := wLkb_ok (List.all_eq_true.mp wlb_X11_1 _ (List.mem_of_getElem? (i := 24) rfl))
theorem wl_X11_479 : wLk (kw_V adE adK adV zr b L0 xs lo) "MeetingHouse$Machine" 479 kt_M89 1 := wLkb_ok (List.all_eq_true.mp wlb_X11_1 _ (List.mem_of_getElem? (i := 25) rfl))
def wll_X12_0 : List (Nat × kx_M × Nat) := [(55, kt_M121, 1), (59, kt_M124, 2)]
theorem wlb_X12_0 : wll_X12_0.all (wLkb "MeetingHouse$Memory") = true := by decide +kernel
theorem wl_X12_55 : wLk (kw_V adE adK adV zr b L0 xs lo) "MeetingHouse$Memory" 55 kt_M121 1 := wLkb_ok (List.all_eq_true.mp wlb_X12_0 _ (List.mem_of_getElem? (i := 0) rfl))
theorem wl_X12_59 : wLk (kw_V adE adK adV zr b L0 xs lo) "MeetingHouse$Memory" 59 kt_M124 2 := wLkb_ok (List.all_eq_true.mp wlb_X12_0 _ (List.mem_of_getElem? (i := 1) rfl))
def wll_X6_0 : List (Nat × kx_M × Nat) := [(39, kt_M137, 3), (54, kt_M149, 1), (58, kt_M226, 3), (70, kt_M56, 2), (76, kt_M142, 2), (96, kt_M136, 1), (102, kt_M131, 1), (118, kt_M143, 3), (134, kt_M132, 1), (137, kt_M140, 1), (140, kt_M154, 1), (160, kt_M138, 2), (164, kt_M145, 2), (172, kt_M150, 1), (174, kt_M153, 1), (188, kt_M148, 1), (228, kt_M139, 1), (231, kt_M141, 1), (240, kt_M144, 2), (244, kt_M147, 1), (247, kt_M134, 1), (250, kt_M151, 1), (253, kt_M135, 1), (256, kt_M133, 1), (259, kt_M152, 1), (267, kt_M156, 1), (276, kt_M155, 1)]
theorem wlb_X6_0 : wll_X6_0.all (wLkb "MeetingHouse$Names") = true := by decide +kernel
theorem wl_X6_39 : wLk (kw_V adE adK adV zr b L0 xs lo) "MeetingHouse$Names" 39 kt_M137 3 := wLkb_ok (List.all_eq_true.mp wlb_X6_0 _ (List.mem_of_getElem? (i := 0) rfl))
theorem wl_X6_54 : wLk (kw_V adE adK adV zr b L0 xs lo) "MeetingHouse$Names" 54 kt_M149 1 := wLkb_ok (List.all_eq_true.mp wlb_X6_0 _ (List.mem_of_getElem? (i := 1) rfl))
theorem wl_X6_58 : wLk (kw_V adE adK adV zr b L0 xs lo) "MeetingHouse$Names" 58 kt_M226 3 := wLkb_ok (List.all_eq_true.mp wlb_X6_0 _ (List.mem_of_getElem? (i := 2) rfl))
theorem wl_X6_70 : wLk (kw_V adE adK adV zr b L0 xs lo) "MeetingHouse$Names" 70 kt_M56 2 := wLkb_ok (List.all_eq_true.mp wlb_X6_0 _ (List.mem_of_getElem? (i := 3) rfl))
theorem wl_X6_76 : wLk (kw_V adE adK adV zr b L0 xs lo) "MeetingHouse$Names" 76 kt_M142 2 := wLkb_ok (List.all_eq_true.mp wlb_X6_0 _ (List.mem_of_getElem? (i := 4) rfl))
theorem wl_X6_96 : wLk (kw_V adE adK adV zr b L0 xs lo) "MeetingHouse$Names" 96 kt_M136 1 := wLkb_ok (List.all_eq_true.mp wlb_X6_0 _ (List.mem_of_getElem? (i := 5) rfl))
theorem wl_X6_102 : wLk (kw_V adE adK adV zr b L0 xs lo) "MeetingHouse$Names" 102 kt_M131 1 := wLkb_ok (List.all_eq_true.mp wlb_X6_0 _ (List.mem_of_getElem? (i := 6) rfl))
theorem wl_X6_118 : wLk (kw_V adE adK adV zr b L0 xs lo) "MeetingHouse$Names" 118 kt_M143 3 := wLkb_ok (List.all_eq_true.mp wlb_X6_0 _ (List.mem_of_getElem? (i := 7) rfl))
theorem wl_X6_134 : wLk (kw_V adE adK adV zr b L0 xs lo) "MeetingHouse$Names" 134 kt_M132 1 := wLkb_ok (List.all_eq_true.mp wlb_X6_0 _ (List.mem_of_getElem? (i := 8) rfl))
theorem wl_X6_137 : wLk (kw_V adE adK adV zr b L0 xs lo) "MeetingHouse$Names" 137 kt_M140 1 := wLkb_ok (List.all_eq_true.mp wlb_X6_0 _ (List.mem_of_getElem? (i := 9) rfl))
theorem wl_X6_140 : wLk (kw_V adE adK adV zr b L0 xs lo) "MeetingHouse$Names" 140 kt_M154 1 := wLkb_ok (List.all_eq_true.mp wlb_X6_0 _ (List.mem_of_getElem? (i := 10) rfl))
theorem wl_X6_160 : wLk (kw_V adE adK adV zr b L0 xs lo) "MeetingHouse$Names" 160 kt_M138 2 := wLkb_ok (List.all_eq_true.mp wlb_X6_0 _ (List.mem_of_getElem? (i := 11) rfl))
theorem wl_X6_164 : wLk (kw_V adE adK adV zr b L0 xs lo) "MeetingHouse$Names" 164 kt_M145 2 := wLkb_ok (List.all_eq_true.mp wlb_X6_0 _ (List.mem_of_getElem? (i := 12) rfl))
theorem wl_X6_172 : wLk (kw_V adE adK adV zr b L0 xs lo) "MeetingHouse$Names" 172 kt_M150 1 := wLkb_ok (List.all_eq_true.mp wlb_X6_0 _ (List.mem_of_getElem? (i := 13) rfl))
theorem wl_X6_174 : wLk (kw_V adE adK adV zr b L0 xs lo) "MeetingHouse$Names" 174 kt_M153 1 := wLkb_ok (List.all_eq_true.mp wlb_X6_0 _ (List.mem_of_getElem? (i := 14) rfl))
theorem wl_X6_188 : wLk (kw_V adE adK adV zr b L0 xs lo) "MeetingHouse$Names" 188 kt_M148 1 := wLkb_ok (List.all_eq_true.mp wlb_X6_0 _ (List.mem_of_getElem? (i := 15) rfl))
theorem wl_X6_228 : wLk (kw_V adE adK adV zr b L0 xs lo) "MeetingHouse$Names" 228 kt_M139 1 := wLkb_ok (List.all_eq_true.mp wlb_X6_0 _ (List.mem_of_getElem? (i := 16) rfl))
theorem wl_X6_231 : wLk (kw_V adE adK adV zr b L0 xs lo) "MeetingHouse$Names" 231 kt_M141 1 := wLkb_ok (List.all_eq_true.mp wlb_X6_0 _ (List.mem_of_getElem? (i := 17) rfl))
theorem wl_X6_240 : wLk (kw_V adE adK adV zr b L0 xs lo) "MeetingHouse$Names" 240 kt_M144 2 := wLkb_ok (List.all_eq_true.mp wlb_X6_0 _ (List.mem_of_getElem? (i := 18) rfl))
theorem wl_X6_244 : wLk (kw_V adE adK adV zr b L0 xs lo) "MeetingHouse$Names" 244 kt_M147 1 := wLkb_ok (List.all_eq_true.mp wlb_X6_0 _ (List.mem_of_getElem? (i := 19) rfl))
theorem wl_X6_247 : wLk (kw_V adE adK adV zr b L0 xs lo) "MeetingHouse$Names" 247 kt_M134 1 := wLkb_ok (List.all_eq_true.mp wlb_X6_0 _ (List.mem_of_getElem? (i := 20) rfl))
theorem wl_X6_250 : wLk (kw_V adE adK adV zr b L0 xs lo) "MeetingHouse$Names" 250 kt_M151 1 := wLkb_ok (List.all_eq_true.mp wlb_X6_0 _ (List.mem_of_getElem? (i := 21) rfl))
theorem wl_X6_253 : wLk (kw_V adE adK adV zr b L0 xs lo) "MeetingHouse$Names" 253 kt_M135 1 := wLkb_ok (List.all_eq_true.mp wlb_X6_0 _ (List.mem_of_getElem? (i := 22) rfl))
theorem wl_X6_256 : wLk (kw_V adE adK adV zr b L0 xs lo) "MeetingHouse$Names" 256 kt_M133 1 := wLkb_ok (List.all_eq_true.mp wlb_X6_0 _ (List.mem_of_getElem? (i := 23) rfl))
theorem wl_X6_259 : wLk (kw_V adE adK adV zr b L0 xs lo) "MeetingHouse$Names" 259 kt_M152 1 := wLkb_ok (List.all_eq_true.mp wlb_X6_0 _ (List.mem_of_getElem? (i := 24) rfl))
theorem wl_X6_267 : wLk (kw_V adE adK adV zr b L0 xs lo) "MeetingHouse$Names" 267 kt_M156 1 := wLkb_ok (List.all_eq_true.mp wlb_X6_0 _ (List.mem_of_getElem? (i := 25) rfl))
theorem wl_X6_276 : wLk (kw_V adE adK adV zr b L0 xs lo) "MeetingHouse$Names" 276 kt_M155 1 := wLkb_ok (List.all_eq_true.mp wlb_X6_0 _ (List.mem_of_getElem? (i := 26) rfl))
def wll_X5_0 : List (Nat × kx_M × Nat) := [(33, kt_M189, 0), (36, kt_M225, 3), (42, kt_M55, 2), (58, kt_M191, 0), (70, kt_M333, 1), (79, kt_M183, 1), (82, kt_M213, 0), (85, kt_M195, 0), (91, kt_M184, 0), (95, kt_M186, 0), (100, kt_M176, 1), (110, kt_M192, 1), (113, kt_M210, 1), (133, kt_M202, 1), (137, kt_M164, 0), (140, kt_M163, 0), (143, kt_M211, 2), (152, kt_M196, 1), (155, kt_M171, 1), (158, kt_M166, 2), (165, kt_M160, 1), (174, kt_M212, 0), (180, kt_M180, 2), (184, kt_M194, 2), (188, kt_M175, 0), (194, kt_M177, 0), (198, kt_M188, 1), (201, kt_M187, 1), (217, kt_M190, 1), (220, kt_M214, 1), (222, kt_M205, 2), (226, kt_M201, 2), (229, kt_M174, 0), (237, kt_M193, 0), (242, kt_M207, 2), (249, kt_M172, 0), (255, kt_M197, 1), (264, kt_M200, 0), (273, kt_M170, 1), (279, kt_M179, 0)]
theorem wlb_X5_0 : wll_X5_0.all (wLkb "MeetingHouse$Parser") = true := by decide +kernel
theorem wl_X5_33 : wLk (kw_V adE adK adV zr b L0 xs lo) "MeetingHouse$Parser" 33 kt_M189 0 := wLkb_ok (List.all_eq_true.mp wlb_X5_0 _ (List.mem_of_getElem? (i := 0) rfl))
theorem wl_X5_36 : wLk (kw_V adE adK adV zr b L0 xs lo) "MeetingHouse$Parser" 36 kt_M225 3 := wLkb_ok (List.all_eq_true.mp wlb_X5_0 _ (List.mem_of_getElem? (i := 1) rfl))
theorem wl_X5_42 : wLk (kw_V adE adK adV zr b L0 xs lo) "MeetingHouse$Parser" 42 kt_M55 2 := wLkb_ok (List.all_eq_true.mp wlb_X5_0 _ (List.mem_of_getElem? (i := 2) rfl))
theorem wl_X5_58 : wLk (kw_V adE adK adV zr b L0 xs lo) "MeetingHouse$Parser" 58 kt_M191 0 := wLkb_ok (List.all_eq_true.mp wlb_X5_0 _ (List.mem_of_getElem? (i := 3) rfl))
theorem wl_X5_70 : wLk (kw_V adE adK adV zr b L0 xs lo) "MeetingHouse$Parser" 70 kt_M333 1 := wLkb_ok (List.all_eq_true.mp wlb_X5_0 _ (List.mem_of_getElem? (i := 4) rfl))
theorem wl_X5_79 : wLk (kw_V adE adK adV zr b L0 xs lo) "MeetingHouse$Parser" 79 kt_M183 1 := wLkb_ok (List.all_eq_true.mp wlb_X5_0 _ (List.mem_of_getElem? (i := 5) rfl))
theorem wl_X5_82 : wLk (kw_V adE adK adV zr b L0 xs lo) "MeetingHouse$Parser" 82 kt_M213 0 := wLkb_ok (List.all_eq_true.mp wlb_X5_0 _ (List.mem_of_getElem? (i := 6) rfl))
theorem wl_X5_85 : wLk (kw_V adE adK adV zr b L0 xs lo) "MeetingHouse$Parser" 85 kt_M195 0 := wLkb_ok (List.all_eq_true.mp wlb_X5_0 _ (List.mem_of_getElem? (i := 7) rfl))
theorem wl_X5_91 : wLk (kw_V adE adK adV zr b L0 xs lo) "MeetingHouse$Parser" 91 kt_M184 0 := wLkb_ok (List.all_eq_true.mp wlb_X5_0 _ (List.mem_of_getElem? (i := 8) rfl))
theorem wl_X5_95 : wLk (kw_V adE adK adV zr b L0 xs lo) "MeetingHouse$Parser" 95 kt_M186 0 := wLkb_ok (List.all_eq_true.mp wlb_X5_0 _ (List.mem_of_getElem? (i := 9) rfl))
theorem wl_X5_100 : wLk (kw_V adE adK adV zr b L0 xs lo) "MeetingHouse$Parser" 100 kt_M176 1 := wLkb_ok (List.all_eq_true.mp wlb_X5_0 _ (List.mem_of_getElem? (i := 10) rfl))
theorem wl_X5_110 : wLk (kw_V adE adK adV zr b L0 xs lo) "MeetingHouse$Parser" 110 kt_M192 1 := wLkb_ok (List.all_eq_true.mp wlb_X5_0 _ (List.mem_of_getElem? (i := 11) rfl))
theorem wl_X5_113 : wLk (kw_V adE adK adV zr b L0 xs lo) "MeetingHouse$Parser" 113 kt_M210 1 := wLkb_ok (List.all_eq_true.mp wlb_X5_0 _ (List.mem_of_getElem? (i := 12) rfl))
theorem wl_X5_133 : wLk (kw_V adE adK adV zr b L0 xs lo) "MeetingHouse$Parser" 133 kt_M202 1 := wLkb_ok (List.all_eq_true.mp wlb_X5_0 _ (List.mem_of_getElem? (i := 13) rfl))
theorem wl_X5_137 : wLk (kw_V adE adK adV zr b L0 xs lo) "MeetingHouse$Parser" 137 kt_M164 0 := wLkb_ok (List.all_eq_true.mp wlb_X5_0 _ (List.mem_of_getElem? (i := 14) rfl))
theorem wl_X5_140 : wLk (kw_V adE adK adV zr b L0 xs lo) "MeetingHouse$Parser" 140 kt_M163 0 := wLkb_ok (List.all_eq_true.mp wlb_X5_0 _ (List.mem_of_getElem? (i := 15) rfl))
theorem wl_X5_143 : wLk (kw_V adE adK adV zr b L0 xs lo) "MeetingHouse$Parser" 143 kt_M211 2 := wLkb_ok (List.all_eq_true.mp wlb_X5_0 _ (List.mem_of_getElem? (i := 16) rfl))
theorem wl_X5_152 : wLk (kw_V adE adK adV zr b L0 xs lo) "MeetingHouse$Parser" 152 kt_M196 1 := wLkb_ok (List.all_eq_true.mp wlb_X5_0 _ (List.mem_of_getElem? (i := 17) rfl))
theorem wl_X5_155 : wLk (kw_V adE adK adV zr b L0 xs lo) "MeetingHouse$Parser" 155 kt_M171 1 := wLkb_ok (List.all_eq_true.mp wlb_X5_0 _ (List.mem_of_getElem? (i := 18) rfl))
theorem wl_X5_158 : wLk (kw_V adE adK adV zr b L0 xs lo) "MeetingHouse$Parser" 158 kt_M166 2 := wLkb_ok (List.all_eq_true.mp wlb_X5_0 _ (List.mem_of_getElem? (i := 19) rfl))
theorem wl_X5_165 : wLk (kw_V adE adK adV zr b L0 xs lo) "MeetingHouse$Parser" 165 kt_M160 1 := wLkb_ok (List.all_eq_true.mp wlb_X5_0 _ (List.mem_of_getElem? (i := 20) rfl))
theorem wl_X5_174 : wLk (kw_V adE adK adV zr b L0 xs lo) "MeetingHouse$Parser" 174 kt_M212 0 := wLkb_ok (List.all_eq_true.mp wlb_X5_0 _ (List.mem_of_getElem? (i := 21) rfl))
theorem wl_X5_180 : wLk (kw_V adE adK adV zr b L0 xs lo) "MeetingHouse$Parser" 180 kt_M180 2 := wLkb_ok (List.all_eq_true.mp wlb_X5_0 _ (List.mem_of_getElem? (i := 22) rfl))
theorem wl_X5_184 : wLk (kw_V adE adK adV zr b L0 xs lo) "MeetingHouse$Parser" 184 kt_M194 2 := wLkb_ok (List.all_eq_true.mp wlb_X5_0 _ (List.mem_of_getElem? (i := 23) rfl))
theorem wl_X5_188 : wLk (kw_V adE adK adV zr b L0 xs lo) "MeetingHouse$Parser" 188 kt_M175 0 := wLkb_ok (List.all_eq_true.mp wlb_X5_0 _ (List.mem_of_getElem? (i := 24) rfl))
theorem wl_X5_194 : wLk (kw_V adE adK adV zr b L0 xs lo) "MeetingHouse$Parser" 194 kt_M177 0 := wLkb_ok (List.all_eq_true.mp wlb_X5_0 _ (List.mem_of_getElem? (i := 25) rfl))
theorem wl_X5_198 : wLk (kw_V adE adK adV zr b L0 xs lo) "MeetingHouse$Parser" 198 kt_M188 1 := wLkb_ok (List.all_eq_true.mp wlb_X5_0 _ (List.mem_of_getElem? (i := 26) rfl))
theorem wl_X5_201 : wLk (kw_V adE adK adV zr b L0 xs lo) "MeetingHouse$Parser" 201 kt_M187 1 := wLkb_ok (List.all_eq_true.mp wlb_X5_0 _ (List.mem_of_getElem? (i := 27) rfl))
theorem wl_X5_217 : wLk (kw_V adE adK adV zr b L0 xs lo) "MeetingHouse$Parser" 217 kt_M190 1 := wLkb_ok (List.all_eq_true.mp wlb_X5_0 _ (List.mem_of_getElem? (i := 28) rfl))
theorem wl_X5_220 : wLk (kw_V adE adK adV zr b L0 xs lo) "MeetingHouse$Parser" 220 kt_M214 1 := wLkb_ok (List.all_eq_true.mp wlb_X5_0 _ (List.mem_of_getElem? (i := 29) rfl))
theorem wl_X5_222 : wLk (kw_V adE adK adV zr b L0 xs lo) "MeetingHouse$Parser" 222 kt_M205 2 := wLkb_ok (List.all_eq_true.mp wlb_X5_0 _ (List.mem_of_getElem? (i := 30) rfl))
theorem wl_X5_226 : wLk (kw_V adE adK adV zr b L0 xs lo) "MeetingHouse$Parser" 226 kt_M201 2 := wLkb_ok (List.all_eq_true.mp wlb_X5_0 _ (List.mem_of_getElem? (i := 31) rfl))
theorem wl_X5_229 : wLk (kw_V adE adK adV zr b L0 xs lo) "MeetingHouse$Parser" 229 kt_M174 0 := wLkb_ok (List.all_eq_true.mp wlb_X5_0 _ (List.mem_of_getElem? (i := 32) rfl))
theorem wl_X5_237 : wLk (kw_V adE adK adV zr b L0 xs lo) "MeetingHouse$Parser" 237 kt_M193 0 := wLkb_ok (List.all_eq_true.mp wlb_X5_0 _ (List.mem_of_getElem? (i := 33) rfl))
theorem wl_X5_242 : wLk (kw_V adE adK adV zr b L0 xs lo) "MeetingHouse$Parser" 242 kt_M207 2 := wLkb_ok (List.all_eq_true.mp wlb_X5_0 _ (List.mem_of_getElem? (i := 34) rfl))
theorem wl_X5_249 : wLk (kw_V adE adK adV zr b L0 xs lo) "MeetingHouse$Parser" 249 kt_M172 0 := wLkb_ok (List.all_eq_true.mp wlb_X5_0 _ (List.mem_of_getElem? (i := 35) rfl))
theorem wl_X5_255 : wLk (kw_V adE adK adV zr b L0 xs lo) "MeetingHouse$Parser" 255 kt_M197 1 := wLkb_ok (List.all_eq_true.mp wlb_X5_0 _ (List.mem_of_getElem? (i := 36) rfl))
theorem wl_X5_264 : wLk (kw_V adE adK adV zr b L0 xs lo) "MeetingHouse$Parser" 264 kt_M200 0 := wLkb_ok (List.all_eq_true.mp wlb_X5_0 _ (List.mem_of_getElem? (i := 37) rfl))
theorem wl_X5_273 : wLk (kw_V adE adK adV zr b L0 xs lo) "MeetingHouse$Parser" 273 kt_M170 1 := wLkb_ok (List.all_eq_true.mp wlb_X5_0 _ (List.mem_of_getElem? (i := 38) rfl))
theorem wl_X5_279 : wLk (kw_V adE adK adV zr b L0 xs lo) "MeetingHouse$Parser" 279 kt_M179 0 := wLkb_ok (List.all_eq_true.mp wlb_X5_0 _ (List.mem_of_getElem? (i := 39) rfl))
def wll_X5_1 : List (Nat × kx_M × Nat) := [(303, kt_M167, 2), (315, kt_M206, 0), (318, kt_M203, 2), (325, kt_M169, 1), (331, kt_M199, 1), (337, kt_M161, 2), (343, kt_M165, 0), (352, kt_M178, 0), (358, kt_M181, 1), (373, kt_M173, 1), (376, kt_M215, 1), (385, kt_M162, 0), (388, kt_M182, 2), (397, kt_M208, 2), (413, kt_M198, 0), (416, kt_M168, 1), (420, kt_M185, 0), (447, kt_M209, 1)]
theorem wlb_X5_1 : wll_X5_1.all (wLkb "MeetingHouse$Parser") = true := by decide +kernel
theorem wl_X5_303 : wLk (kw_V adE adK adV zr b L0 xs lo) "MeetingHouse$Parser" 303 kt_M167 2 := wLkb_ok (List.all_eq_true.mp wlb_X5_1 _ (List.mem_of_getElem? (i := 0) rfl))
theorem wl_X5_315 : wLk (kw_V adE adK adV zr b L0 xs lo) "MeetingHouse$Parser" 315 kt_M206 0 := wLkb_ok (List.all_eq_true.mp wlb_X5_1 _ (List.mem_of_getElem? (i := 1) rfl))
theorem wl_X5_318 : wLk (kw_V adE adK adV zr b L0 xs lo) "MeetingHouse$Parser" 318 kt_M203 2 := wLkb_ok (List.all_eq_true.mp wlb_X5_1 _ (List.mem_of_getElem? (i := 2) rfl))
theorem wl_X5_325 : wLk (kw_V adE adK adV zr b L0 xs lo) "MeetingHouse$Parser" 325 kt_M169 1 := wLkb_ok (List.all_eq_true.mp wlb_X5_1 _ (List.mem_of_getElem? (i := 3) rfl))
theorem wl_X5_331 : wLk (kw_V adE adK adV zr b L0 xs lo) "MeetingHouse$Parser" 331 kt_M199 1 := wLkb_ok (List.all_eq_true.mp wlb_X5_1 _ (List.mem_of_getElem? (i := 4) rfl))
theorem wl_X5_337 : wLk (kw_V adE adK adV zr b L0 xs lo) "MeetingHouse$Parser" 337 kt_M161 2 := wLkb_ok (List.all_eq_true.mp wlb_X5_1 _ (List.mem_of_getElem? (i := 5) rfl))
theorem wl_X5_343 : wLk (kw_V adE adK adV zr b L0 xs lo) "MeetingHouse$Parser" 343 kt_M165 0 := wLkb_ok (List.all_eq_true.mp wlb_X5_1 _ (List.mem_of_getElem? (i := 6) rfl))
theorem wl_X5_352 : wLk (kw_V adE adK adV zr b L0 xs lo) "MeetingHouse$Parser" 352 kt_M178 0 := wLkb_ok (List.all_eq_true.mp wlb_X5_1 _ (List.mem_of_getElem? (i := 7) rfl))
theorem wl_X5_358 : wLk (kw_V adE adK adV zr b L0 xs lo) "MeetingHouse$Parser" 358 kt_M181 1 := wLkb_ok (List.all_eq_true.mp wlb_X5_1 _ (List.mem_of_getElem? (i := 8) rfl))
theorem wl_X5_373 : wLk (kw_V adE adK adV zr b L0 xs lo) "MeetingHouse$Parser" 373 kt_M173 1 := wLkb_ok (List.all_eq_true.mp wlb_X5_1 _ (List.mem_of_getElem? (i := 9) rfl))
theorem wl_X5_376 : wLk (kw_V adE adK adV zr b L0 xs lo) "MeetingHouse$Parser" 376 kt_M215 1 := wLkb_ok (List.all_eq_true.mp wlb_X5_1 _ (List.mem_of_getElem? (i := 10) rfl))
theorem wl_X5_385 : wLk (kw_V adE adK adV zr b L0 xs lo) "MeetingHouse$Parser" 385 kt_M162 0 := wLkb_ok (List.all_eq_true.mp wlb_X5_1 _ (List.mem_of_getElem? (i := 11) rfl))
theorem wl_X5_388 : wLk (kw_V adE adK adV zr b L0 xs lo) "MeetingHouse$Parser" 388 kt_M182 2 := wLkb_ok (List.all_eq_true.mp wlb_X5_1 _ (List.mem_of_getElem? (i := 12) rfl))
theorem wl_X5_397 : wLk (kw_V adE adK adV zr b L0 xs lo) "MeetingHouse$Parser" 397 kt_M208 2 := wLkb_ok (List.all_eq_true.mp wlb_X5_1 _ (List.mem_of_getElem? (i := 13) rfl))
theorem wl_X5_413 : wLk (kw_V adE adK adV zr b L0 xs lo) "MeetingHouse$Parser" 413 kt_M198 0 := wLkb_ok (List.all_eq_true.mp wlb_X5_1 _ (List.mem_of_getElem? (i := 14) rfl))
theorem wl_X5_416 : wLk (kw_V adE adK adV zr b L0 xs lo) "MeetingHouse$Parser" 416 kt_M168 1 := wLkb_ok (List.all_eq_true.mp wlb_X5_1 _ (List.mem_of_getElem? (i := 15) rfl))
theorem wl_X5_420 : wLk (kw_V adE adK adV zr b L0 xs lo) "MeetingHouse$Parser" 420 kt_M185 0 := wLkb_ok (List.all_eq_true.mp wlb_X5_1 _ (List.mem_of_getElem? (i := 16) rfl))
theorem wl_X5_447 : wLk (kw_V adE adK adV zr b L0 xs lo) "MeetingHouse$Parser" 447 kt_M209 1 := wLkb_ok (List.all_eq_true.mp wlb_X5_1 _ (List.mem_of_getElem? (i := 17) rfl))
def wll_X4_0 : List (Nat × kx_M × Nat) := [(44, kt_M158, 3), (49, kt_M229, 3), (53, kt_M292, 2)]
theorem wlb_X4_0 : wll_X4_0.all (wLkb "MeetingHouse$Store") = true := by decide +kernel
theorem wl_X4_44 : wLk (kw_V adE adK adV zr b L0 xs lo) "MeetingHouse$Store" 44 kt_M158 3 := wLkb_ok (List.all_eq_true.mp wlb_X4_0 _ (List.mem_of_getElem? (i := 0) rfl))
theorem wl_X4_49 : wLk (kw_V adE adK adV zr b L0 xs lo) "MeetingHouse$Store" 49 kt_M229 3 := wLkb_ok (List.all_eq_true.mp wlb_X4_0 _ (List.mem_of_getElem? (i := 1) rfl))
theorem wl_X4_53 : wLk (kw_V adE adK adV zr b L0 xs lo) "MeetingHouse$Store" 53 kt_M292 2 := wLkb_ok (List.all_eq_true.mp wlb_X4_0 _ (List.mem_of_getElem? (i := 2) rfl))
def wll_X20_0 : List (Nat × kx_M × Nat) := [(87, kt_M232, 2)]
theorem wlb_X20_0 : wll_X20_0.all (wLkb "MeetingHouse$Task") = true := by decide +kernel
theorem wl_X20_87 : wLk (kw_V adE adK adV zr b L0 xs lo) "MeetingHouse$Task" 87 kt_M232 2 := wLkb_ok (List.all_eq_true.mp wlb_X20_0 _ (List.mem_of_getElem? (i := 0) rfl))
def wll_X2_0 : List (Nat × kx_M × Nat) := [(57, kt_M241, 1), (61, kt_M240, 1), (82, kt_M627, 0), (87, kt_M623, 1), (91, kt_M244, 3), (98, kt_M243, 0), (110, kt_M239, 3), (118, kt_M236, 4), (122, kt_M251, 3), (129, kt_M252, 3), (132, kt_M245, 3), (135, kt_M249, 3), (138, kt_M250, 3), (141, kt_M237, 3), (144, kt_M247, 3), (150, kt_M242, 1), (170, kt_M248, 1), (174, kt_M246, 2), (184, kt_M335, 2), (187, kt_M334, 1)]
theorem wlb_X2_0 : wll_X2_0.all (wLkb "MeetingHouse$Tokens") = true := by decide +kernel
theorem wl_X2_57 : wLk (kw_V adE adK adV zr b L0 xs lo) "MeetingHouse$Tokens" 57 kt_M241 1 := wLkb_ok (List.all_eq_true.mp wlb_X2_0 _ (List.mem_of_getElem? (i := 0) rfl))
theorem wl_X2_61 : wLk (kw_V adE adK adV zr b L0 xs lo) "MeetingHouse$Tokens" 61 kt_M240 1 := wLkb_ok (List.all_eq_true.mp wlb_X2_0 _ (List.mem_of_getElem? (i := 1) rfl))
theorem wl_X2_82 : wLk (kw_V adE adK adV zr b L0 xs lo) "MeetingHouse$Tokens" 82 kt_M627 0 := wLkb_ok (List.all_eq_true.mp wlb_X2_0 _ (List.mem_of_getElem? (i := 2) rfl))
theorem wl_X2_87 : wLk (kw_V adE adK adV zr b L0 xs lo) "MeetingHouse$Tokens" 87 kt_M623 1 := wLkb_ok (List.all_eq_true.mp wlb_X2_0 _ (List.mem_of_getElem? (i := 3) rfl))
theorem wl_X2_91 : wLk (kw_V adE adK adV zr b L0 xs lo) "MeetingHouse$Tokens" 91 kt_M244 3 := wLkb_ok (List.all_eq_true.mp wlb_X2_0 _ (List.mem_of_getElem? (i := 4) rfl))
theorem wl_X2_98 : wLk (kw_V adE adK adV zr b L0 xs lo) "MeetingHouse$Tokens" 98 kt_M243 0 := wLkb_ok (List.all_eq_true.mp wlb_X2_0 _ (List.mem_of_getElem? (i := 5) rfl))
theorem wl_X2_110 : wLk (kw_V adE adK adV zr b L0 xs lo) "MeetingHouse$Tokens" 110 kt_M239 3 := wLkb_ok (List.all_eq_true.mp wlb_X2_0 _ (List.mem_of_getElem? (i := 6) rfl))
theorem wl_X2_118 : wLk (kw_V adE adK adV zr b L0 xs lo) "MeetingHouse$Tokens" 118 kt_M236 4 := wLkb_ok (List.all_eq_true.mp wlb_X2_0 _ (List.mem_of_getElem? (i := 7) rfl))
theorem wl_X2_122 : wLk (kw_V adE adK adV zr b L0 xs lo) "MeetingHouse$Tokens" 122 kt_M251 3 := wLkb_ok (List.all_eq_true.mp wlb_X2_0 _ (List.mem_of_getElem? (i := 8) rfl))
theorem wl_X2_129 : wLk (kw_V adE adK adV zr b L0 xs lo) "MeetingHouse$Tokens" 129 kt_M252 3 := wLkb_ok (List.all_eq_true.mp wlb_X2_0 _ (List.mem_of_getElem? (i := 9) rfl))
theorem wl_X2_132 : wLk (kw_V adE adK adV zr b L0 xs lo) "MeetingHouse$Tokens" 132 kt_M245 3 := wLkb_ok (List.all_eq_true.mp wlb_X2_0 _ (List.mem_of_getElem? (i := 10) rfl))
theorem wl_X2_135 : wLk (kw_V adE adK adV zr b L0 xs lo) "MeetingHouse$Tokens" 135 kt_M249 3 := wLkb_ok (List.all_eq_true.mp wlb_X2_0 _ (List.mem_of_getElem? (i := 11) rfl))
theorem wl_X2_138 : wLk (kw_V adE adK adV zr b L0 xs lo) "MeetingHouse$Tokens" 138 kt_M250 3 := wLkb_ok (List.all_eq_true.mp wlb_X2_0 _ (List.mem_of_getElem? (i := 12) rfl))
theorem wl_X2_141 : wLk (kw_V adE adK adV zr b L0 xs lo) "MeetingHouse$Tokens" 141 kt_M237 3 := wLkb_ok (List.all_eq_true.mp wlb_X2_0 _ (List.mem_of_getElem? (i := 13) rfl))
theorem wl_X2_144 : wLk (kw_V adE adK adV zr b L0 xs lo) "MeetingHouse$Tokens" 144 kt_M247 3 := wLkb_ok (List.all_eq_true.mp wlb_X2_0 _ (List.mem_of_getElem? (i := 14) rfl))
theorem wl_X2_150 : wLk (kw_V adE adK adV zr b L0 xs lo) "MeetingHouse$Tokens" 150 kt_M242 1 := wLkb_ok (List.all_eq_true.mp wlb_X2_0 _ (List.mem_of_getElem? (i := 15) rfl))
theorem wl_X2_170 : wLk (kw_V adE adK adV zr b L0 xs lo) "MeetingHouse$Tokens" 170 kt_M248 1 := wLkb_ok (List.all_eq_true.mp wlb_X2_0 _ (List.mem_of_getElem? (i := 16) rfl))
theorem wl_X2_174 : wLk (kw_V adE adK adV zr b L0 xs lo) "MeetingHouse$Tokens" 174 kt_M246 2 := wLkb_ok (List.all_eq_true.mp wlb_X2_0 _ (List.mem_of_getElem? (i := 17) rfl))
theorem wl_X2_184 : wLk (kw_V adE adK adV zr b L0 xs lo) "MeetingHouse$Tokens" 184 kt_M335 2 := wLkb_ok (List.all_eq_true.mp wlb_X2_0 _ (List.mem_of_getElem? (i := 18) rfl))
theorem wl_X2_187 : wLk (kw_V adE adK adV zr b L0 xs lo) "MeetingHouse$Tokens" 187 kt_M334 1 := wLkb_ok (List.all_eq_true.mp wlb_X2_0 _ (List.mem_of_getElem? (i := 19) rfl))
def wll_X7_0 : List (Nat × kx_M × Nat) := [(30, kt_M280, 1), (40, kt_M264, 1), (49, kt_M255, 1), (55, kt_M56, 2), (71, kt_M266, 1), (92, kt_M263, 1), (99, kt_M284, 1), (118, kt_M287, 1), (120, kt_M254, 1), (123, kt_M278, 3), (127, kt_M283, 1), (138, kt_M279, 1), (147, kt_M256, 2), (157, kt_M282, 2), (167, kt_M289, 2), (171, kt_M260, 1), (174, kt_M271, 2), (177, kt_M277, 1), (180, kt_M259, 1), (186, kt_M281, 2), (190, kt_M276, 1), (192, kt_M257, 1), (195, kt_M268, 3), (221, kt_M275, 4), (234, kt_M288, 2), (252, kt_M273, 3), (270, kt_M258, 3), (280, kt_M270, 2), (283, kt_M290, 1), (286, kt_M269, 4), (290, kt_M262, 1), (293, kt_M285, 1), (296, kt_M265, 1), (299, kt_M274, 1), (302, kt_M286, 1), (305, kt_M261, 1), (308, kt_M267, 1), (316, kt_M216, 3), (321, kt_M217, 3)]
theorem wlb_X7_0 : wll_X7_0.all (wLkb "MeetingHouse$Types") = true := by decide +kernel
theorem wl_X7_30 : wLk (kw_V adE adK adV zr b L0 xs lo) "MeetingHouse$Types" 30 kt_M280 1 := wLkb_ok (List.all_eq_true.mp wlb_X7_0 _ (List.mem_of_getElem? (i := 0) rfl))
theorem wl_X7_40 : wLk (kw_V adE adK adV zr b L0 xs lo) "MeetingHouse$Types" 40 kt_M264 1 := wLkb_ok (List.all_eq_true.mp wlb_X7_0 _ (List.mem_of_getElem? (i := 1) rfl))
theorem wl_X7_49 : wLk (kw_V adE adK adV zr b L0 xs lo) "MeetingHouse$Types" 49 kt_M255 1 := wLkb_ok (List.all_eq_true.mp wlb_X7_0 _ (List.mem_of_getElem? (i := 2) rfl))
theorem wl_X7_55 : wLk (kw_V adE adK adV zr b L0 xs lo) "MeetingHouse$Types" 55 kt_M56 2 := wLkb_ok (List.all_eq_true.mp wlb_X7_0 _ (List.mem_of_getElem? (i := 3) rfl))
theorem wl_X7_71 : wLk (kw_V adE adK adV zr b L0 xs lo) "MeetingHouse$Types" 71 kt_M266 1 := wLkb_ok (List.all_eq_true.mp wlb_X7_0 _ (List.mem_of_getElem? (i := 4) rfl))
theorem wl_X7_92 : wLk (kw_V adE adK adV zr b L0 xs lo) "MeetingHouse$Types" 92 kt_M263 1 := wLkb_ok (List.all_eq_true.mp wlb_X7_0 _ (List.mem_of_getElem? (i := 5) rfl))
theorem wl_X7_99 : wLk (kw_V adE adK adV zr b L0 xs lo) "MeetingHouse$Types" 99 kt_M284 1 := wLkb_ok (List.all_eq_true.mp wlb_X7_0 _ (List.mem_of_getElem? (i := 6) rfl))
theorem wl_X7_118 : wLk (kw_V adE adK adV zr b L0 xs lo) "MeetingHouse$Types" 118 kt_M287 1 := wLkb_ok (List.all_eq_true.mp wlb_X7_0 _ (List.mem_of_getElem? (i := 7) rfl))
theorem wl_X7_120 : wLk (kw_V adE adK adV zr b L0 xs lo) "MeetingHouse$Types" 120 kt_M254 1 := wLkb_ok (List.all_eq_true.mp wlb_X7_0 _ (List.mem_of_getElem? (i := 8) rfl))
theorem wl_X7_123 : wLk (kw_V adE adK adV zr b L0 xs lo) "MeetingHouse$Types" 123 kt_M278 3 := wLkb_ok (List.all_eq_true.mp wlb_X7_0 _ (List.mem_of_getElem? (i := 9) rfl))
theorem wl_X7_127 : wLk (kw_V adE adK adV zr b L0 xs lo) "MeetingHouse$Types" 127 kt_M283 1 := wLkb_ok (List.all_eq_true.mp wlb_X7_0 _ (List.mem_of_getElem? (i := 10) rfl))
theorem wl_X7_138 : wLk (kw_V adE adK adV zr b L0 xs lo) "MeetingHouse$Types" 138 kt_M279 1 := wLkb_ok (List.all_eq_true.mp wlb_X7_0 _ (List.mem_of_getElem? (i := 11) rfl))
theorem wl_X7_147 : wLk (kw_V adE adK adV zr b L0 xs lo) "MeetingHouse$Types" 147 kt_M256 2 := wLkb_ok (List.all_eq_true.mp wlb_X7_0 _ (List.mem_of_getElem? (i := 12) rfl))
theorem wl_X7_157 : wLk (kw_V adE adK adV zr b L0 xs lo) "MeetingHouse$Types" 157 kt_M282 2 := wLkb_ok (List.all_eq_true.mp wlb_X7_0 _ (List.mem_of_getElem? (i := 13) rfl))
theorem wl_X7_167 : wLk (kw_V adE adK adV zr b L0 xs lo) "MeetingHouse$Types" 167 kt_M289 2 := wLkb_ok (List.all_eq_true.mp wlb_X7_0 _ (List.mem_of_getElem? (i := 14) rfl))
theorem wl_X7_171 : wLk (kw_V adE adK adV zr b L0 xs lo) "MeetingHouse$Types" 171 kt_M260 1 := wLkb_ok (List.all_eq_true.mp wlb_X7_0 _ (List.mem_of_getElem? (i := 15) rfl))
theorem wl_X7_174 : wLk (kw_V adE adK adV zr b L0 xs lo) "MeetingHouse$Types" 174 kt_M271 2 := wLkb_ok (List.all_eq_true.mp wlb_X7_0 _ (List.mem_of_getElem? (i := 16) rfl))
theorem wl_X7_177 : wLk (kw_V adE adK adV zr b L0 xs lo) "MeetingHouse$Types" 177 kt_M277 1 := wLkb_ok (List.all_eq_true.mp wlb_X7_0 _ (List.mem_of_getElem? (i := 17) rfl))
theorem wl_X7_180 : wLk (kw_V adE adK adV zr b L0 xs lo) "MeetingHouse$Types" 180 kt_M259 1 := wLkb_ok (List.all_eq_true.mp wlb_X7_0 _ (List.mem_of_getElem? (i := 18) rfl))
theorem wl_X7_186 : wLk (kw_V adE adK adV zr b L0 xs lo) "MeetingHouse$Types" 186 kt_M281 2 := wLkb_ok (List.all_eq_true.mp wlb_X7_0 _ (List.mem_of_getElem? (i := 19) rfl))
theorem wl_X7_190 : wLk (kw_V adE adK adV zr b L0 xs lo) "MeetingHouse$Types" 190 kt_M276 1 := wLkb_ok (List.all_eq_true.mp wlb_X7_0 _ (List.mem_of_getElem? (i := 20) rfl))
theorem wl_X7_192 : wLk (kw_V adE adK adV zr b L0 xs lo) "MeetingHouse$Types" 192 kt_M257 1 := wLkb_ok (List.all_eq_true.mp wlb_X7_0 _ (List.mem_of_getElem? (i := 21) rfl))
theorem wl_X7_195 : wLk (kw_V adE adK adV zr b L0 xs lo) "MeetingHouse$Types" 195 kt_M268 3 := wLkb_ok (List.all_eq_true.mp wlb_X7_0 _ (List.mem_of_getElem? (i := 22) rfl))
theorem wl_X7_221 : wLk (kw_V adE adK adV zr b L0 xs lo) "MeetingHouse$Types" 221 kt_M275 4 := wLkb_ok (List.all_eq_true.mp wlb_X7_0 _ (List.mem_of_getElem? (i := 23) rfl))
theorem wl_X7_234 : wLk (kw_V adE adK adV zr b L0 xs lo) "MeetingHouse$Types" 234 kt_M288 2 := wLkb_ok (List.all_eq_true.mp wlb_X7_0 _ (List.mem_of_getElem? (i := 24) rfl))
theorem wl_X7_252 : wLk (kw_V adE adK adV zr b L0 xs lo) "MeetingHouse$Types" 252 kt_M273 3 := wLkb_ok (List.all_eq_true.mp wlb_X7_0 _ (List.mem_of_getElem? (i := 25) rfl))
theorem wl_X7_270 : wLk (kw_V adE adK adV zr b L0 xs lo) "MeetingHouse$Types" 270 kt_M258 3 := wLkb_ok (List.all_eq_true.mp wlb_X7_0 _ (List.mem_of_getElem? (i := 26) rfl))
theorem wl_X7_280 : wLk (kw_V adE adK adV zr b L0 xs lo) "MeetingHouse$Types" 280 kt_M270 2 := wLkb_ok (List.all_eq_true.mp wlb_X7_0 _ (List.mem_of_getElem? (i := 27) rfl))
theorem wl_X7_283 : wLk (kw_V adE adK adV zr b L0 xs lo) "MeetingHouse$Types" 283 kt_M290 1 := wLkb_ok (List.all_eq_true.mp wlb_X7_0 _ (List.mem_of_getElem? (i := 28) rfl))
theorem wl_X7_286 : wLk (kw_V adE adK adV zr b L0 xs lo) "MeetingHouse$Types" 286 kt_M269 4 := wLkb_ok (List.all_eq_true.mp wlb_X7_0 _ (List.mem_of_getElem? (i := 29) rfl))
theorem wl_X7_290 : wLk (kw_V adE adK adV zr b L0 xs lo) "MeetingHouse$Types" 290 kt_M262 1 := wLkb_ok (List.all_eq_true.mp wlb_X7_0 _ (List.mem_of_getElem? (i := 30) rfl))
theorem wl_X7_293 : wLk (kw_V adE adK adV zr b L0 xs lo) "MeetingHouse$Types" 293 kt_M285 1 := wLkb_ok (List.all_eq_true.mp wlb_X7_0 _ (List.mem_of_getElem? (i := 31) rfl))
theorem wl_X7_296 : wLk (kw_V adE adK adV zr b L0 xs lo) "MeetingHouse$Types" 296 kt_M265 1 := wLkb_ok (List.all_eq_true.mp wlb_X7_0 _ (List.mem_of_getElem? (i := 32) rfl))
theorem wl_X7_299 : wLk (kw_V adE adK adV zr b L0 xs lo) "MeetingHouse$Types" 299 kt_M274 1 := wLkb_ok (List.all_eq_true.mp wlb_X7_0 _ (List.mem_of_getElem? (i := 33) rfl))
theorem wl_X7_302 : wLk (kw_V adE adK adV zr b L0 xs lo) "MeetingHouse$Types" 302 kt_M286 1 := wLkb_ok (List.all_eq_true.mp wlb_X7_0 _ (List.mem_of_getElem? (i := 34) rfl))
theorem wl_X7_305 : wLk (kw_V adE adK adV zr b L0 xs lo) "MeetingHouse$Types" 305 kt_M261 1 := wLkb_ok (List.all_eq_true.mp wlb_X7_0 _ (List.mem_of_getElem? (i := 35) rfl))
theorem wl_X7_308 : wLk (kw_V adE adK adV zr b L0 xs lo) "MeetingHouse$Types" 308 kt_M267 1 := wLkb_ok (List.all_eq_true.mp wlb_X7_0 _ (List.mem_of_getElem? (i := 36) rfl))
theorem wl_X7_316 : wLk (kw_V adE adK adV zr b L0 xs lo) "MeetingHouse$Types" 316 kt_M216 3 := wLkb_ok (List.all_eq_true.mp wlb_X7_0 _ (List.mem_of_getElem? (i := 37) rfl))
theorem wl_X7_321 : wLk (kw_V adE adK adV zr b L0 xs lo) "MeetingHouse$Types" 321 kt_M217 3 := wLkb_ok (List.all_eq_true.mp wlb_X7_0 _ (List.mem_of_getElem? (i := 38) rfl))
def wll_X8_0 : List (Nat × kx_M × Nat) := [(54, kt_M296, 2), (64, kt_M324, 2), (73, kt_M294, 2), (98, kt_M328, 1), (119, kt_M321, 1), (122, kt_M308, 1), (125, kt_M306, 1), (151, kt_M297, 2), (158, kt_M322, 0), (167, kt_M313, 2), (196, kt_M56, 2), (206, kt_M299, 1), (215, kt_M320, 2), (222, kt_M303, 2), (225, kt_M332, 2), (234, kt_M312, 5), (244, kt_M319, 3), (257, kt_M310, 1), (260, kt_M311, 1), (263, kt_M325, 1), (266, kt_M302, 1), (269, kt_M301, 1), (292, kt_M295, 1), (301, kt_M309, 1), (304, kt_M305, 1), (307, kt_M314, 2), (310, kt_M307, 2), (315, kt_M304, 1), (318, kt_M323, 1), (324, kt_M298, 4), (328, kt_M318, 1), (340, kt_M300, 1), (343, kt_M315, 1), (347, kt_M330, 3), (357, kt_M331, 1), (362, kt_M329, 0), (369, kt_M326, 2), (372, kt_M316, 1), (381, kt_M216, 3), (387, kt_M217, 3)]
theorem wlb_X8_0 : wll_X8_0.all (wLkb "MeetingHouse$Uses") = true := by decide +kernel
theorem wl_X8_54 : wLk (kw_V adE adK adV zr b L0 xs lo) "MeetingHouse$Uses" 54 kt_M296 2 := wLkb_ok (List.all_eq_true.mp wlb_X8_0 _ (List.mem_of_getElem? (i := 0) rfl))
theorem wl_X8_64 : wLk (kw_V adE adK adV zr b L0 xs lo) "MeetingHouse$Uses" 64 kt_M324 2 := wLkb_ok (List.all_eq_true.mp wlb_X8_0 _ (List.mem_of_getElem? (i := 1) rfl))
theorem wl_X8_73 : wLk (kw_V adE adK adV zr b L0 xs lo) "MeetingHouse$Uses" 73 kt_M294 2 := wLkb_ok (List.all_eq_true.mp wlb_X8_0 _ (List.mem_of_getElem? (i := 2) rfl))
theorem wl_X8_98 : wLk (kw_V adE adK adV zr b L0 xs lo) "MeetingHouse$Uses" 98 kt_M328 1 := wLkb_ok (List.all_eq_true.mp wlb_X8_0 _ (List.mem_of_getElem? (i := 3) rfl))
theorem wl_X8_119 : wLk (kw_V adE adK adV zr b L0 xs lo) "MeetingHouse$Uses" 119 kt_M321 1 := wLkb_ok (List.all_eq_true.mp wlb_X8_0 _ (List.mem_of_getElem? (i := 4) rfl))
theorem wl_X8_122 : wLk (kw_V adE adK adV zr b L0 xs lo) "MeetingHouse$Uses" 122 kt_M308 1 := wLkb_ok (List.all_eq_true.mp wlb_X8_0 _ (List.mem_of_getElem? (i := 5) rfl))
theorem wl_X8_125 : wLk (kw_V adE adK adV zr b L0 xs lo) "MeetingHouse$Uses" 125 kt_M306 1 := wLkb_ok (List.all_eq_true.mp wlb_X8_0 _ (List.mem_of_getElem? (i := 6) rfl))
theorem wl_X8_151 : wLk (kw_V adE adK adV zr b L0 xs lo) "MeetingHouse$Uses" 151 kt_M297 2 := wLkb_ok (List.all_eq_true.mp wlb_X8_0 _ (List.mem_of_getElem? (i := 7) rfl))
theorem wl_X8_158 : wLk (kw_V adE adK adV zr b L0 xs lo) "MeetingHouse$Uses" 158 kt_M322 0 := wLkb_ok (List.all_eq_true.mp wlb_X8_0 _ (List.mem_of_getElem? (i := 8) rfl))
theorem wl_X8_167 : wLk (kw_V adE adK adV zr b L0 xs lo) "MeetingHouse$Uses" 167 kt_M313 2 := wLkb_ok (List.all_eq_true.mp wlb_X8_0 _ (List.mem_of_getElem? (i := 9) rfl))
theorem wl_X8_196 : wLk (kw_V adE adK adV zr b L0 xs lo) "MeetingHouse$Uses" 196 kt_M56 2 := wLkb_ok (List.all_eq_true.mp wlb_X8_0 _ (List.mem_of_getElem? (i := 10) rfl))
theorem wl_X8_206 : wLk (kw_V adE adK adV zr b L0 xs lo) "MeetingHouse$Uses" 206 kt_M299 1 := wLkb_ok (List.all_eq_true.mp wlb_X8_0 _ (List.mem_of_getElem? (i := 11) rfl))
theorem wl_X8_215 : wLk (kw_V adE adK adV zr b L0 xs lo) "MeetingHouse$Uses" 215 kt_M320 2 := wLkb_ok (List.all_eq_true.mp wlb_X8_0 _ (List.mem_of_getElem? (i := 12) rfl))
theorem wl_X8_222 : wLk (kw_V adE adK adV zr b L0 xs lo) "MeetingHouse$Uses" 222 kt_M303 2 := wLkb_ok (List.all_eq_true.mp wlb_X8_0 _ (List.mem_of_getElem? (i := 13) rfl))
theorem wl_X8_225 : wLk (kw_V adE adK adV zr b L0 xs lo) "MeetingHouse$Uses" 225 kt_M332 2 := wLkb_ok (List.all_eq_true.mp wlb_X8_0 _ (List.mem_of_getElem? (i := 14) rfl))
theorem wl_X8_234 : wLk (kw_V adE adK adV zr b L0 xs lo) "MeetingHouse$Uses" 234 kt_M312 5 := wLkb_ok (List.all_eq_true.mp wlb_X8_0 _ (List.mem_of_getElem? (i := 15) rfl))
theorem wl_X8_244 : wLk (kw_V adE adK adV zr b L0 xs lo) "MeetingHouse$Uses" 244 kt_M319 3 := wLkb_ok (List.all_eq_true.mp wlb_X8_0 _ (List.mem_of_getElem? (i := 16) rfl))
theorem wl_X8_257 : wLk (kw_V adE adK adV zr b L0 xs lo) "MeetingHouse$Uses" 257 kt_M310 1 := wLkb_ok (List.all_eq_true.mp wlb_X8_0 _ (List.mem_of_getElem? (i := 17) rfl))
theorem wl_X8_260 : wLk (kw_V adE adK adV zr b L0 xs lo) "MeetingHouse$Uses" 260 kt_M311 1 := wLkb_ok (List.all_eq_true.mp wlb_X8_0 _ (List.mem_of_getElem? (i := 18) rfl))
theorem wl_X8_263 : wLk (kw_V adE adK adV zr b L0 xs lo) "MeetingHouse$Uses" 263 kt_M325 1 := wLkb_ok (List.all_eq_true.mp wlb_X8_0 _ (List.mem_of_getElem? (i := 19) rfl))
theorem wl_X8_266 : wLk (kw_V adE adK adV zr b L0 xs lo) "MeetingHouse$Uses" 266 kt_M302 1 := wLkb_ok (List.all_eq_true.mp wlb_X8_0 _ (List.mem_of_getElem? (i := 20) rfl))
theorem wl_X8_269 : wLk (kw_V adE adK adV zr b L0 xs lo) "MeetingHouse$Uses" 269 kt_M301 1 := wLkb_ok (List.all_eq_true.mp wlb_X8_0 _ (List.mem_of_getElem? (i := 21) rfl))
theorem wl_X8_292 : wLk (kw_V adE adK adV zr b L0 xs lo) "MeetingHouse$Uses" 292 kt_M295 1 := wLkb_ok (List.all_eq_true.mp wlb_X8_0 _ (List.mem_of_getElem? (i := 22) rfl))
theorem wl_X8_301 : wLk (kw_V adE adK adV zr b L0 xs lo) "MeetingHouse$Uses" 301 kt_M309 1 := wLkb_ok (List.all_eq_true.mp wlb_X8_0 _ (List.mem_of_getElem? (i := 23) rfl))
theorem wl_X8_304 : wLk (kw_V adE adK adV zr b L0 xs lo) "MeetingHouse$Uses" 304 kt_M305 1 := wLkb_ok (List.all_eq_true.mp wlb_X8_0 _ (List.mem_of_getElem? (i := 24) rfl))
theorem wl_X8_307 : wLk (kw_V adE adK adV zr b L0 xs lo) "MeetingHouse$Uses" 307 kt_M314 2 := wLkb_ok (List.all_eq_true.mp wlb_X8_0 _ (List.mem_of_getElem? (i := 25) rfl))
theorem wl_X8_310 : wLk (kw_V adE adK adV zr b L0 xs lo) "MeetingHouse$Uses" 310 kt_M307 2 := wLkb_ok (List.all_eq_true.mp wlb_X8_0 _ (List.mem_of_getElem? (i := 26) rfl))
theorem wl_X8_315 : wLk (kw_V adE adK adV zr b L0 xs lo) "MeetingHouse$Uses" 315 kt_M304 1 := wLkb_ok (List.all_eq_true.mp wlb_X8_0 _ (List.mem_of_getElem? (i := 27) rfl))
theorem wl_X8_318 : wLk (kw_V adE adK adV zr b L0 xs lo) "MeetingHouse$Uses" 318 kt_M323 1 := wLkb_ok (List.all_eq_true.mp wlb_X8_0 _ (List.mem_of_getElem? (i := 28) rfl))
theorem wl_X8_324 : wLk (kw_V adE adK adV zr b L0 xs lo) "MeetingHouse$Uses" 324 kt_M298 4 := wLkb_ok (List.all_eq_true.mp wlb_X8_0 _ (List.mem_of_getElem? (i := 29) rfl))
theorem wl_X8_328 : wLk (kw_V adE adK adV zr b L0 xs lo) "MeetingHouse$Uses" 328 kt_M318 1 := wLkb_ok (List.all_eq_true.mp wlb_X8_0 _ (List.mem_of_getElem? (i := 30) rfl))
theorem wl_X8_340 : wLk (kw_V adE adK adV zr b L0 xs lo) "MeetingHouse$Uses" 340 kt_M300 1 := wLkb_ok (List.all_eq_true.mp wlb_X8_0 _ (List.mem_of_getElem? (i := 31) rfl))
theorem wl_X8_343 : wLk (kw_V adE adK adV zr b L0 xs lo) "MeetingHouse$Uses" 343 kt_M315 1 := wLkb_ok (List.all_eq_true.mp wlb_X8_0 _ (List.mem_of_getElem? (i := 32) rfl))
theorem wl_X8_347 : wLk (kw_V adE adK adV zr b L0 xs lo) "MeetingHouse$Uses" 347 kt_M330 3 := wLkb_ok (List.all_eq_true.mp wlb_X8_0 _ (List.mem_of_getElem? (i := 33) rfl))
theorem wl_X8_357 : wLk (kw_V adE adK adV zr b L0 xs lo) "MeetingHouse$Uses" 357 kt_M331 1 := wLkb_ok (List.all_eq_true.mp wlb_X8_0 _ (List.mem_of_getElem? (i := 34) rfl))
theorem wl_X8_362 : wLk (kw_V adE adK adV zr b L0 xs lo) "MeetingHouse$Uses" 362 kt_M329 0 := wLkb_ok (List.all_eq_true.mp wlb_X8_0 _ (List.mem_of_getElem? (i := 35) rfl))
theorem wl_X8_369 : wLk (kw_V adE adK adV zr b L0 xs lo) "MeetingHouse$Uses" 369 kt_M326 2 := wLkb_ok (List.all_eq_true.mp wlb_X8_0 _ (List.mem_of_getElem? (i := 36) rfl))
theorem wl_X8_372 : wLk (kw_V adE adK adV zr b L0 xs lo) "MeetingHouse$Uses" 372 kt_M316 1 := wLkb_ok (List.all_eq_true.mp wlb_X8_0 _ (List.mem_of_getElem? (i := 37) rfl))
theorem wl_X8_381 : wLk (kw_V adE adK adV zr b L0 xs lo) "MeetingHouse$Uses" 381 kt_M216 3 := wLkb_ok (List.all_eq_true.mp wlb_X8_0 _ (List.mem_of_getElem? (i := 38) rfl))
theorem wl_X8_387 : wLk (kw_V adE adK adV zr b L0 xs lo) "MeetingHouse$Uses" 387 kt_M217 3 := wLkb_ok (List.all_eq_true.mp wlb_X8_0 _ (List.mem_of_getElem? (i := 39) rfl))
def wll_X0_0 : List (Nat × kx_M × Nat) := [(7, kt_M2, 1), (15, kt_M13, 1), (25, kt_M6, 5), (29, kt_M409, 5), (30, kt_M1, 1), (33, kt_M356, 1), (34, kt_M12, 0), (38, kt_M520, 0), (39, kt_M5, 1), (42, kt_M380, 1), (43, kt_M336, 2), (48, kt_M358, 1), (49, kt_M561, 0), (52, kt_M337, 3), (55, kt_M527, 1), (56, kt_M8, 1), (60, kt_M453, 1), (61, kt_M10, 1), (64, kt_M500, 1), (65, kt_M11, 2), (69, kt_M515, 2), (70, kt_M3, 1), (73, kt_M366, 1), (74, kt_M9, 2), (77, kt_M469, 2), (78, kt_M4, 0), (81, kt_M372, 0)]
theorem wlb_X0_0 : wll_X0_0.all (wLkb "MeetingHouseLaw") = true := by decide +kernel
theorem wl_X0_7 : wLk (kw_V adE adK adV zr b L0 xs lo) "MeetingHouseLaw" 7 kt_M2 1 := wLkb_ok (List.all_eq_true.mp wlb_X0_0 _ (List.mem_of_getElem? (i := 0) rfl))
theorem wl_X0_15 : wLk (kw_V adE adK adV zr b L0 xs lo) "MeetingHouseLaw" 15 kt_M13 1 := wLkb_ok (List.all_eq_true.mp wlb_X0_0 _ (List.mem_of_getElem? (i := 1) rfl))
theorem wl_X0_25 : wLk (kw_V adE adK adV zr b L0 xs lo) "MeetingHouseLaw" 25 kt_M6 5 := wLkb_ok (List.all_eq_true.mp wlb_X0_0 _ (List.mem_of_getElem? (i := 2) rfl))
theorem wl_X0_29 : wLk (kw_V adE adK adV zr b L0 xs lo) "MeetingHouseLaw" 29 kt_M409 5 := wLkb_ok (List.all_eq_true.mp wlb_X0_0 _ (List.mem_of_getElem? (i := 3) rfl))
theorem wl_X0_30 : wLk (kw_V adE adK adV zr b L0 xs lo) "MeetingHouseLaw" 30 kt_M1 1 := wLkb_ok (List.all_eq_true.mp wlb_X0_0 _ (List.mem_of_getElem? (i := 4) rfl))
theorem wl_X0_33 : wLk (kw_V adE adK adV zr b L0 xs lo) "MeetingHouseLaw" 33 kt_M356 1 := wLkb_ok (List.all_eq_true.mp wlb_X0_0 _ (List.mem_of_getElem? (i := 5) rfl))
theorem wl_X0_34 : wLk (kw_V adE adK adV zr b L0 xs lo) "MeetingHouseLaw" 34 kt_M12 0 := wLkb_ok (List.all_eq_true.mp wlb_X0_0 _ (List.mem_of_getElem? (i := 6) rfl))
theorem wl_X0_38 : wLk (kw_V adE adK adV zr b L0 xs lo) "MeetingHouseLaw" 38 kt_M520 0 := wLkb_ok (List.all_eq_true.mp wlb_X0_0 _ (List.mem_of_getElem? (i := 7) rfl))
theorem wl_X0_39 : wLk (kw_V adE adK adV zr b L0 xs lo) "MeetingHouseLaw" 39 kt_M5 1 := wLkb_ok (List.all_eq_true.mp wlb_X0_0 _ (List.mem_of_getElem? (i := 8) rfl))
theorem wl_X0_42 : wLk (kw_V adE adK adV zr b L0 xs lo) "MeetingHouseLaw" 42 kt_M380 1 := wLkb_ok (List.all_eq_true.mp wlb_X0_0 _ (List.mem_of_getElem? (i := 9) rfl))
theorem wl_X0_43 : wLk (kw_V adE adK adV zr b L0 xs lo) "MeetingHouseLaw" 43 kt_M336 2 := wLkb_ok (List.all_eq_true.mp wlb_X0_0 _ (List.mem_of_getElem? (i := 10) rfl))
theorem wl_X0_48 : wLk (kw_V adE adK adV zr b L0 xs lo) "MeetingHouseLaw" 48 kt_M358 1 := wLkb_ok (List.all_eq_true.mp wlb_X0_0 _ (List.mem_of_getElem? (i := 11) rfl))
theorem wl_X0_49 : wLk (kw_V adE adK adV zr b L0 xs lo) "MeetingHouseLaw" 49 kt_M561 0 := wLkb_ok (List.all_eq_true.mp wlb_X0_0 _ (List.mem_of_getElem? (i := 12) rfl))
theorem wl_X0_52 : wLk (kw_V adE adK adV zr b L0 xs lo) "MeetingHouseLaw" 52 kt_M337 3 := wLkb_ok (List.all_eq_true.mp wlb_X0_0 _ (List.mem_of_getElem? (i := 13) rfl))
theorem wl_X0_55 : wLk (kw_V adE adK adV zr b L0 xs lo) "MeetingHouseLaw" 55 kt_M527 1 := wLkb_ok (List.all_eq_true.mp wlb_X0_0 _ (List.mem_of_getElem? (i := 14) rfl))
theorem wl_X0_56 : wLk (kw_V adE adK adV zr b L0 xs lo) "MeetingHouseLaw" 56 kt_M8 1 := wLkb_ok (List.all_eq_true.mp wlb_X0_0 _ (List.mem_of_getElem? (i := 15) rfl))
theorem wl_X0_60 : wLk (kw_V adE adK adV zr b L0 xs lo) "MeetingHouseLaw" 60 kt_M453 1 := wLkb_ok (List.all_eq_true.mp wlb_X0_0 _ (List.mem_of_getElem? (i := 16) rfl))
theorem wl_X0_61 : wLk (kw_V adE adK adV zr b L0 xs lo) "MeetingHouseLaw" 61 kt_M10 1 := wLkb_ok (List.all_eq_true.mp wlb_X0_0 _ (List.mem_of_getElem? (i := 17) rfl))
theorem wl_X0_64 : wLk (kw_V adE adK adV zr b L0 xs lo) "MeetingHouseLaw" 64 kt_M500 1 := wLkb_ok (List.all_eq_true.mp wlb_X0_0 _ (List.mem_of_getElem? (i := 18) rfl))
theorem wl_X0_65 : wLk (kw_V adE adK adV zr b L0 xs lo) "MeetingHouseLaw" 65 kt_M11 2 := wLkb_ok (List.all_eq_true.mp wlb_X0_0 _ (List.mem_of_getElem? (i := 19) rfl))
theorem wl_X0_69 : wLk (kw_V adE adK adV zr b L0 xs lo) "MeetingHouseLaw" 69 kt_M515 2 := wLkb_ok (List.all_eq_true.mp wlb_X0_0 _ (List.mem_of_getElem? (i := 20) rfl))
theorem wl_X0_70 : wLk (kw_V adE adK adV zr b L0 xs lo) "MeetingHouseLaw" 70 kt_M3 1 := wLkb_ok (List.all_eq_true.mp wlb_X0_0 _ (List.mem_of_getElem? (i := 21) rfl))
theorem wl_X0_73 : wLk (kw_V adE adK adV zr b L0 xs lo) "MeetingHouseLaw" 73 kt_M366 1 := wLkb_ok (List.all_eq_true.mp wlb_X0_0 _ (List.mem_of_getElem? (i := 22) rfl))
theorem wl_X0_74 : wLk (kw_V adE adK adV zr b L0 xs lo) "MeetingHouseLaw" 74 kt_M9 2 := wLkb_ok (List.all_eq_true.mp wlb_X0_0 _ (List.mem_of_getElem? (i := 23) rfl))
theorem wl_X0_77 : wLk (kw_V adE adK adV zr b L0 xs lo) "MeetingHouseLaw" 77 kt_M469 2 := wLkb_ok (List.all_eq_true.mp wlb_X0_0 _ (List.mem_of_getElem? (i := 24) rfl))
theorem wl_X0_78 : wLk (kw_V adE adK adV zr b L0 xs lo) "MeetingHouseLaw" 78 kt_M4 0 := wLkb_ok (List.all_eq_true.mp wlb_X0_0 _ (List.mem_of_getElem? (i := 25) rfl))
theorem wl_X0_81 : wLk (kw_V adE adK adV zr b L0 xs lo) "MeetingHouseLaw" 81 kt_M372 0 := wLkb_ok (List.all_eq_true.mp wlb_X0_0 _ (List.mem_of_getElem? (i := 26) rfl))
def wll_X13_0 : List (Nat × kx_M × Nat) := [(458, kt_M519, 1), (465, kt_M443, 1), (469, kt_M441, 1), (481, kt_M627, 0), (485, kt_M623, 1), (489, kt_M429, 1), (496, kt_M421, 1), (499, kt_M604, 2), (503, kt_M480, 2), (506, kt_M382, 0), (509, kt_M537, 0), (512, kt_M495, 0), (516, kt_M548, 0), (537, kt_M530, 0), (540, kt_M562, 4), (556, kt_M545, 1), (560, kt_M462, 0), (563, kt_M448, 1), (566, kt_M499, 1), (569, kt_M386, 1), (572, kt_M347, 1), (575, kt_M407, 1), (578, kt_M438, 1), (581, kt_M359, 2), (585, kt_M600, 1), (588, kt_M458, 2), (592, kt_M494, 2), (595, kt_M383, 1), (598, kt_M368, 2), (601, kt_M346, 1), (604, kt_M514, 1), (607, kt_M349, 1), (610, kt_M362, 1), (613, kt_M397, 2), (616, kt_M400, 0), (619, kt_M525, 0), (622, kt_M516, 2), (626, kt_M371, 2), (629, kt_M365, 2), (632, kt_M393, 0)]
theorem wlb_X13_0 : wll_X13_0.all (wLkb "MeetingHouseModel") = true := by decide +kernel
theorem wl_X13_458 : wLk (kw_V adE adK adV zr b L0 xs lo) "MeetingHouseModel" 458 kt_M519 1 := wLkb_ok (List.all_eq_true.mp wlb_X13_0 _ (List.mem_of_getElem? (i := 0) rfl))
theorem wl_X13_465 : wLk (kw_V adE adK adV zr b L0 xs lo) "MeetingHouseModel" 465 kt_M443 1 := wLkb_ok (List.all_eq_true.mp wlb_X13_0 _ (List.mem_of_getElem? (i := 1) rfl))
theorem wl_X13_469 : wLk (kw_V adE adK adV zr b L0 xs lo) "MeetingHouseModel" 469 kt_M441 1 := wLkb_ok (List.all_eq_true.mp wlb_X13_0 _ (List.mem_of_getElem? (i := 2) rfl))
theorem wl_X13_481 : wLk (kw_V adE adK adV zr b L0 xs lo) "MeetingHouseModel" 481 kt_M627 0 := wLkb_ok (List.all_eq_true.mp wlb_X13_0 _ (List.mem_of_getElem? (i := 3) rfl))
theorem wl_X13_485 : wLk (kw_V adE adK adV zr b L0 xs lo) "MeetingHouseModel" 485 kt_M623 1 := wLkb_ok (List.all_eq_true.mp wlb_X13_0 _ (List.mem_of_getElem? (i := 4) rfl))
theorem wl_X13_489 : wLk (kw_V adE adK adV zr b L0 xs lo) "MeetingHouseModel" 489 kt_M429 1 := wLkb_ok (List.all_eq_true.mp wlb_X13_0 _ (List.mem_of_getElem? (i := 5) rfl))
theorem wl_X13_496 : wLk (kw_V adE adK adV zr b L0 xs lo) "MeetingHouseModel" 496 kt_M421 1 := wLkb_ok (List.all_eq_true.mp wlb_X13_0 _ (List.mem_of_getElem? (i := 6) rfl))
theorem wl_X13_499 : wLk (kw_V adE adK adV zr b L0 xs lo) "MeetingHouseModel" 499 kt_M604 2 := wLkb_ok (List.all_eq_true.mp wlb_X13_0 _ (List.mem_of_getElem? (i := 7) rfl))
theorem wl_X13_503 : wLk (kw_V adE adK adV zr b L0 xs lo) "MeetingHouseModel" 503 kt_M480 2 := wLkb_ok (List.all_eq_true.mp wlb_X13_0 _ (List.mem_of_getElem? (i := 8) rfl))
theorem wl_X13_506 : wLk (kw_V adE adK adV zr b L0 xs lo) "MeetingHouseModel" 506 kt_M382 0 := wLkb_ok (List.all_eq_true.mp wlb_X13_0 _ (List.mem_of_getElem? (i := 9) rfl))
theorem wl_X13_509 : wLk (kw_V adE adK adV zr b L0 xs lo) "MeetingHouseModel" 509 kt_M537 0 := wLkb_ok (List.all_eq_true.mp wlb_X13_0 _ (List.mem_of_getElem? (i := 10) rfl))
theorem wl_X13_512 : wLk (kw_V adE adK adV zr b L0 xs lo) "MeetingHouseModel" 512 kt_M495 0 := wLkb_ok (List.all_eq_true.mp wlb_X13_0 _ (List.mem_of_getElem? (i := 11) rfl))
theorem wl_X13_516 : wLk (kw_V adE adK adV zr b L0 xs lo) "MeetingHouseModel" 516 kt_M548 0 := wLkb_ok (List.all_eq_true.mp wlb_X13_0 _ (List.mem_of_getElem? (i := 12) rfl))
theorem wl_X13_537 : wLk (kw_V adE adK adV zr b L0 xs lo) "MeetingHouseModel" 537 kt_M530 0 := wLkb_ok (List.all_eq_true.mp wlb_X13_0 _ (List.mem_of_getElem? (i := 13) rfl))
theorem wl_X13_540 : wLk (kw_V adE adK adV zr b L0 xs lo) "MeetingHouseModel" 540 kt_M562 4 := wLkb_ok (List.all_eq_true.mp wlb_X13_0 _ (List.mem_of_getElem? (i := 14) rfl))
theorem wl_X13_556 : wLk (kw_V adE adK adV zr b L0 xs lo) "MeetingHouseModel" 556 kt_M545 1 := wLkb_ok (List.all_eq_true.mp wlb_X13_0 _ (List.mem_of_getElem? (i := 15) rfl))
theorem wl_X13_560 : wLk (kw_V adE adK adV zr b L0 xs lo) "MeetingHouseModel" 560 kt_M462 0 := wLkb_ok (List.all_eq_true.mp wlb_X13_0 _ (List.mem_of_getElem? (i := 16) rfl))
theorem wl_X13_563 : wLk (kw_V adE adK adV zr b L0 xs lo) "MeetingHouseModel" 563 kt_M448 1 := wLkb_ok (List.all_eq_true.mp wlb_X13_0 _ (List.mem_of_getElem? (i := 17) rfl))
theorem wl_X13_566 : wLk (kw_V adE adK adV zr b L0 xs lo) "MeetingHouseModel" 566 kt_M499 1 := wLkb_ok (List.all_eq_true.mp wlb_X13_0 _ (List.mem_of_getElem? (i := 18) rfl))
theorem wl_X13_569 : wLk (kw_V adE adK adV zr b L0 xs lo) "MeetingHouseModel" 569 kt_M386 1 := wLkb_ok (List.all_eq_true.mp wlb_X13_0 _ (List.mem_of_getElem? (i := 19) rfl))
theorem wl_X13_572 : wLk (kw_V adE adK adV zr b L0 xs lo) "MeetingHouseModel" 572 kt_M347 1 := wLkb_ok (List.all_eq_true.mp wlb_X13_0 _ (List.mem_of_getElem? (i := 20) rfl))
theorem wl_X13_575 : wLk (kw_V adE adK adV zr b L0 xs lo) "MeetingHouseModel" 575 kt_M407 1 := wLkb_ok (List.all_eq_true.mp wlb_X13_0 _ (List.mem_of_getElem? (i := 21) rfl))
theorem wl_X13_578 : wLk (kw_V adE adK adV zr b L0 xs lo) "MeetingHouseModel" 578 kt_M438 1 := wLkb_ok (List.all_eq_true.mp wlb_X13_0 _ (List.mem_of_getElem? (i := 22) rfl))
theorem wl_X13_581 : wLk (kw_V adE adK adV zr b L0 xs lo) "MeetingHouseModel" 581 kt_M359 2 := wLkb_ok (List.all_eq_true.mp wlb_X13_0 _ (List.mem_of_getElem? (i := 23) rfl))
theorem wl_X13_585 : wLk (kw_V adE adK adV zr b L0 xs lo) "MeetingHouseModel" 585 kt_M600 1 := wLkb_ok (List.all_eq_true.mp wlb_X13_0 _ (List.mem_of_getElem? (i := 24) rfl))
theorem wl_X13_588 : wLk (kw_V adE adK adV zr b L0 xs lo) "MeetingHouseModel" 588 kt_M458 2 := wLkb_ok (List.all_eq_true.mp wlb_X13_0 _ (List.mem_of_getElem? (i := 25) rfl))
theorem wl_X13_592 : wLk (kw_V adE adK adV zr b L0 xs lo) "MeetingHouseModel" 592 kt_M494 2 := wLkb_ok (List.all_eq_true.mp wlb_X13_0 _ (List.mem_of_getElem? (i := 26) rfl))
theorem wl_X13_595 : wLk (kw_V adE adK adV zr b L0 xs lo) "MeetingHouseModel" 595 kt_M383 1 := wLkb_ok (List.all_eq_true.mp wlb_X13_0 _ (List.mem_of_getElem? (i := 27) rfl))
theorem wl_X13_598 : wLk (kw_V adE adK adV zr b L0 xs lo) "MeetingHouseModel" 598 kt_M368 2 := wLkb_ok (List.all_eq_true.mp wlb_X13_0 _ (List.mem_of_getElem? (i := 28) rfl))
theorem wl_X13_601 : wLk (kw_V adE adK adV zr b L0 xs lo) "MeetingHouseModel" 601 kt_M346 1 := wLkb_ok (List.all_eq_true.mp wlb_X13_0 _ (List.mem_of_getElem? (i := 29) rfl))
theorem wl_X13_604 : wLk (kw_V adE adK adV zr b L0 xs lo) "MeetingHouseModel" 604 kt_M514 1 := wLkb_ok (List.all_eq_true.mp wlb_X13_0 _ (List.mem_of_getElem? (i := 30) rfl))
theorem wl_X13_607 : wLk (kw_V adE adK adV zr b L0 xs lo) "MeetingHouseModel" 607 kt_M349 1 := wLkb_ok (List.all_eq_true.mp wlb_X13_0 _ (List.mem_of_getElem? (i := 31) rfl))
theorem wl_X13_610 : wLk (kw_V adE adK adV zr b L0 xs lo) "MeetingHouseModel" 610 kt_M362 1 := wLkb_ok (List.all_eq_true.mp wlb_X13_0 _ (List.mem_of_getElem? (i := 32) rfl))
theorem wl_X13_613 : wLk (kw_V adE adK adV zr b L0 xs lo) "MeetingHouseModel" 613 kt_M397 2 := wLkb_ok (List.all_eq_true.mp wlb_X13_0 _ (List.mem_of_getElem? (i := 33) rfl))
theorem wl_X13_616 : wLk (kw_V adE adK adV zr b L0 xs lo) "MeetingHouseModel" 616 kt_M400 0 := wLkb_ok (List.all_eq_true.mp wlb_X13_0 _ (List.mem_of_getElem? (i := 34) rfl))
theorem wl_X13_619 : wLk (kw_V adE adK adV zr b L0 xs lo) "MeetingHouseModel" 619 kt_M525 0 := wLkb_ok (List.all_eq_true.mp wlb_X13_0 _ (List.mem_of_getElem? (i := 35) rfl))
theorem wl_X13_622 : wLk (kw_V adE adK adV zr b L0 xs lo) "MeetingHouseModel" 622 kt_M516 2 := wLkb_ok (List.all_eq_true.mp wlb_X13_0 _ (List.mem_of_getElem? (i := 36) rfl))
theorem wl_X13_626 : wLk (kw_V adE adK adV zr b L0 xs lo) "MeetingHouseModel" 626 kt_M371 2 := wLkb_ok (List.all_eq_true.mp wlb_X13_0 _ (List.mem_of_getElem? (i := 37) rfl))
theorem wl_X13_629 : wLk (kw_V adE adK adV zr b L0 xs lo) "MeetingHouseModel" 629 kt_M365 2 := wLkb_ok (List.all_eq_true.mp wlb_X13_0 _ (List.mem_of_getElem? (i := 38) rfl))
theorem wl_X13_632 : wLk (kw_V adE adK adV zr b L0 xs lo) "MeetingHouseModel" 632 kt_M393 0 := wLkb_ok (List.all_eq_true.mp wlb_X13_0 _ (List.mem_of_getElem? (i := 39) rfl))
def wll_X13_1 : List (Nat × kx_M × Nat) := [(635, kt_M350, 3), (639, kt_M601, 0), (642, kt_M466, 1), (645, kt_M459, 0), (648, kt_M422, 1), (651, kt_M396, 0), (654, kt_M394, 1), (657, kt_M354, 3), (660, kt_M398, 0), (663, kt_M352, 0), (666, kt_M497, 0), (672, kt_M498, 0), (674, kt_M445, 1), (677, kt_M554, 1), (680, kt_M417, 2), (683, kt_M339, 2), (686, kt_M451, 2), (689, kt_M553, 1), (692, kt_M595, 1), (695, kt_M517, 2), (698, kt_M512, 2), (701, kt_M503, 0), (704, kt_M507, 0), (707, kt_M375, 1), (710, kt_M414, 0), (731, kt_M467, 1), (734, kt_M560, 2), (740, kt_M411, 2), (743, kt_M476, 2), (747, kt_M477, 1), (750, kt_M475, 1), (753, kt_M471, 1), (756, kt_M474, 1), (759, kt_M550, 6), (763, kt_M455, 1), (766, kt_M472, 2), (769, kt_M479, 1), (772, kt_M473, 1), (775, kt_M481, 1), (778, kt_M484, 1)]
theorem wlb_X13_1 : wll_X13_1.all (wLkb "MeetingHouseModel") = true := by decide +kernel
theorem wl_X13_635 : wLk (kw_V adE adK adV zr b L0 xs lo) "MeetingHouseModel" 635 kt_M350 3 := wLkb_ok (List.all_eq_true.mp wlb_X13_1 _ (List.mem_of_getElem? (i := 0) rfl))
theorem wl_X13_639 : wLk (kw_V adE adK adV zr b L0 xs lo) "MeetingHouseModel" 639 kt_M601 0 := wLkb_ok (List.all_eq_true.mp wlb_X13_1 _ (List.mem_of_getElem? (i := 1) rfl))
theorem wl_X13_642 : wLk (kw_V adE adK adV zr b L0 xs lo) "MeetingHouseModel" 642 kt_M466 1 := wLkb_ok (List.all_eq_true.mp wlb_X13_1 _ (List.mem_of_getElem? (i := 2) rfl))
theorem wl_X13_645 : wLk (kw_V adE adK adV zr b L0 xs lo) "MeetingHouseModel" 645 kt_M459 0 := wLkb_ok (List.all_eq_true.mp wlb_X13_1 _ (List.mem_of_getElem? (i := 3) rfl))
theorem wl_X13_648 : wLk (kw_V adE adK adV zr b L0 xs lo) "MeetingHouseModel" 648 kt_M422 1 := wLkb_ok (List.all_eq_true.mp wlb_X13_1 _ (List.mem_of_getElem? (i := 4) rfl))
theorem wl_X13_651 : wLk (kw_V adE adK adV zr b L0 xs lo) "MeetingHouseModel" 651 kt_M396 0 := wLkb_ok (List.all_eq_true.mp wlb_X13_1 _ (List.mem_of_getElem? (i := 5) rfl))
theorem wl_X13_654 : wLk (kw_V adE adK adV zr b L0 xs lo) "MeetingHouseModel" 654 kt_M394 1 := wLkb_ok (List.all_eq_true.mp wlb_X13_1 _ (List.mem_of_getElem? (i := 6) rfl))
theorem wl_X13_657 : wLk (kw_V adE adK adV zr b L0 xs lo) "MeetingHouseModel" 657 kt_M354 3 := wLkb_ok (List.all_eq_true.mp wlb_X13_1 _ (List.mem_of_getElem? (i := 7) rfl))
theorem wl_X13_660 : wLk (kw_V adE adK adV zr b L0 xs lo) "MeetingHouseModel" 660 kt_M398 0 := wLkb_ok (List.all_eq_true.mp wlb_X13_1 _ (List.mem_of_getElem? (i := 8) rfl))
theorem wl_X13_663 : wLk (kw_V adE adK adV zr b L0 xs lo) "MeetingHouseModel" 663 kt_M352 0 := wLkb_ok (List.all_eq_true.mp wlb_X13_1 _ (List.mem_of_getElem? (i := 9) rfl))
theorem wl_X13_666 : wLk (kw_V adE adK adV zr b L0 xs lo) "MeetingHouseModel" 666 kt_M497 0 := wLkb_ok (List.all_eq_true.mp wlb_X13_1 _ (List.mem_of_getElem? (i := 10) rfl))
theorem wl_X13_672 : wLk (kw_V adE adK adV zr b L0 xs lo) "MeetingHouseModel" 672 kt_M498 0 := wLkb_ok (List.all_eq_true.mp wlb_X13_1 _ (List.mem_of_getElem? (i := 11) rfl))
theorem wl_X13_674 : wLk (kw_V adE adK adV zr b L0 xs lo) "MeetingHouseModel" 674 kt_M445 1 := wLkb_ok (List.all_eq_true.mp wlb_X13_1 _ (List.mem_of_getElem? (i := 12) rfl))
theorem wl_X13_677 : wLk (kw_V adE adK adV zr b L0 xs lo) "MeetingHouseModel" 677 kt_M554 1 := wLkb_ok (List.all_eq_true.mp wlb_X13_1 _ (List.mem_of_getElem? (i := 13) rfl))
theorem wl_X13_680 : wLk (kw_V adE adK adV zr b L0 xs lo) "MeetingHouseModel" 680 kt_M417 2 := wLkb_ok (List.all_eq_true.mp wlb_X13_1 _ (List.mem_of_getElem? (i := 14) rfl))
theorem wl_X13_683 : wLk (kw_V adE adK adV zr b L0 xs lo) "MeetingHouseModel" 683 kt_M339 2 := wLkb_ok (List.all_eq_true.mp wlb_X13_1 _ (List.mem_of_getElem? (i := 15) rfl))
theorem wl_X13_686 : wLk (kw_V adE adK adV zr b L0 xs lo) "MeetingHouseModel" 686 kt_M451 2 := wLkb_ok (List.all_eq_true.mp wlb_X13_1 _ (List.mem_of_getElem? (i := 16) rfl))
theorem wl_X13_689 : wLk (kw_V adE adK adV zr b L0 xs lo) "MeetingHouseModel" 689 kt_M553 1 := wLkb_ok (List.all_eq_true.mp wlb_X13_1 _ (List.mem_of_getElem? (i := 17) rfl))
theorem wl_X13_692 : wLk (kw_V adE adK adV zr b L0 xs lo) "MeetingHouseModel" 692 kt_M595 1 := wLkb_ok (List.all_eq_true.mp wlb_X13_1 _ (List.mem_of_getElem? (i := 18) rfl))
theorem wl_X13_695 : wLk (kw_V adE adK adV zr b L0 xs lo) "MeetingHouseModel" 695 kt_M517 2 := wLkb_ok (List.all_eq_true.mp wlb_X13_1 _ (List.mem_of_getElem? (i := 19) rfl))
theorem wl_X13_698 : wLk (kw_V adE adK adV zr b L0 xs lo) "MeetingHouseModel" 698 kt_M512 2 := wLkb_ok (List.all_eq_true.mp wlb_X13_1 _ (List.mem_of_getElem? (i := 20) rfl))
theorem wl_X13_701 : wLk (kw_V adE adK adV zr b L0 xs lo) "MeetingHouseModel" 701 kt_M503 0 := wLkb_ok (List.all_eq_true.mp wlb_X13_1 _ (List.mem_of_getElem? (i := 21) rfl))
theorem wl_X13_704 : wLk (kw_V adE adK adV zr b L0 xs lo) "MeetingHouseModel" 704 kt_M507 0 := wLkb_ok (List.all_eq_true.mp wlb_X13_1 _ (List.mem_of_getElem? (i := 22) rfl))
theorem wl_X13_707 : wLk (kw_V adE adK adV zr b L0 xs lo) "MeetingHouseModel" 707 kt_M375 1 := wLkb_ok (List.all_eq_true.mp wlb_X13_1 _ (List.mem_of_getElem? (i := 23) rfl))
theorem wl_X13_710 : wLk (kw_V adE adK adV zr b L0 xs lo) "MeetingHouseModel" 710 kt_M414 0 := wLkb_ok (List.all_eq_true.mp wlb_X13_1 _ (List.mem_of_getElem? (i := 24) rfl))
theorem wl_X13_731 : wLk (kw_V adE adK adV zr b L0 xs lo) "MeetingHouseModel" 731 kt_M467 1 := wLkb_ok (List.all_eq_true.mp wlb_X13_1 _ (List.mem_of_getElem? (i := 25) rfl))
theorem wl_X13_734 : wLk (kw_V adE adK adV zr b L0 xs lo) "MeetingHouseModel" 734 kt_M560 2 := wLkb_ok (List.all_eq_true.mp wlb_X13_1 _ (List.mem_of_getElem? (i := 26) rfl))
theorem wl_X13_740 : wLk (kw_V adE adK adV zr b L0 xs lo) "MeetingHouseModel" 740 kt_M411 2 := wLkb_ok (List.all_eq_true.mp wlb_X13_1 _ (List.mem_of_getElem? (i := 27) rfl))
theorem wl_X13_743 : wLk (kw_V adE adK adV zr b L0 xs lo) "MeetingHouseModel" 743 kt_M476 2 := wLkb_ok (List.all_eq_true.mp wlb_X13_1 _ (List.mem_of_getElem? (i := 28) rfl))
theorem wl_X13_747 : wLk (kw_V adE adK adV zr b L0 xs lo) "MeetingHouseModel" 747 kt_M477 1 := wLkb_ok (List.all_eq_true.mp wlb_X13_1 _ (List.mem_of_getElem? (i := 29) rfl))
theorem wl_X13_750 : wLk (kw_V adE adK adV zr b L0 xs lo) "MeetingHouseModel" 750 kt_M475 1 := wLkb_ok (List.all_eq_true.mp wlb_X13_1 _ (List.mem_of_getElem? (i := 30) rfl))
theorem wl_X13_753 : wLk (kw_V adE adK adV zr b L0 xs lo) "MeetingHouseModel" 753 kt_M471 1 := wLkb_ok (List.all_eq_true.mp wlb_X13_1 _ (List.mem_of_getElem? (i := 31) rfl))
theorem wl_X13_756 : wLk (kw_V adE adK adV zr b L0 xs lo) "MeetingHouseModel" 756 kt_M474 1 := wLkb_ok (List.all_eq_true.mp wlb_X13_1 _ (List.mem_of_getElem? (i := 32) rfl))
theorem wl_X13_759 : wLk (kw_V adE adK adV zr b L0 xs lo) "MeetingHouseModel" 759 kt_M550 6 := wLkb_ok (List.all_eq_true.mp wlb_X13_1 _ (List.mem_of_getElem? (i := 33) rfl))
theorem wl_X13_763 : wLk (kw_V adE adK adV zr b L0 xs lo) "MeetingHouseModel" 763 kt_M455 1 := wLkb_ok (List.all_eq_true.mp wlb_X13_1 _ (List.mem_of_getElem? (i := 34) rfl))
theorem wl_X13_766 : wLk (kw_V adE adK adV zr b L0 xs lo) "MeetingHouseModel" 766 kt_M472 2 := wLkb_ok (List.all_eq_true.mp wlb_X13_1 _ (List.mem_of_getElem? (i := 35) rfl))
theorem wl_X13_769 : wLk (kw_V adE adK adV zr b L0 xs lo) "MeetingHouseModel" 769 kt_M479 1 := wLkb_ok (List.all_eq_true.mp wlb_X13_1 _ (List.mem_of_getElem? (i := 36) rfl))
theorem wl_X13_772 : wLk (kw_V adE adK adV zr b L0 xs lo) "MeetingHouseModel" 772 kt_M473 1 := wLkb_ok (List.all_eq_true.mp wlb_X13_1 _ (List.mem_of_getElem? (i := 37) rfl))
theorem wl_X13_775 : wLk (kw_V adE adK adV zr b L0 xs lo) "MeetingHouseModel" 775 kt_M481 1 := wLkb_ok (List.all_eq_true.mp wlb_X13_1 _ (List.mem_of_getElem? (i := 38) rfl))
theorem wl_X13_778 : wLk (kw_V adE adK adV zr b L0 xs lo) "MeetingHouseModel" 778 kt_M484 1 := wLkb_ok (List.all_eq_true.mp wlb_X13_1 _ (List.mem_of_getElem? (i := 39) rfl))
def wll_X13_2 : List (Nat × kx_M × Nat) := [(781, kt_M482, 1), (784, kt_M427, 1), (787, kt_M492, 0), (790, kt_M454, 2), (796, kt_M483, 1), (799, kt_M485, 1), (802, kt_M486, 1), (805, kt_M478, 2), (810, kt_M603, 1), (816, kt_M440, 1), (819, kt_M465, 1), (824, kt_M377, 1), (827, kt_M378, 2), (830, kt_M536, 2), (833, kt_M605, 3), (839, kt_M408, 1), (842, kt_M406, 1), (846, kt_M428, 1), (849, kt_M450, 3), (853, kt_M576, 1), (856, kt_M412, 2), (862, kt_M582, 1), (865, kt_M435, 2), (868, kt_M357, 1), (871, kt_M586, 1), (874, kt_M581, 1), (877, kt_M570, 1), (880, kt_M602, 2), (883, kt_M568, 2), (886, kt_M577, 1), (889, kt_M567, 2), (892, kt_M504, 1), (895, kt_M506, 2), (898, kt_M528, 2), (901, kt_M573, 1), (904, kt_M508, 1), (907, kt_M580, 4), (910, kt_M571, 1), (913, kt_M575, 1), (916, kt_M566, 1)]
theorem wlb_X13_2 : wll_X13_2.all (wLkb "MeetingHouseModel") = true := by decide +kernel
theorem wl_X13_781 : wLk (kw_V adE adK adV zr b L0 xs lo) "MeetingHouseModel" 781 kt_M482 1 := wLkb_ok (List.all_eq_true.mp wlb_X13_2 _ (List.mem_of_getElem? (i := 0) rfl))
theorem wl_X13_784 : wLk (kw_V adE adK adV zr b L0 xs lo) "MeetingHouseModel" 784 kt_M427 1 := wLkb_ok (List.all_eq_true.mp wlb_X13_2 _ (List.mem_of_getElem? (i := 1) rfl))
theorem wl_X13_787 : wLk (kw_V adE adK adV zr b L0 xs lo) "MeetingHouseModel" 787 kt_M492 0 := wLkb_ok (List.all_eq_true.mp wlb_X13_2 _ (List.mem_of_getElem? (i := 2) rfl))
theorem wl_X13_790 : wLk (kw_V adE adK adV zr b L0 xs lo) "MeetingHouseModel" 790 kt_M454 2 := wLkb_ok (List.all_eq_true.mp wlb_X13_2 _ (List.mem_of_getElem? (i := 3) rfl))
theorem wl_X13_796 : wLk (kw_V adE adK adV zr b L0 xs lo) "MeetingHouseModel" 796 kt_M483 1 := wLkb_ok (List.all_eq_true.mp wlb_X13_2 _ (List.mem_of_getElem? (i := 4) rfl))
theorem wl_X13_799 : wLk (kw_V adE adK adV zr b L0 xs lo) "MeetingHouseModel" 799 kt_M485 1 := wLkb_ok (List.all_eq_true.mp wlb_X13_2 _ (List.mem_of_getElem? (i := 5) rfl))
theorem wl_X13_802 : wLk (kw_V adE adK adV zr b L0 xs lo) "MeetingHouseModel" 802 kt_M486 1 := wLkb_ok (List.all_eq_true.mp wlb_X13_2 _ (List.mem_of_getElem? (i := 6) rfl))
theorem wl_X13_805 : wLk (kw_V adE adK adV zr b L0 xs lo) "MeetingHouseModel" 805 kt_M478 2 := wLkb_ok (List.all_eq_true.mp wlb_X13_2 _ (List.mem_of_getElem? (i := 7) rfl))
theorem wl_X13_810 : wLk (kw_V adE adK adV zr b L0 xs lo) "MeetingHouseModel" 810 kt_M603 1 := wLkb_ok (List.all_eq_true.mp wlb_X13_2 _ (List.mem_of_getElem? (i := 8) rfl))
theorem wl_X13_816 : wLk (kw_V adE adK adV zr b L0 xs lo) "MeetingHouseModel" 816 kt_M440 1 := wLkb_ok (List.all_eq_true.mp wlb_X13_2 _ (List.mem_of_getElem? (i := 9) rfl))
theorem wl_X13_819 : wLk (kw_V adE adK adV zr b L0 xs lo) "MeetingHouseModel" 819 kt_M465 1 := wLkb_ok (List.all_eq_true.mp wlb_X13_2 _ (List.mem_of_getElem? (i := 10) rfl))
theorem wl_X13_824 : wLk (kw_V adE adK adV zr b L0 xs lo) "MeetingHouseModel" 824 kt_M377 1 := wLkb_ok (List.all_eq_true.mp wlb_X13_2 _ (List.mem_of_getElem? (i := 11) rfl))
theorem wl_X13_827 : wLk (kw_V adE adK adV zr b L0 xs lo) "MeetingHouseModel" 827 kt_M378 2 := wLkb_ok (List.all_eq_true.mp wlb_X13_2 _ (List.mem_of_getElem? (i := 12) rfl))
theorem wl_X13_830 : wLk (kw_V adE adK adV zr b L0 xs lo) "MeetingHouseModel" 830 kt_M536 2 := wLkb_ok (List.all_eq_true.mp wlb_X13_2 _ (List.mem_of_getElem? (i := 13) rfl))
theorem wl_X13_833 : wLk (kw_V adE adK adV zr b L0 xs lo) "MeetingHouseModel" 833 kt_M605 3 := wLkb_ok (List.all_eq_true.mp wlb_X13_2 _ (List.mem_of_getElem? (i := 14) rfl))
theorem wl_X13_839 : wLk (kw_V adE adK adV zr b L0 xs lo) "MeetingHouseModel" 839 kt_M408 1 := wLkb_ok (List.all_eq_true.mp wlb_X13_2 _ (List.mem_of_getElem? (i := 15) rfl))
theorem wl_X13_842 : wLk (kw_V adE adK adV zr b L0 xs lo) "MeetingHouseModel" 842 kt_M406 1 := wLkb_ok (List.all_eq_true.mp wlb_X13_2 _ (List.mem_of_getElem? (i := 16) rfl))
theorem wl_X13_846 : wLk (kw_V adE adK adV zr b L0 xs lo) "MeetingHouseModel" 846 kt_M428 1 := wLkb_ok (List.all_eq_true.mp wlb_X13_2 _ (List.mem_of_getElem? (i := 17) rfl))
theorem wl_X13_849 : wLk (kw_V adE adK adV zr b L0 xs lo) "MeetingHouseModel" 849 kt_M450 3 := wLkb_ok (List.all_eq_true.mp wlb_X13_2 _ (List.mem_of_getElem? (i := 18) rfl))
theorem wl_X13_853 : wLk (kw_V adE adK adV zr b L0 xs lo) "MeetingHouseModel" 853 kt_M576 1 := wLkb_ok (List.all_eq_true.mp wlb_X13_2 _ (List.mem_of_getElem? (i := 19) rfl))
theorem wl_X13_856 : wLk (kw_V adE adK adV zr b L0 xs lo) "MeetingHouseModel" 856 kt_M412 2 := wLkb_ok (List.all_eq_true.mp wlb_X13_2 _ (List.mem_of_getElem? (i := 20) rfl))
theorem wl_X13_862 : wLk (kw_V adE adK adV zr b L0 xs lo) "MeetingHouseModel" 862 kt_M582 1 := wLkb_ok (List.all_eq_true.mp wlb_X13_2 _ (List.mem_of_getElem? (i := 21) rfl))
theorem wl_X13_865 : wLk (kw_V adE adK adV zr b L0 xs lo) "MeetingHouseModel" 865 kt_M435 2 := wLkb_ok (List.all_eq_true.mp wlb_X13_2 _ (List.mem_of_getElem? (i := 22) rfl))
theorem wl_X13_868 : wLk (kw_V adE adK adV zr b L0 xs lo) "MeetingHouseModel" 868 kt_M357 1 := wLkb_ok (List.all_eq_true.mp wlb_X13_2 _ (List.mem_of_getElem? (i := 23) rfl))
theorem wl_X13_871 : wLk (kw_V adE adK adV zr b L0 xs lo) "MeetingHouseModel" 871 kt_M586 1 := wLkb_ok (List.all_eq_true.mp wlb_X13_2 _ (List.mem_of_getElem? (i := 24) rfl))
theorem wl_X13_874 : wLk (kw_V adE adK adV zr b L0 xs lo) "MeetingHouseModel" 874 kt_M581 1 := wLkb_ok (List.all_eq_true.mp wlb_X13_2 _ (List.mem_of_getElem? (i := 25) rfl))
theorem wl_X13_877 : wLk (kw_V adE adK adV zr b L0 xs lo) "MeetingHouseModel" 877 kt_M570 1 := wLkb_ok (List.all_eq_true.mp wlb_X13_2 _ (List.mem_of_getElem? (i := 26) rfl))
theorem wl_X13_880 : wLk (kw_V adE adK adV zr b L0 xs lo) "MeetingHouseModel" 880 kt_M602 2 := wLkb_ok (List.all_eq_true.mp wlb_X13_2 _ (List.mem_of_getElem? (i := 27) rfl))
theorem wl_X13_883 : wLk (kw_V adE adK adV zr b L0 xs lo) "MeetingHouseModel" 883 kt_M568 2 := wLkb_ok (List.all_eq_true.mp wlb_X13_2 _ (List.mem_of_getElem? (i := 28) rfl))
theorem wl_X13_886 : wLk (kw_V adE adK adV zr b L0 xs lo) "MeetingHouseModel" 886 kt_M577 1 := wLkb_ok (List.all_eq_true.mp wlb_X13_2 _ (List.mem_of_getElem? (i := 29) rfl))
theorem wl_X13_889 : wLk (kw_V adE adK adV zr b L0 xs lo) "MeetingHouseModel" 889 kt_M567 2 := wLkb_ok (List.all_eq_true.mp wlb_X13_2 _ (List.mem_of_getElem? (i := 30) rfl))
theorem wl_X13_892 : wLk (kw_V adE adK adV zr b L0 xs lo) "MeetingHouseModel" 892 kt_M504 1 := wLkb_ok (List.all_eq_true.mp wlb_X13_2 _ (List.mem_of_getElem? (i := 31) rfl))
theorem wl_X13_895 : wLk (kw_V adE adK adV zr b L0 xs lo) "MeetingHouseModel" 895 kt_M506 2 := wLkb_ok (List.all_eq_true.mp wlb_X13_2 _ (List.mem_of_getElem? (i := 32) rfl))
theorem wl_X13_898 : wLk (kw_V adE adK adV zr b L0 xs lo) "MeetingHouseModel" 898 kt_M528 2 := wLkb_ok (List.all_eq_true.mp wlb_X13_2 _ (List.mem_of_getElem? (i := 33) rfl))
theorem wl_X13_901 : wLk (kw_V adE adK adV zr b L0 xs lo) "MeetingHouseModel" 901 kt_M573 1 := wLkb_ok (List.all_eq_true.mp wlb_X13_2 _ (List.mem_of_getElem? (i := 34) rfl))
theorem wl_X13_904 : wLk (kw_V adE adK adV zr b L0 xs lo) "MeetingHouseModel" 904 kt_M508 1 := wLkb_ok (List.all_eq_true.mp wlb_X13_2 _ (List.mem_of_getElem? (i := 35) rfl))
theorem wl_X13_907 : wLk (kw_V adE adK adV zr b L0 xs lo) "MeetingHouseModel" 907 kt_M580 4 := wLkb_ok (List.all_eq_true.mp wlb_X13_2 _ (List.mem_of_getElem? (i := 36) rfl))
theorem wl_X13_910 : wLk (kw_V adE adK adV zr b L0 xs lo) "MeetingHouseModel" 910 kt_M571 1 := wLkb_ok (List.all_eq_true.mp wlb_X13_2 _ (List.mem_of_getElem? (i := 37) rfl))
theorem wl_X13_913 : wLk (kw_V adE adK adV zr b L0 xs lo) "MeetingHouseModel" 913 kt_M575 1 := wLkb_ok (List.all_eq_true.mp wlb_X13_2 _ (List.mem_of_getElem? (i := 38) rfl))
theorem wl_X13_916 : wLk (kw_V adE adK adV zr b L0 xs lo) "MeetingHouseModel" 916 kt_M566 1 := wLkb_ok (List.all_eq_true.mp wlb_X13_2 _ (List.mem_of_getElem? (i := 39) rfl))
def wll_X13_3 : List (Nat × kx_M × Nat) := [(919, kt_M574, 1), (922, kt_M539, 1), (928, kt_M559, 1), (934, kt_M584, 3), (950, kt_M565, 1), (953, kt_M569, 1), (956, kt_M578, 1), (959, kt_M579, 1), (962, kt_M583, 1), (965, kt_M585, 2), (968, kt_M572, 1), (971, kt_M447, 3), (980, kt_M418, 1), (992, kt_M442, 0), (995, kt_M493, 0), (1007, kt_M461, 1), (1017, kt_M395, 2), (1020, kt_M399, 2), (1022, kt_M376, 2), (1025, kt_M563, 1), (1028, kt_M509, 1), (1031, kt_M387, 2), (1034, kt_M592, 2), (1037, kt_M593, 2), (1040, kt_M388, 3), (1043, kt_M591, 1), (1046, kt_M588, 1), (1052, kt_M589, 1), (1055, kt_M590, 1), (1058, kt_M432, 2), (1061, kt_M345, 1), (1064, kt_M341, 1), (1070, kt_M342, 1), (1073, kt_M549, 1), (1076, kt_M344, 1), (1079, kt_M343, 1), (1082, kt_M470, 6), (1086, kt_M444, 2), (1093, kt_M564, 1), (1096, kt_M430, 2)]
theorem wlb_X13_3 : wll_X13_3.all (wLkb "MeetingHouseModel") = true := by decide +kernel
theorem wl_X13_919 : wLk (kw_V adE adK adV zr b L0 xs lo) "MeetingHouseModel" 919 kt_M574 1 := wLkb_ok (List.all_eq_true.mp wlb_X13_3 _ (List.mem_of_getElem? (i := 0) rfl))
theorem wl_X13_922 : wLk (kw_V adE adK adV zr b L0 xs lo) "MeetingHouseModel" 922 kt_M539 1 := wLkb_ok (List.all_eq_true.mp wlb_X13_3 _ (List.mem_of_getElem? (i := 1) rfl))
theorem wl_X13_928 : wLk (kw_V adE adK adV zr b L0 xs lo) "MeetingHouseModel" 928 kt_M559 1 := wLkb_ok (List.all_eq_true.mp wlb_X13_3 _ (List.mem_of_getElem? (i := 2) rfl))
theorem wl_X13_934 : wLk (kw_V adE adK adV zr b L0 xs lo) "MeetingHouseModel" 934 kt_M584 3 := wLkb_ok (List.all_eq_true.mp wlb_X13_3 _ (List.mem_of_getElem? (i := 3) rfl))
theorem wl_X13_950 : wLk (kw_V adE adK adV zr b L0 xs lo) "MeetingHouseModel" 950 kt_M565 1 := wLkb_ok (List.all_eq_true.mp wlb_X13_3 _ (List.mem_of_getElem? (i := 4) rfl))
theorem wl_X13_953 : wLk (kw_V adE adK adV zr b L0 xs lo) "MeetingHouseModel" 953 kt_M569 1 := wLkb_ok (List.all_eq_true.mp wlb_X13_3 _ (List.mem_of_getElem? (i := 5) rfl))
theorem wl_X13_956 : wLk (kw_V adE adK adV zr b L0 xs lo) "MeetingHouseModel" 956 kt_M578 1 := wLkb_ok (List.all_eq_true.mp wlb_X13_3 _ (List.mem_of_getElem? (i := 6) rfl))
theorem wl_X13_959 : wLk (kw_V adE adK adV zr b L0 xs lo) "MeetingHouseModel" 959 kt_M579 1 := wLkb_ok (List.all_eq_true.mp wlb_X13_3 _ (List.mem_of_getElem? (i := 7) rfl))
theorem wl_X13_962 : wLk (kw_V adE adK adV zr b L0 xs lo) "MeetingHouseModel" 962 kt_M583 1 := wLkb_ok (List.all_eq_true.mp wlb_X13_3 _ (List.mem_of_getElem? (i := 8) rfl))
theorem wl_X13_965 : wLk (kw_V adE adK adV zr b L0 xs lo) "MeetingHouseModel" 965 kt_M585 2 := wLkb_ok (List.all_eq_true.mp wlb_X13_3 _ (List.mem_of_getElem? (i := 9) rfl))
theorem wl_X13_968 : wLk (kw_V adE adK adV zr b L0 xs lo) "MeetingHouseModel" 968 kt_M572 1 := wLkb_ok (List.all_eq_true.mp wlb_X13_3 _ (List.mem_of_getElem? (i := 10) rfl))
theorem wl_X13_971 : wLk (kw_V adE adK adV zr b L0 xs lo) "MeetingHouseModel" 971 kt_M447 3 := wLkb_ok (List.all_eq_true.mp wlb_X13_3 _ (List.mem_of_getElem? (i := 11) rfl))
theorem wl_X13_980 : wLk (kw_V adE adK adV zr b L0 xs lo) "MeetingHouseModel" 980 kt_M418 1 := wLkb_ok (List.all_eq_true.mp wlb_X13_3 _ (List.mem_of_getElem? (i := 12) rfl))
theorem wl_X13_992 : wLk (kw_V adE adK adV zr b L0 xs lo) "MeetingHouseModel" 992 kt_M442 0 := wLkb_ok (List.all_eq_true.mp wlb_X13_3 _ (List.mem_of_getElem? (i := 13) rfl))
theorem wl_X13_995 : wLk (kw_V adE adK adV zr b L0 xs lo) "MeetingHouseModel" 995 kt_M493 0 := wLkb_ok (List.all_eq_true.mp wlb_X13_3 _ (List.mem_of_getElem? (i := 14) rfl))
theorem wl_X13_1007 : wLk (kw_V adE adK adV zr b L0 xs lo) "MeetingHouseModel" 1007 kt_M461 1 := wLkb_ok (List.all_eq_true.mp wlb_X13_3 _ (List.mem_of_getElem? (i := 15) rfl))
theorem wl_X13_1017 : wLk (kw_V adE adK adV zr b L0 xs lo) "MeetingHouseModel" 1017 kt_M395 2 := wLkb_ok (List.all_eq_true.mp wlb_X13_3 _ (List.mem_of_getElem? (i := 16) rfl))
theorem wl_X13_1020 : wLk (kw_V adE adK adV zr b L0 xs lo) "MeetingHouseModel" 1020 kt_M399 2 := wLkb_ok (List.all_eq_true.mp wlb_X13_3 _ (List.mem_of_getElem? (i := 17) rfl))
theorem wl_X13_1022 : wLk (kw_V adE adK adV zr b L0 xs lo) "MeetingHouseModel" 1022 kt_M376 2 := wLkb_ok (List.all_eq_true.mp wlb_X13_3 _ (List.mem_of_getElem? (i := 18) rfl))
theorem wl_X13_1025 : wLk (kw_V adE adK adV zr b L0 xs lo) "MeetingHouseModel" 1025 kt_M563 1 := wLkb_ok (List.all_eq_true.mp wlb_X13_3 _ (List.mem_of_getElem? (i := 19) rfl))
theorem wl_X13_1028 : wLk (kw_V adE adK adV zr b L0 xs lo) "MeetingHouseModel" 1028 kt_M509 1 := wLkb_ok (List.all_eq_true.mp wlb_X13_3 _ (List.mem_of_getElem? (i := 20) rfl))
theorem wl_X13_1031 : wLk (kw_V adE adK adV zr b L0 xs lo) "MeetingHouseModel" 1031 kt_M387 2 := wLkb_ok (List.all_eq_true.mp wlb_X13_3 _ (List.mem_of_getElem? (i := 21) rfl))
theorem wl_X13_1034 : wLk (kw_V adE adK adV zr b L0 xs lo) "MeetingHouseModel" 1034 kt_M592 2 := wLkb_ok (List.all_eq_true.mp wlb_X13_3 _ (List.mem_of_getElem? (i := 22) rfl))
theorem wl_X13_1037 : wLk (kw_V adE adK adV zr b L0 xs lo) "MeetingHouseModel" 1037 kt_M593 2 := wLkb_ok (List.all_eq_true.mp wlb_X13_3 _ (List.mem_of_getElem? (i := 23) rfl))
theorem wl_X13_1040 : wLk (kw_V adE adK adV zr b L0 xs lo) "MeetingHouseModel" 1040 kt_M388 3 := wLkb_ok (List.all_eq_true.mp wlb_X13_3 _ (List.mem_of_getElem? (i := 24) rfl))
theorem wl_X13_1043 : wLk (kw_V adE adK adV zr b L0 xs lo) "MeetingHouseModel" 1043 kt_M591 1 := wLkb_ok (List.all_eq_true.mp wlb_X13_3 _ (List.mem_of_getElem? (i := 25) rfl))
theorem wl_X13_1046 : wLk (kw_V adE adK adV zr b L0 xs lo) "MeetingHouseModel" 1046 kt_M588 1 := wLkb_ok (List.all_eq_true.mp wlb_X13_3 _ (List.mem_of_getElem? (i := 26) rfl))
theorem wl_X13_1052 : wLk (kw_V adE adK adV zr b L0 xs lo) "MeetingHouseModel" 1052 kt_M589 1 := wLkb_ok (List.all_eq_true.mp wlb_X13_3 _ (List.mem_of_getElem? (i := 27) rfl))
theorem wl_X13_1055 : wLk (kw_V adE adK adV zr b L0 xs lo) "MeetingHouseModel" 1055 kt_M590 1 := wLkb_ok (List.all_eq_true.mp wlb_X13_3 _ (List.mem_of_getElem? (i := 28) rfl))
theorem wl_X13_1058 : wLk (kw_V adE adK adV zr b L0 xs lo) "MeetingHouseModel" 1058 kt_M432 2 := wLkb_ok (List.all_eq_true.mp wlb_X13_3 _ (List.mem_of_getElem? (i := 29) rfl))
theorem wl_X13_1061 : wLk (kw_V adE adK adV zr b L0 xs lo) "MeetingHouseModel" 1061 kt_M345 1 := wLkb_ok (List.all_eq_true.mp wlb_X13_3 _ (List.mem_of_getElem? (i := 30) rfl))
theorem wl_X13_1064 : wLk (kw_V adE adK adV zr b L0 xs lo) "MeetingHouseModel" 1064 kt_M341 1 := wLkb_ok (List.all_eq_true.mp wlb_X13_3 _ (List.mem_of_getElem? (i := 31) rfl))
theorem wl_X13_1070 : wLk (kw_V adE adK adV zr b L0 xs lo) "MeetingHouseModel" 1070 kt_M342 1 := wLkb_ok (List.all_eq_true.mp wlb_X13_3 _ (List.mem_of_getElem? (i := 32) rfl))
theorem wl_X13_1073 : wLk (kw_V adE adK adV zr b L0 xs lo) "MeetingHouseModel" 1073 kt_M549 1 := wLkb_ok (List.all_eq_true.mp wlb_X13_3 _ (List.mem_of_getElem? (i := 33) rfl))
theorem wl_X13_1076 : wLk (kw_V adE adK adV zr b L0 xs lo) "MeetingHouseModel" 1076 kt_M344 1 := wLkb_ok (List.all_eq_true.mp wlb_X13_3 _ (List.mem_of_getElem? (i := 34) rfl))
theorem wl_X13_1079 : wLk (kw_V adE adK adV zr b L0 xs lo) "MeetingHouseModel" 1079 kt_M343 1 := wLkb_ok (List.all_eq_true.mp wlb_X13_3 _ (List.mem_of_getElem? (i := 35) rfl))
theorem wl_X13_1082 : wLk (kw_V adE adK adV zr b L0 xs lo) "MeetingHouseModel" 1082 kt_M470 6 := wLkb_ok (List.all_eq_true.mp wlb_X13_3 _ (List.mem_of_getElem? (i := 36) rfl))
theorem wl_X13_1086 : wLk (kw_V adE adK adV zr b L0 xs lo) "MeetingHouseModel" 1086 kt_M444 2 := wLkb_ok (List.all_eq_true.mp wlb_X13_3 _ (List.mem_of_getElem? (i := 37) rfl))
theorem wl_X13_1093 : wLk (kw_V adE adK adV zr b L0 xs lo) "MeetingHouseModel" 1093 kt_M564 1 := wLkb_ok (List.all_eq_true.mp wlb_X13_3 _ (List.mem_of_getElem? (i := 38) rfl))
theorem wl_X13_1096 : wLk (kw_V adE adK adV zr b L0 xs lo) "MeetingHouseModel" 1096 kt_M430 2 := wLkb_ok (List.all_eq_true.mp wlb_X13_3 _ (List.mem_of_getElem? (i := 39) rfl))
def wll_X13_4 : List (Nat × kx_M × Nat) := [(1099, kt_M361, 1), (1102, kt_M534, 1), (1105, kt_M532, 1), (1108, kt_M533, 1), (1111, kt_M535, 1), (1114, kt_M487, 0), (1116, kt_M531, 0), (1125, kt_M502, 0), (1128, kt_M526, 0), (1134, kt_M390, 1), (1140, kt_M547, 2), (1146, kt_M391, 1), (1155, kt_M403, 2), (1162, kt_M402, 3), (1174, kt_M524, 1), (1177, kt_M410, 1), (1180, kt_M456, 2), (1183, kt_M415, 1), (1189, kt_M541, 1), (1192, kt_M449, 2), (1195, kt_M439, 1), (1204, kt_M551, 2), (1207, kt_M404, 1), (1210, kt_M540, 1), (1213, kt_M538, 1), (1216, kt_M363, 1), (1219, kt_M433, 1), (1222, kt_M594, 1), (1225, kt_M405, 1), (1237, kt_M419, 1), (1240, kt_M452, 2), (1246, kt_M496, 1), (1248, kt_M367, 2), (1251, kt_M379, 2), (1254, kt_M464, 2), (1257, kt_M457, 4), (1263, kt_M490, 2), (1266, kt_M360, 3), (1269, kt_M381, 0), (1275, kt_M384, 1)]
theorem wlb_X13_4 : wll_X13_4.all (wLkb "MeetingHouseModel") = true := by decide +kernel
theorem wl_X13_1099 : wLk (kw_V adE adK adV zr b L0 xs lo) "MeetingHouseModel" 1099 kt_M361 1 := wLkb_ok (List.all_eq_true.mp wlb_X13_4 _ (List.mem_of_getElem? (i := 0) rfl))
theorem wl_X13_1102 : wLk (kw_V adE adK adV zr b L0 xs lo) "MeetingHouseModel" 1102 kt_M534 1 := wLkb_ok (List.all_eq_true.mp wlb_X13_4 _ (List.mem_of_getElem? (i := 1) rfl))
theorem wl_X13_1105 : wLk (kw_V adE adK adV zr b L0 xs lo) "MeetingHouseModel" 1105 kt_M532 1 := wLkb_ok (List.all_eq_true.mp wlb_X13_4 _ (List.mem_of_getElem? (i := 2) rfl))
theorem wl_X13_1108 : wLk (kw_V adE adK adV zr b L0 xs lo) "MeetingHouseModel" 1108 kt_M533 1 := wLkb_ok (List.all_eq_true.mp wlb_X13_4 _ (List.mem_of_getElem? (i := 3) rfl))
theorem wl_X13_1111 : wLk (kw_V adE adK adV zr b L0 xs lo) "MeetingHouseModel" 1111 kt_M535 1 := wLkb_ok (List.all_eq_true.mp wlb_X13_4 _ (List.mem_of_getElem? (i := 4) rfl))
theorem wl_X13_1114 : wLk (kw_V adE adK adV zr b L0 xs lo) "MeetingHouseModel" 1114 kt_M487 0 := wLkb_ok (List.all_eq_true.mp wlb_X13_4 _ (List.mem_of_getElem? (i := 5) rfl))
theorem wl_X13_1116 : wLk (kw_V adE adK adV zr b L0 xs lo) "MeetingHouseModel" 1116 kt_M531 0 := wLkb_ok (List.all_eq_true.mp wlb_X13_4 _ (List.mem_of_getElem? (i := 6) rfl))
theorem wl_X13_1125 : wLk (kw_V adE adK adV zr b L0 xs lo) "MeetingHouseModel" 1125 kt_M502 0 := wLkb_ok (List.all_eq_true.mp wlb_X13_4 _ (List.mem_of_getElem? (i := 7) rfl))
theorem wl_X13_1128 : wLk (kw_V adE adK adV zr b L0 xs lo) "MeetingHouseModel" 1128 kt_M526 0 := wLkb_ok (List.all_eq_true.mp wlb_X13_4 _ (List.mem_of_getElem? (i := 8) rfl))
theorem wl_X13_1134 : wLk (kw_V adE adK adV zr b L0 xs lo) "MeetingHouseModel" 1134 kt_M390 1 := wLkb_ok (List.all_eq_true.mp wlb_X13_4 _ (List.mem_of_getElem? (i := 9) rfl))
theorem wl_X13_1140 : wLk (kw_V adE adK adV zr b L0 xs lo) "MeetingHouseModel" 1140 kt_M547 2 := wLkb_ok (List.all_eq_true.mp wlb_X13_4 _ (List.mem_of_getElem? (i := 10) rfl))
theorem wl_X13_1146 : wLk (kw_V adE adK adV zr b L0 xs lo) "MeetingHouseModel" 1146 kt_M391 1 := wLkb_ok (List.all_eq_true.mp wlb_X13_4 _ (List.mem_of_getElem? (i := 11) rfl))
theorem wl_X13_1155 : wLk (kw_V adE adK adV zr b L0 xs lo) "MeetingHouseModel" 1155 kt_M403 2 := wLkb_ok (List.all_eq_true.mp wlb_X13_4 _ (List.mem_of_getElem? (i := 12) rfl))
theorem wl_X13_1162 : wLk (kw_V adE adK adV zr b L0 xs lo) "MeetingHouseModel" 1162 kt_M402 3 := wLkb_ok (List.all_eq_true.mp wlb_X13_4 _ (List.mem_of_getElem? (i := 13) rfl))
theorem wl_X13_1174 : wLk (kw_V adE adK adV zr b L0 xs lo) "MeetingHouseModel" 1174 kt_M524 1 := wLkb_ok (List.all_eq_true.mp wlb_X13_4 _ (List.mem_of_getElem? (i := 14) rfl))
theorem wl_X13_1177 : wLk (kw_V adE adK adV zr b L0 xs lo) "MeetingHouseModel" 1177 kt_M410 1 := wLkb_ok (List.all_eq_true.mp wlb_X13_4 _ (List.mem_of_getElem? (i := 15) rfl))
theorem wl_X13_1180 : wLk (kw_V adE adK adV zr b L0 xs lo) "MeetingHouseModel" 1180 kt_M456 2 := wLkb_ok (List.all_eq_true.mp wlb_X13_4 _ (List.mem_of_getElem? (i := 16) rfl))
theorem wl_X13_1183 : wLk (kw_V adE adK adV zr b L0 xs lo) "MeetingHouseModel" 1183 kt_M415 1 := wLkb_ok (List.all_eq_true.mp wlb_X13_4 _ (List.mem_of_getElem? (i := 17) rfl))
theorem wl_X13_1189 : wLk (kw_V adE adK adV zr b L0 xs lo) "MeetingHouseModel" 1189 kt_M541 1 := wLkb_ok (List.all_eq_true.mp wlb_X13_4 _ (List.mem_of_getElem? (i := 18) rfl))
theorem wl_X13_1192 : wLk (kw_V adE adK adV zr b L0 xs lo) "MeetingHouseModel" 1192 kt_M449 2 := wLkb_ok (List.all_eq_true.mp wlb_X13_4 _ (List.mem_of_getElem? (i := 19) rfl))
theorem wl_X13_1195 : wLk (kw_V adE adK adV zr b L0 xs lo) "MeetingHouseModel" 1195 kt_M439 1 := wLkb_ok (List.all_eq_true.mp wlb_X13_4 _ (List.mem_of_getElem? (i := 20) rfl))
theorem wl_X13_1204 : wLk (kw_V adE adK adV zr b L0 xs lo) "MeetingHouseModel" 1204 kt_M551 2 := wLkb_ok (List.all_eq_true.mp wlb_X13_4 _ (List.mem_of_getElem? (i := 21) rfl))
theorem wl_X13_1207 : wLk (kw_V adE adK adV zr b L0 xs lo) "MeetingHouseModel" 1207 kt_M404 1 := wLkb_ok (List.all_eq_true.mp wlb_X13_4 _ (List.mem_of_getElem? (i := 22) rfl))
theorem wl_X13_1210 : wLk (kw_V adE adK adV zr b L0 xs lo) "MeetingHouseModel" 1210 kt_M540 1 := wLkb_ok (List.all_eq_true.mp wlb_X13_4 _ (List.mem_of_getElem? (i := 23) rfl))
theorem wl_X13_1213 : wLk (kw_V adE adK adV zr b L0 xs lo) "MeetingHouseModel" 1213 kt_M538 1 := wLkb_ok (List.all_eq_true.mp wlb_X13_4 _ (List.mem_of_getElem? (i := 24) rfl))
theorem wl_X13_1216 : wLk (kw_V adE adK adV zr b L0 xs lo) "MeetingHouseModel" 1216 kt_M363 1 := wLkb_ok (List.all_eq_true.mp wlb_X13_4 _ (List.mem_of_getElem? (i := 25) rfl))
theorem wl_X13_1219 : wLk (kw_V adE adK adV zr b L0 xs lo) "MeetingHouseModel" 1219 kt_M433 1 := wLkb_ok (List.all_eq_true.mp wlb_X13_4 _ (List.mem_of_getElem? (i := 26) rfl))
theorem wl_X13_1222 : wLk (kw_V adE adK adV zr b L0 xs lo) "MeetingHouseModel" 1222 kt_M594 1 := wLkb_ok (List.all_eq_true.mp wlb_X13_4 _ (List.mem_of_getElem? (i := 27) rfl))
theorem wl_X13_1225 : wLk (kw_V adE adK adV zr b L0 xs lo) "MeetingHouseModel" 1225 kt_M405 1 := wLkb_ok (List.all_eq_true.mp wlb_X13_4 _ (List.mem_of_getElem? (i := 28) rfl))
theorem wl_X13_1237 : wLk (kw_V adE adK adV zr b L0 xs lo) "MeetingHouseModel" 1237 kt_M419 1 := wLkb_ok (List.all_eq_true.mp wlb_X13_4 _ (List.mem_of_getElem? (i := 29) rfl))
theorem wl_X13_1240 : wLk (kw_V adE adK adV zr b L0 xs lo) "MeetingHouseModel" 1240 kt_M452 2 := wLkb_ok (List.all_eq_true.mp wlb_X13_4 _ (List.mem_of_getElem? (i := 30) rfl))
theorem wl_X13_1246 : wLk (kw_V adE adK adV zr b L0 xs lo) "MeetingHouseModel" 1246 kt_M496 1 := wLkb_ok (List.all_eq_true.mp wlb_X13_4 _ (List.mem_of_getElem? (i := 31) rfl))
theorem wl_X13_1248 : wLk (kw_V adE adK adV zr b L0 xs lo) "MeetingHouseModel" 1248 kt_M367 2 := wLkb_ok (List.all_eq_true.mp wlb_X13_4 _ (List.mem_of_getElem? (i := 32) rfl))
theorem wl_X13_1251 : wLk (kw_V adE adK adV zr b L0 xs lo) "MeetingHouseModel" 1251 kt_M379 2 := wLkb_ok (List.all_eq_true.mp wlb_X13_4 _ (List.mem_of_getElem? (i := 33) rfl))
theorem wl_X13_1254 : wLk (kw_V adE adK adV zr b L0 xs lo) "MeetingHouseModel" 1254 kt_M464 2 := wLkb_ok (List.all_eq_true.mp wlb_X13_4 _ (List.mem_of_getElem? (i := 34) rfl))
theorem wl_X13_1257 : wLk (kw_V adE adK adV zr b L0 xs lo) "MeetingHouseModel" 1257 kt_M457 4 := wLkb_ok (List.all_eq_true.mp wlb_X13_4 _ (List.mem_of_getElem? (i := 35) rfl))
theorem wl_X13_1263 : wLk (kw_V adE adK adV zr b L0 xs lo) "MeetingHouseModel" 1263 kt_M490 2 := wLkb_ok (List.all_eq_true.mp wlb_X13_4 _ (List.mem_of_getElem? (i := 36) rfl))
theorem wl_X13_1266 : wLk (kw_V adE adK adV zr b L0 xs lo) "MeetingHouseModel" 1266 kt_M360 3 := wLkb_ok (List.all_eq_true.mp wlb_X13_4 _ (List.mem_of_getElem? (i := 37) rfl))
theorem wl_X13_1269 : wLk (kw_V adE adK adV zr b L0 xs lo) "MeetingHouseModel" 1269 kt_M381 0 := wLkb_ok (List.all_eq_true.mp wlb_X13_4 _ (List.mem_of_getElem? (i := 38) rfl))
theorem wl_X13_1275 : wLk (kw_V adE adK adV zr b L0 xs lo) "MeetingHouseModel" 1275 kt_M384 1 := wLkb_ok (List.all_eq_true.mp wlb_X13_4 _ (List.mem_of_getElem? (i := 39) rfl))
def wll_X13_5 : List (Nat × kx_M × Nat) := [(1278, kt_M518, 4), (1281, kt_M420, 0), (1284, kt_M340, 0), (1287, kt_M392, 1), (1290, kt_M511, 0), (1293, kt_M374, 1), (1296, kt_M587, 2), (1299, kt_M416, 1), (1304, kt_M385, 1), (1307, kt_M373, 1), (1316, kt_M546, 0), (1319, kt_M529, 0), (1322, kt_M401, 0), (1331, kt_M460, 1), (1334, kt_M513, 0), (1340, kt_M463, 1), (1343, kt_M355, 1), (1346, kt_M426, 2), (1349, kt_M364, 1), (1352, kt_M556, 1), (1355, kt_M431, 2), (1358, kt_M437, 1), (1361, kt_M542, 0), (1364, kt_M557, 1), (1367, kt_M369, 2), (1370, kt_M501, 1), (1373, kt_M348, 1), (1376, kt_M558, 1), (1379, kt_M351, 1), (1382, kt_M353, 1), (1385, kt_M491, 3), (1391, kt_M370, 1), (1394, kt_M505, 1), (1397, kt_M413, 2), (1407, kt_M606, 1), (1413, kt_M468, 1), (1416, kt_M597, 2), (1419, kt_M425, 2), (1422, kt_M522, 2), (1434, kt_M523, 3)]
theorem wlb_X13_5 : wll_X13_5.all (wLkb "MeetingHouseModel") = true := by decide +kernel
theorem wl_X13_1278 : wLk (kw_V adE adK adV zr b L0 xs lo) "MeetingHouseModel" 1278 kt_M518 4 := wLkb_ok (List.all_eq_true.mp wlb_X13_5 _ (List.mem_of_getElem? (i := 0) rfl))
theorem wl_X13_1281 : wLk (kw_V adE adK adV zr b L0 xs lo) "MeetingHouseModel" 1281 kt_M420 0 := wLkb_ok (List.all_eq_true.mp wlb_X13_5 _ (List.mem_of_getElem? (i := 1) rfl))
theorem wl_X13_1284 : wLk (kw_V adE adK adV zr b L0 xs lo) "MeetingHouseModel" 1284 kt_M340 0 := wLkb_ok (List.all_eq_true.mp wlb_X13_5 _ (List.mem_of_getElem? (i := 2) rfl))
theorem wl_X13_1287 : wLk (kw_V adE adK adV zr b L0 xs lo) "MeetingHouseModel" 1287 kt_M392 1 := wLkb_ok (List.all_eq_true.mp wlb_X13_5 _ (List.mem_of_getElem? (i := 3) rfl))
theorem wl_X13_1290 : wLk (kw_V adE adK adV zr b L0 xs lo) "MeetingHouseModel" 1290 kt_M511 0 := wLkb_ok (List.all_eq_true.mp wlb_X13_5 _ (List.mem_of_getElem? (i := 4) rfl))
theorem wl_X13_1293 : wLk (kw_V adE adK adV zr b L0 xs lo) "MeetingHouseModel" 1293 kt_M374 1 := wLkb_ok (List.all_eq_true.mp wlb_X13_5 _ (List.mem_of_getElem? (i := 5) rfl))
theorem wl_X13_1296 : wLk (kw_V adE adK adV zr b L0 xs lo) "MeetingHouseModel" 1296 kt_M587 2 := wLkb_ok (List.all_eq_true.mp wlb_X13_5 _ (List.mem_of_getElem? (i := 6) rfl))
theorem wl_X13_1299 : wLk (kw_V adE adK adV zr b L0 xs lo) "MeetingHouseModel" 1299 kt_M416 1 := wLkb_ok (List.all_eq_true.mp wlb_X13_5 _ (List.mem_of_getElem? (i := 7) rfl))
theorem wl_X13_1304 : wLk (kw_V adE adK adV zr b L0 xs lo) "MeetingHouseModel" 1304 kt_M385 1 := wLkb_ok (List.all_eq_true.mp wlb_X13_5 _ (List.mem_of_getElem? (i := 8) rfl))
theorem wl_X13_1307 : wLk (kw_V adE adK adV zr b L0 xs lo) "MeetingHouseModel" 1307 kt_M373 1 := wLkb_ok (List.all_eq_true.mp wlb_X13_5 _ (List.mem_of_getElem? (i := 9) rfl))
theorem wl_X13_1316 : wLk (kw_V adE adK adV zr b L0 xs lo) "MeetingHouseModel" 1316 kt_M546 0 := wLkb_ok (List.all_eq_true.mp wlb_X13_5 _ (List.mem_of_getElem? (i := 10) rfl))
theorem wl_X13_1319 : wLk (kw_V adE adK adV zr b L0 xs lo) "MeetingHouseModel" 1319 kt_M529 0 := wLkb_ok (List.all_eq_true.mp wlb_X13_5 _ (List.mem_of_getElem? (i := 11) rfl))
theorem wl_X13_1322 : wLk (kw_V adE adK adV zr b L0 xs lo) "MeetingHouseModel" 1322 kt_M401 0 := wLkb_ok (List.all_eq_true.mp wlb_X13_5 _ (List.mem_of_getElem? (i := 12) rfl))
theorem wl_X13_1331 : wLk (kw_V adE adK adV zr b L0 xs lo) "MeetingHouseModel" 1331 kt_M460 1 := wLkb_ok (List.all_eq_true.mp wlb_X13_5 _ (List.mem_of_getElem? (i := 13) rfl))
theorem wl_X13_1334 : wLk (kw_V adE adK adV zr b L0 xs lo) "MeetingHouseModel" 1334 kt_M513 0 := wLkb_ok (List.all_eq_true.mp wlb_X13_5 _ (List.mem_of_getElem? (i := 14) rfl))
theorem wl_X13_1340 : wLk (kw_V adE adK adV zr b L0 xs lo) "MeetingHouseModel" 1340 kt_M463 1 := wLkb_ok (List.all_eq_true.mp wlb_X13_5 _ (List.mem_of_getElem? (i := 15) rfl))
theorem wl_X13_1343 : wLk (kw_V adE adK adV zr b L0 xs lo) "MeetingHouseModel" 1343 kt_M355 1 := wLkb_ok (List.all_eq_true.mp wlb_X13_5 _ (List.mem_of_getElem? (i := 16) rfl))
theorem wl_X13_1346 : wLk (kw_V adE adK adV zr b L0 xs lo) "MeetingHouseModel" 1346 kt_M426 2 := wLkb_ok (List.all_eq_true.mp wlb_X13_5 _ (List.mem_of_getElem? (i := 17) rfl))
theorem wl_X13_1349 : wLk (kw_V adE adK adV zr b L0 xs lo) "MeetingHouseModel" 1349 kt_M364 1 := wLkb_ok (List.all_eq_true.mp wlb_X13_5 _ (List.mem_of_getElem? (i := 18) rfl))
theorem wl_X13_1352 : wLk (kw_V adE adK adV zr b L0 xs lo) "MeetingHouseModel" 1352 kt_M556 1 := wLkb_ok (List.all_eq_true.mp wlb_X13_5 _ (List.mem_of_getElem? (i := 19) rfl))
theorem wl_X13_1355 : wLk (kw_V adE adK adV zr b L0 xs lo) "MeetingHouseModel" 1355 kt_M431 2 := wLkb_ok (List.all_eq_true.mp wlb_X13_5 _ (List.mem_of_getElem? (i := 20) rfl))
theorem wl_X13_1358 : wLk (kw_V adE adK adV zr b L0 xs lo) "MeetingHouseModel" 1358 kt_M437 1 := wLkb_ok (List.all_eq_true.mp wlb_X13_5 _ (List.mem_of_getElem? (i := 21) rfl))
theorem wl_X13_1361 : wLk (kw_V adE adK adV zr b L0 xs lo) "MeetingHouseModel" 1361 kt_M542 0 := wLkb_ok (List.all_eq_true.mp wlb_X13_5 _ (List.mem_of_getElem? (i := 22) rfl))
theorem wl_X13_1364 : wLk (kw_V adE adK adV zr b L0 xs lo) "MeetingHouseModel" 1364 kt_M557 1 := wLkb_ok (List.all_eq_true.mp wlb_X13_5 _ (List.mem_of_getElem? (i := 23) rfl))
theorem wl_X13_1367 : wLk (kw_V adE adK adV zr b L0 xs lo) "MeetingHouseModel" 1367 kt_M369 2 := wLkb_ok (List.all_eq_true.mp wlb_X13_5 _ (List.mem_of_getElem? (i := 24) rfl))
theorem wl_X13_1370 : wLk (kw_V adE adK adV zr b L0 xs lo) "MeetingHouseModel" 1370 kt_M501 1 := wLkb_ok (List.all_eq_true.mp wlb_X13_5 _ (List.mem_of_getElem? (i := 25) rfl))
theorem wl_X13_1373 : wLk (kw_V adE adK adV zr b L0 xs lo) "MeetingHouseModel" 1373 kt_M348 1 := wLkb_ok (List.all_eq_true.mp wlb_X13_5 _ (List.mem_of_getElem? (i := 26) rfl))
theorem wl_X13_1376 : wLk (kw_V adE adK adV zr b L0 xs lo) "MeetingHouseModel" 1376 kt_M558 1 := wLkb_ok (List.all_eq_true.mp wlb_X13_5 _ (List.mem_of_getElem? (i := 27) rfl))
theorem wl_X13_1379 : wLk (kw_V adE adK adV zr b L0 xs lo) "MeetingHouseModel" 1379 kt_M351 1 := wLkb_ok (List.all_eq_true.mp wlb_X13_5 _ (List.mem_of_getElem? (i := 28) rfl))
theorem wl_X13_1382 : wLk (kw_V adE adK adV zr b L0 xs lo) "MeetingHouseModel" 1382 kt_M353 1 := wLkb_ok (List.all_eq_true.mp wlb_X13_5 _ (List.mem_of_getElem? (i := 29) rfl))
theorem wl_X13_1385 : wLk (kw_V adE adK adV zr b L0 xs lo) "MeetingHouseModel" 1385 kt_M491 3 := wLkb_ok (List.all_eq_true.mp wlb_X13_5 _ (List.mem_of_getElem? (i := 30) rfl))
theorem wl_X13_1391 : wLk (kw_V adE adK adV zr b L0 xs lo) "MeetingHouseModel" 1391 kt_M370 1 := wLkb_ok (List.all_eq_true.mp wlb_X13_5 _ (List.mem_of_getElem? (i := 31) rfl))
theorem wl_X13_1394 : wLk (kw_V adE adK adV zr b L0 xs lo) "MeetingHouseModel" 1394 kt_M505 1 := wLkb_ok (List.all_eq_true.mp wlb_X13_5 _ (List.mem_of_getElem? (i := 32) rfl))
theorem wl_X13_1397 : wLk (kw_V adE adK adV zr b L0 xs lo) "MeetingHouseModel" 1397 kt_M413 2 := wLkb_ok (List.all_eq_true.mp wlb_X13_5 _ (List.mem_of_getElem? (i := 33) rfl))
theorem wl_X13_1407 : wLk (kw_V adE adK adV zr b L0 xs lo) "MeetingHouseModel" 1407 kt_M606 1 := wLkb_ok (List.all_eq_true.mp wlb_X13_5 _ (List.mem_of_getElem? (i := 34) rfl))
theorem wl_X13_1413 : wLk (kw_V adE adK adV zr b L0 xs lo) "MeetingHouseModel" 1413 kt_M468 1 := wLkb_ok (List.all_eq_true.mp wlb_X13_5 _ (List.mem_of_getElem? (i := 35) rfl))
theorem wl_X13_1416 : wLk (kw_V adE adK adV zr b L0 xs lo) "MeetingHouseModel" 1416 kt_M597 2 := wLkb_ok (List.all_eq_true.mp wlb_X13_5 _ (List.mem_of_getElem? (i := 36) rfl))
theorem wl_X13_1419 : wLk (kw_V adE adK adV zr b L0 xs lo) "MeetingHouseModel" 1419 kt_M425 2 := wLkb_ok (List.all_eq_true.mp wlb_X13_5 _ (List.mem_of_getElem? (i := 37) rfl))
theorem wl_X13_1422 : wLk (kw_V adE adK adV zr b L0 xs lo) "MeetingHouseModel" 1422 kt_M522 2 := wLkb_ok (List.all_eq_true.mp wlb_X13_5 _ (List.mem_of_getElem? (i := 38) rfl))
theorem wl_X13_1434 : wLk (kw_V adE adK adV zr b L0 xs lo) "MeetingHouseModel" 1434 kt_M523 3 := wLkb_ok (List.all_eq_true.mp wlb_X13_5 _ (List.mem_of_getElem? (i := 39) rfl))
def wll_X13_6 : List (Nat × kx_M × Nat) := [(1437, kt_M596, 2), (1440, kt_M521, 1), (1443, kt_M510, 2), (1446, kt_M434, 2), (1451, kt_M552, 0), (1457, kt_M424, 1), (1460, kt_M446, 1), (1463, kt_M389, 1), (1466, kt_M555, 2), (1469, kt_M423, 3), (1476, kt_M599, 0), (1479, kt_M488, 2), (1485, kt_M436, 0), (1488, kt_M489, 0), (1492, kt_M598, 0), (1498, kt_M544, 0), (1501, kt_M543, 0)]
theorem wlb_X13_6 : wll_X13_6.all (wLkb "MeetingHouseModel") = true := by decide +kernel
theorem wl_X13_1437 : wLk (kw_V adE adK adV zr b L0 xs lo) "MeetingHouseModel" 1437 kt_M596 2 := wLkb_ok (List.all_eq_true.mp wlb_X13_6 _ (List.mem_of_getElem? (i := 0) rfl))
theorem wl_X13_1440 : wLk (kw_V adE adK adV zr b L0 xs lo) "MeetingHouseModel" 1440 kt_M521 1 := wLkb_ok (List.all_eq_true.mp wlb_X13_6 _ (List.mem_of_getElem? (i := 1) rfl))
theorem wl_X13_1443 : wLk (kw_V adE adK adV zr b L0 xs lo) "MeetingHouseModel" 1443 kt_M510 2 := wLkb_ok (List.all_eq_true.mp wlb_X13_6 _ (List.mem_of_getElem? (i := 2) rfl))
theorem wl_X13_1446 : wLk (kw_V adE adK adV zr b L0 xs lo) "MeetingHouseModel" 1446 kt_M434 2 := wLkb_ok (List.all_eq_true.mp wlb_X13_6 _ (List.mem_of_getElem? (i := 3) rfl))
theorem wl_X13_1451 : wLk (kw_V adE adK adV zr b L0 xs lo) "MeetingHouseModel" 1451 kt_M552 0 := wLkb_ok (List.all_eq_true.mp wlb_X13_6 _ (List.mem_of_getElem? (i := 4) rfl))
theorem wl_X13_1457 : wLk (kw_V adE adK adV zr b L0 xs lo) "MeetingHouseModel" 1457 kt_M424 1 := wLkb_ok (List.all_eq_true.mp wlb_X13_6 _ (List.mem_of_getElem? (i := 5) rfl))
theorem wl_X13_1460 : wLk (kw_V adE adK adV zr b L0 xs lo) "MeetingHouseModel" 1460 kt_M446 1 := wLkb_ok (List.all_eq_true.mp wlb_X13_6 _ (List.mem_of_getElem? (i := 6) rfl))
theorem wl_X13_1463 : wLk (kw_V adE adK adV zr b L0 xs lo) "MeetingHouseModel" 1463 kt_M389 1 := wLkb_ok (List.all_eq_true.mp wlb_X13_6 _ (List.mem_of_getElem? (i := 7) rfl))
theorem wl_X13_1466 : wLk (kw_V adE adK adV zr b L0 xs lo) "MeetingHouseModel" 1466 kt_M555 2 := wLkb_ok (List.all_eq_true.mp wlb_X13_6 _ (List.mem_of_getElem? (i := 8) rfl))
theorem wl_X13_1469 : wLk (kw_V adE adK adV zr b L0 xs lo) "MeetingHouseModel" 1469 kt_M423 3 := wLkb_ok (List.all_eq_true.mp wlb_X13_6 _ (List.mem_of_getElem? (i := 9) rfl))
theorem wl_X13_1476 : wLk (kw_V adE adK adV zr b L0 xs lo) "MeetingHouseModel" 1476 kt_M599 0 := wLkb_ok (List.all_eq_true.mp wlb_X13_6 _ (List.mem_of_getElem? (i := 10) rfl))
theorem wl_X13_1479 : wLk (kw_V adE adK adV zr b L0 xs lo) "MeetingHouseModel" 1479 kt_M488 2 := wLkb_ok (List.all_eq_true.mp wlb_X13_6 _ (List.mem_of_getElem? (i := 11) rfl))
theorem wl_X13_1485 : wLk (kw_V adE adK adV zr b L0 xs lo) "MeetingHouseModel" 1485 kt_M436 0 := wLkb_ok (List.all_eq_true.mp wlb_X13_6 _ (List.mem_of_getElem? (i := 12) rfl))
theorem wl_X13_1488 : wLk (kw_V adE adK adV zr b L0 xs lo) "MeetingHouseModel" 1488 kt_M489 0 := wLkb_ok (List.all_eq_true.mp wlb_X13_6 _ (List.mem_of_getElem? (i := 13) rfl))
theorem wl_X13_1492 : wLk (kw_V adE adK adV zr b L0 xs lo) "MeetingHouseModel" 1492 kt_M598 0 := wLkb_ok (List.all_eq_true.mp wlb_X13_6 _ (List.mem_of_getElem? (i := 14) rfl))
theorem wl_X13_1498 : wLk (kw_V adE adK adV zr b L0 xs lo) "MeetingHouseModel" 1498 kt_M544 0 := wLkb_ok (List.all_eq_true.mp wlb_X13_6 _ (List.mem_of_getElem? (i := 15) rfl))
theorem wl_X13_1501 : wLk (kw_V adE adK adV zr b L0 xs lo) "MeetingHouseModel" 1501 kt_M543 0 := wLkb_ok (List.all_eq_true.mp wlb_X13_6 _ (List.mem_of_getElem? (i := 16) rfl))
def wll_J4_0 : List (Nat × kx_M × Nat) := [(335, kt_M625, 0), (492, kt_M626, 0), (495, kt_M628, 2), (498, kt_M629, 2), (1059, kt_M636, 3)]
theorem wlb_J4_0 : wll_J4_0.all (wLkb "java/lang/String") = true := by decide +kernel
theorem wl_J4_335 : wLk (kw_V adE adK adV zr b L0 xs lo) "java/lang/String" 335 kt_M625 0 := wLkb_ok (List.all_eq_true.mp wlb_J4_0 _ (List.mem_of_getElem? (i := 0) rfl))
theorem wl_J4_492 : wLk (kw_V adE adK adV zr b L0 xs lo) "java/lang/String" 492 kt_M626 0 := wLkb_ok (List.all_eq_true.mp wlb_J4_0 _ (List.mem_of_getElem? (i := 1) rfl))
theorem wl_J4_495 : wLk (kw_V adE adK adV zr b L0 xs lo) "java/lang/String" 495 kt_M628 2 := wLkb_ok (List.all_eq_true.mp wlb_J4_0 _ (List.mem_of_getElem? (i := 2) rfl))
theorem wl_J4_498 : wLk (kw_V adE adK adV zr b L0 xs lo) "java/lang/String" 498 kt_M629 2 := wLkb_ok (List.all_eq_true.mp wlb_J4_0 _ (List.mem_of_getElem? (i := 3) rfl))
theorem wl_J4_1059 : wLk (kw_V adE adK adV zr b L0 xs lo) "java/lang/String" 1059 kt_M636 3 := wLkb_ok (List.all_eq_true.mp wlb_J4_0 _ (List.mem_of_getElem? (i := 4) rfl))
def wll_J5_0 : List (Nat × kx_M × Nat) := [(9, kt_M624, 2)]
theorem wlb_J5_0 : wll_J5_0.all (wLkb "java/lang/StringLatin1") = true := by decide +kernel
theorem wl_J5_9 : wLk (kw_V adE adK adV zr b L0 xs lo) "java/lang/StringLatin1" 9 kt_M624 2 := wLkb_ok (List.all_eq_true.mp wlb_J5_0 _ (List.mem_of_getElem? (i := 0) rfl))
def wll_J7_0 : List (Nat × kx_M × Nat) := [(48, kt_M632, 1), (67, kt_M630, 2), (71, kt_M631, 2), (414, kt_M624, 2)]
theorem wlb_J7_0 : wll_J7_0.all (wLkb "java/lang/StringUTF16") = true := by decide +kernel
theorem wl_J7_48 : wLk (kw_V adE adK adV zr b L0 xs lo) "java/lang/StringUTF16" 48 kt_M632 1 := wLkb_ok (List.all_eq_true.mp wlb_J7_0 _ (List.mem_of_getElem? (i := 0) rfl))
theorem wl_J7_67 : wLk (kw_V adE adK adV zr b L0 xs lo) "java/lang/StringUTF16" 67 kt_M630 2 := wLkb_ok (List.all_eq_true.mp wlb_J7_0 _ (List.mem_of_getElem? (i := 1) rfl))
theorem wl_J7_71 : wLk (kw_V adE adK adV zr b L0 xs lo) "java/lang/StringUTF16" 71 kt_M631 2 := wLkb_ok (List.all_eq_true.mp wlb_J7_0 _ (List.mem_of_getElem? (i := 2) rfl))
theorem wl_J7_414 : wLk (kw_V adE adK adV zr b L0 xs lo) "java/lang/StringUTF16" 414 kt_M624 2 := wLkb_ok (List.all_eq_true.mp wlb_J7_0 _ (List.mem_of_getElem? (i := 3) rfl))
end WM
