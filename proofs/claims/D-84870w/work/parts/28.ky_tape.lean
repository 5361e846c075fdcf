/-! ===== RUNS OF kx_run, part 3: fields; the tape: back ===== -/
section KYF
variable {V : kx_V} {F L : Nat} {M : kx_M} {pc : Nat} {lv : kx_L} {st : List Value} {X : kx_X} {C S : Nat} {Q : kx_Rs → kx_X → Nat → Nat → Prop}
theorem ky_getf {j : Nat} (hd : decode M.2.1 pc = .ok (.getfield j, 3)) {q : String × String × String} (hl : kx_fl V M.1.cls j = some q) {ci k N a : Nat} {Cn : String} {T : u_T} (hc : (kx_cl V)[ci]? = some (Cn, T, N)) (hk : kx_fk T N q = some k) {fs : List Value} (ha : X.1 a = some (.inr (ci, fs))) {v : Value} (hv : fs[k]? = some v) (kk : ky V F L M (pc + 3) lv (v :: st) X C S Q) : ky V F L M pc lv (.ref a :: st) X C S Q := by
  refine ky_s hd ?_ kk
  simp only [kx_st1, ha, hc, hl, hk, hv, if_pos]
theorem ky_putf {j : Nat} (hd : decode M.2.1 pc = .ok (.putfield j, 3)) {q : String × String × String} (hl : kx_fl V M.1.cls j = some q) {ci k N a : Nat} {Cn : String} {T : u_T} (hc : (kx_cl V)[ci]? = some (Cn, T, N)) (hk : kx_fk T N q = some k) {ty : FieldType} (ht : parseFieldDescriptor q.2.2 = some ty) (hfin : (T k).2.2.2 = false) {fs : List Value} (ha : X.1 a = some (.inr (ci, fs))) (hlo : kx_lo V ≤ a) {v : Value} (hn : narrow ty v = v) (hf : fits ty v = true) (hlen : k < fs.length) (kk : ky V F L M (pc + 3) lv st (kx_set X a (.inr (ci, fs.set k v))) C S Q) : ky V F L M pc lv (v :: .ref a :: st) X C S Q := by
  refine ky_s hd ?_ kk
  have hcnd : kx_lo V ≤ a ∧ narrow ty v = v ∧ fits ty v = true ∧ k < fs.length ∧ ((T k).2.2.2 = false ∨ (M.1.name = "<init>" ∧ q.1 = M.1.cls)) := ⟨hlo, hn, hf, hlen, Or.inl hfin⟩
  simp only [kx_st1, ha, hc, hl, hk, ht, if_pos hcnd, if_pos]
theorem ky_if {cd : ClassFile.Cond} {off : Int} (hd : decode M.2.1 pc = .ok (.ifCond cd off, 3)) {t : Nat} (ht : kx_tg pc off = some t) {x : Int32} (h1 : kx_c1 cd x = true → ky V F L M t lv st X C S Q) (h2 : kx_c1 cd x = false → ky V F L M (pc + 3) lv st X C S Q) : ky V F L M pc lv (.int x :: st) X C S Q := by
  cases hc : kx_c1 cd x with
  | true =>
    refine ky_s hd ?_ (h1 hc)
    simp only [kx_st1, ht, hc, if_pos]
  | false =>
    refine ky_s hd ?_ (h2 hc)
    simp only [kx_st1, ht, hc, if_pos]
    rfl
theorem ky_icmp {cd : ClassFile.Cond} {off : Int} (hd : decode M.2.1 pc = .ok (.if_icmp cd off, 3)) {t : Nat} (ht : kx_tg pc off = some t) {x y : Int32} (h1 : kx_c2 cd x y = true → ky V F L M t lv st X C S Q) (h2 : kx_c2 cd x y = false → ky V F L M (pc + 3) lv st X C S Q) : ky V F L M pc lv (.int y :: .int x :: st) X C S Q := by
  cases hc : kx_c2 cd x y with
  | true =>
    refine ky_s hd ?_ (h1 hc)
    simp only [kx_st1, ht, hc, if_pos]
  | false =>
    refine ky_s hd ?_ (h2 hc)
    simp only [kx_st1, ht, hc, if_pos]
    rfl
theorem ky_iret (hd : decode M.2.1 pc = .ok (.ireturn, 1)) {ty : FieldType} (hr : M.2.2.2.1 = some ty) {v : Int32} (hn : narrow ty (.int v) = .int v) (k : Q (.inl (some (.int v))) X C S) : ky V F L M pc lv [.int v] X C S Q := by
  refine ky_end hd rfl rfl ?_ k
  simp only [kx_end, hr, hn]
  simp
end KYF
section KYB
variable {adE adK adV : Nat → Nat} {zr : Nat → Value} {b L0 : Nat} {xs : Nat → Int32} {lo : Nat} {F L : Nat} {X : kx_X} {C S : Nat} {Q : kx_Rs → kx_X → Nat → Nat → Prop}
theorem kf_X1_82 : kx_fl (kw_V adE adK adV zr b L0 xs lo) "MeetingHouse" 82 = some ("MeetingHouse", "taped", "I") := by
  show kt_get kt_flA "MeetingHouse" 82 = _
  decide +kernel
theorem kf_X13_451 : kx_fl (kw_V adE adK adV zr b L0 xs lo) "MeetingHouseModel" 451 = some ("MeetingHouseModel", "thrown", "I") := by
  show kt_get kt_flA "MeetingHouseModel" 451 = _
  decide +kernel
theorem kf_X13_455 : kx_fl (kw_V adE adK adV zr b L0 xs lo) "MeetingHouseModel" 455 = some ("MeetingHouseModel", "taped", "I") := by
  show kt_get kt_flA "MeetingHouseModel" 455 = _
  decide +kernel
theorem kp_I : parseFieldDescriptor "I" = some .int := by decide +kernel
theorem kh_X1_10 : (TX1 10).2.2.2 = false := by decide +kernel
theorem kh_X13_1 : (TX13 1).2.2.2 = false := by decide +kernel
theorem kh_X13_3 : (TX13 3).2.2.2 = false := by decide +kernel
theorem kc_0 : (kx_cl (kw_V adE adK adV zr b L0 xs lo))[0]? = some (RX1, TX1, 13) := rfl
theorem kc_12 : (kx_cl (kw_V adE adK adV zr b L0 xs lo))[12]? = some (RX13, TX13, 180) := rfl
theorem kk_X1 {k : Nat} : kx_fk TX1 13 ("MeetingHouse", "taped", "I") = some 10 := by decide +kernel
theorem kk_X13_taped : kx_fk TX13 180 ("MeetingHouseModel", "taped", "I") = some 3 := by decide +kernel
theorem kk_X13_thrown : kx_fk TX13 180 ("MeetingHouseModel", "thrown", "I") = some 1 := by decide +kernel
theorem kz_X1_back {a : Nat} {fs : List Value} {tp n : Int32} (ha : X.1 a = some (.inr (0, fs))) (hlo : lo ≤ a) (hlen : fs.length = 13) (ht : fs[10]? = some (.int tp)) (h1 : n < 0 ∨ tp < n → Q (.inl (some (.int (-1)))) X C S) (h2 : ¬ n < 0 → n ≤ tp → Q (.inl (some (.int (tp - n)))) (kx_set X a (.inr (0, fs.set 10 (.int (tp - n))))) C S) : ky (kw_V adE adK adV zr b L0 xs lo) F L kt_M1 0 (lv_args 0 [.ref a, .int n]) [] X C S Q := by
  refine ky_iload_n (M := kt_M1) dX1_back_0 rfl ?_
  refine ky_if (M := kt_M1) dX1_back_1 (t := 12) rfl (fun hc => ?_) (fun hc => ?_)
  · refine ky_iconst (M := kt_M1) dX1_back_12 ?_
    exact ky_iret (M := kt_M1) dX1_back_13 rfl rfl (h1 (Or.inl (by simpa [kx_c1] using hc)))
  · refine ky_iload_n (M := kt_M1) dX1_back_4 rfl ?_
    refine ky_aload_n (M := kt_M1) dX1_back_5 rfl ?_
    refine ky_getf (M := kt_M1) dX1_back_6 kf_X1_82 kc_0 (kk_X1 (k := 0)) ha ht ?_
    refine ky_icmp (M := kt_M1) dX1_back_9 (t := 14) rfl (fun hc2 => ?_) (fun hc2 => ?_)
    · refine ky_aload_n (M := kt_M1) dX1_back_14 rfl ?_
      refine ky_dup (M := kt_M1) dX1_back_15 rfl ?_
      refine ky_getf (M := kt_M1) dX1_back_16 kf_X1_82 kc_0 (kk_X1 (k := 0)) ha ht ?_
      refine ky_iload_n (M := kt_M1) dX1_back_19 rfl ?_
      refine ky_isub (M := kt_M1) dX1_back_20 ?_
      refine ky_putf (M := kt_M1) dX1_back_21 kf_X1_82 kc_0 (kk_X1 (k := 0)) (ty := .int) kp_I kh_X1_10 ha hlo rfl rfl (by omega) ?_
      refine ky_aload_n (M := kt_M1) dX1_back_24 rfl ?_
      refine ky_getf (M := kt_M1) dX1_back_25 kf_X1_82 kc_0 (kk_X1 (k := 0)) (fs := fs.set 10 (.int (tp - n))) (v := .int (tp - n)) ?_ ?_ ?_
      · simp [kx_set]
      · rw [List.getElem?_set_self (by omega)]
      · exact ky_iret (M := kt_M1) dX1_back_28 rfl rfl (h2 (by simpa [kx_c1] using hc) (by simpa [kx_c2] using hc2))
    · refine ky_iconst (M := kt_M1) dX1_back_12 ?_
      exact ky_iret (M := kt_M1) dX1_back_13 rfl rfl (h1 (Or.inr (by simpa [kx_c2] using hc2)))
theorem kz_X13_back {a : Nat} {fs : List Value} {tp n : Int32} (ha : X.1 a = some (.inr (12, fs))) (hlo : lo ≤ a) (hlen : fs.length = 180) (ht : fs[3]? = some (.int tp)) (h1 : n < 0 ∨ tp < n → Q (.inl (some (.int (-1)))) (kx_set X a (.inr (12, fs.set 1 (.int 0)))) C S) (h2 : ¬ n < 0 → n ≤ tp → Q (.inl (some (.int (tp - n)))) (kx_set (kx_set X a (.inr (12, fs.set 1 (.int 0)))) a (.inr (12, (fs.set 1 (.int 0)).set 3 (.int (tp - n))))) C S) : ky (kw_V adE adK adV zr b L0 xs lo) F L kt_M356 0 (lv_args 0 [.ref a, .int n]) [] X C S Q := by
  have g1 : (fs.set 1 (Value.int 0))[3]? = some (.int tp) := by rw [List.getElem?_set_ne (by decide)]; exact ht
  have g2 : (kx_set X a (.inr (12, fs.set 1 (.int 0)))).1 a = some (.inr (12, fs.set 1 (.int 0))) := by simp [kx_set]
  refine ky_aload_n (M := kt_M356) dX13_back_0 rfl ?_
  refine ky_iconst (M := kt_M356) dX13_back_1 ?_
  refine ky_putf (M := kt_M356) dX13_back_2 kf_X13_451 kc_12 kk_X13_thrown (ty := .int) kp_I kh_X13_1 ha hlo rfl rfl (by omega) ?_
  refine ky_iload_n (M := kt_M356) dX13_back_5 rfl ?_
  refine ky_if (M := kt_M356) dX13_back_6 (t := 17) rfl (fun hc => ?_) (fun hc => ?_)
  · refine ky_iconst (M := kt_M356) dX13_back_17 ?_
    exact ky_iret (M := kt_M356) dX13_back_18 rfl rfl (h1 (Or.inl (by simpa [kx_c1] using hc)))
  · refine ky_iload_n (M := kt_M356) dX13_back_9 rfl ?_
    refine ky_aload_n (M := kt_M356) dX13_back_10 rfl ?_
    refine ky_getf (M := kt_M356) dX13_back_11 kf_X13_455 kc_12 kk_X13_taped g2 g1 ?_
    refine ky_icmp (M := kt_M356) dX13_back_14 (t := 19) rfl (fun hc2 => ?_) (fun hc2 => ?_)
    · refine ky_aload_n (M := kt_M356) dX13_back_19 rfl ?_
      refine ky_dup (M := kt_M356) dX13_back_20 rfl ?_
      refine ky_getf (M := kt_M356) dX13_back_21 kf_X13_455 kc_12 kk_X13_taped g2 g1 ?_
      refine ky_iload_n (M := kt_M356) dX13_back_24 rfl ?_
      refine ky_isub (M := kt_M356) dX13_back_25 ?_
      refine ky_putf (M := kt_M356) dX13_back_26 kf_X13_455 kc_12 kk_X13_taped (ty := .int) kp_I kh_X13_3 g2 hlo rfl rfl (by simp [hlen]) ?_
      refine ky_aload_n (M := kt_M356) dX13_back_29 rfl ?_
      refine ky_getf (M := kt_M356) dX13_back_30 kf_X13_455 kc_12 kk_X13_taped (fs := (fs.set 1 (.int 0)).set 3 (.int (tp - n))) (v := .int (tp - n)) ?_ ?_ ?_
      · simp [kx_set]
      · rw [List.getElem?_set_self (by simp [hlen])]
      · exact ky_iret (M := kt_M356) dX13_back_33 rfl rfl (h2 (by simpa [kx_c1] using hc) (by simpa [kx_c2] using hc2))
    · refine ky_iconst (M := kt_M356) dX13_back_17 ?_
      exact ky_iret (M := kt_M356) dX13_back_18 rfl rfl (h1 (Or.inr (by simpa [kx_c2] using hc2)))
end KYB
