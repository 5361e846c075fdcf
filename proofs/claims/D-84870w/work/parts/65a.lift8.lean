/-! ===== methods over the typed state (printed by tools/gen_lift.py) ===== -/
set_option maxRecDepth 100000
theorem zac_X8_161 {E : zE} : wAc (zV E) "MeetingHouse$Uses" 161 := ⟨(show kt_get kt_mlA "MeetingHouse$Uses" 161 = some arraycopyName from by decide +kernel), zac_n, zac_s, zac_i⟩
theorem zc_X8_112 {adE adK adV : Nat → Nat} {zr : Nat → Value} {b L0 : Nat} {xs : Nat → Int32} {lo : Nat} : kx_ci (kw_V adE adK adV zr b L0 xs lo) "MeetingHouse$Uses" 112 = some 2147483647 := by
  show kt_get kt_ciA "MeetingHouse$Uses" 112 = _
  decide +kernel
theorem zc_X8_380 {adE adK adV : Nat → Nat} {zr : Nat → Value} {b L0 : Nat} {xs : Nat → Int32} {lo : Nat} : kx_ci (kw_V adE adK adV zr b L0 xs lo) "MeetingHouse$Uses" 380 = some (-2147483648) := by
  show kt_get kt_ciA "MeetingHouse$Uses" 380 = _
  decide +kernel
theorem zs_X8_177 {E : zE} : ∃ r n d, kx_fl (zV E) "MeetingHouse$Uses" 177 = some (r, n, d) ∧ kx_sv (zV E) r n d = some (va_rf (some (E.1.1 40))) := ⟨_, _, _, (show kt_get kt_flA "MeetingHouse$Uses" 177 = some ("MeetingHouse$Kind", "INPUT", "LMeetingHouse$Kind;") from by decide +kernel), kx_sv_E.trans (kw_sv_en zen_40)⟩
theorem zs_X8_183 {E : zE} : ∃ r n d, kx_fl (zV E) "MeetingHouse$Uses" 183 = some (r, n, d) ∧ kx_sv (zV E) r n d = some (va_rf (some (E.1.1 38))) := ⟨_, _, _, (show kt_get kt_flA "MeetingHouse$Uses" 183 = some ("MeetingHouse$Kind", "DELAY", "LMeetingHouse$Kind;") from by decide +kernel), kx_sv_E.trans (kw_sv_en zen_38)⟩
theorem zs_X8_192 {E : zE} : ∃ r n d, kx_fl (zV E) "MeetingHouse$Uses" 192 = some (r, n, d) ∧ kx_sv (zV E) r n d = some (va_rf (some (E.1.1 44))) := ⟨_, _, _, (show kt_get kt_flA "MeetingHouse$Uses" 192 = some ("MeetingHouse$Kind", "PAR", "LMeetingHouse$Kind;") from by decide +kernel), kx_sv_E.trans (kw_sv_en zen_44)⟩
theorem zs_X8_295 {E : zE} : ∃ r n d, kx_fl (zV E) "MeetingHouse$Uses" 295 = some (r, n, d) ∧ kx_sv (zV E) r n d = some (va_rf (some (E.1.1 28))) := ⟨_, _, _, (show kt_get kt_flA "MeetingHouse$Uses" 295 = some ("MeetingHouse$Kind", "VALUE", "LMeetingHouse$Kind;") from by decide +kernel), kx_sv_E.trans (kw_sv_en zen_28)⟩
theorem zs_X8_298 {E : zE} : ∃ r n d, kx_fl (zV E) "MeetingHouse$Uses" 298 = some (r, n, d) ∧ kx_sv (zV E) r n d = some (va_rf (some (E.1.1 25))) := ⟨_, _, _, (show kt_get kt_flA "MeetingHouse$Uses" 298 = some ("MeetingHouse$Kind", "ABBREVIATION", "LMeetingHouse$Kind;") from by decide +kernel), kx_sv_E.trans (kw_sv_en zen_25)⟩
theorem zs_X8_312 {E : zE} : ∃ r n d, kx_fl (zV E) "MeetingHouse$Uses" 312 = some (r, n, d) ∧ kx_sv (zV E) r n d = some (va_rf (some (E.1.1 59))) := ⟨_, _, _, (show kt_get kt_flA "MeetingHouse$Uses" 312 = some ("MeetingHouse$What", "TAG", "LMeetingHouse$What;") from by decide +kernel), kx_sv_E.trans (kw_sv_en zen_59)⟩
theorem zs_X8_321 {E : zE} : ∃ r n d, kx_fl (zV E) "MeetingHouse$Uses" 321 = some (r, n, d) ∧ kx_sv (zV E) r n d = some (va_rf (some (E.1.1 46))) := ⟨_, _, _, (show kt_get kt_flA "MeetingHouse$Uses" 321 = some ("MeetingHouse$Kind", "IF", "LMeetingHouse$Kind;") from by decide +kernel), kx_sv_E.trans (kw_sv_en zen_46)⟩
theorem zs_X8_337 {E : zE} : ∃ r n d, kx_fl (zV E) "MeetingHouse$Uses" 337 = some (r, n, d) ∧ kx_sv (zV E) r n d = some (va_rf (some (E.1.1 54))) := ⟨_, _, _, (show kt_get kt_flA "MeetingHouse$Uses" 337 = some ("MeetingHouse$What", "VARIABLE", "LMeetingHouse$What;") from by decide +kernel), kx_sv_E.trans (kw_sv_en zen_54)⟩
theorem zs_X8_80 {E : zE} : ∃ r n d, kx_fl (zV E) "MeetingHouse$Uses" 80 = some (r, n, d) ∧ kx_sv (zV E) r n d = some (va_rf (some (E.1.1 33))) := ⟨_, _, _, (show kt_get kt_flA "MeetingHouse$Uses" 80 = some ("MeetingHouse$Kind", "PROC", "LMeetingHouse$Kind;") from by decide +kernel), kx_sv_E.trans (kw_sv_en zen_33)⟩
theorem zs_X8_85 {E : zE} : ∃ r n d, kx_fl (zV E) "MeetingHouse$Uses" 85 = some (r, n, d) ∧ kx_sv (zV E) r n d = some (va_rf (some (E.1.1 11))) := ⟨_, _, _, (show kt_get kt_flA "MeetingHouse$Uses" 85 = some ("MeetingHouse$Kind", "FUNCTION", "LMeetingHouse$Kind;") from by decide +kernel), kx_sv_E.trans (kw_sv_en zen_11)⟩
theorem zkl_X8_9 {E : zE} : kx_kl (zV E) "MeetingHouse$Uses" 9 = some "MeetingHouse$Symbol" := (show kt_get kt_klA "MeetingHouse$Uses" 9 = some "MeetingHouse$Symbol" from by decide +kernel)
theorem wq_X8_102 {adE adK adV : Nat → Nat} {zr : Nat → Value} {b L0 : Nat} {xs : Nat → Int32} {lo : Nat} : wP (kw_V adE adK adV zr b L0 xs lo) wG "MeetingHouse$Uses" 102 7 11 0 .boolean := wPb_ok (by decide +kernel) wf_X8_102 (r := "MeetingHouse$Uses") (n := "checks") (d := "Z") (by decide +kernel) (by decide +kernel)
theorem wq_X8_105 {adE adK adV : Nat → Nat} {zr : Nat → Value} {b L0 : Nat} {xs : Nat → Int32} {lo : Nat} : wP (kw_V adE adK adV zr b L0 xs lo) wG "MeetingHouse$Uses" 105 7 18 0 .boolean := wPb_ok (by decide +kernel) wf_X8_105 (r := "MeetingHouse$Uses") (n := "sums") (d := "Z") (by decide +kernel) (by decide +kernel)
theorem wq_X8_108 {adE adK adV : Nat → Nat} {zr : Nat → Value} {b L0 : Nat} {xs : Nat → Int32} {lo : Nat} : wP (kw_V adE adK adV zr b L0 xs lo) wG "MeetingHouse$Uses" 108 7 14 0 .boolean := wPb_ok (by decide +kernel) wf_X8_108 (r := "MeetingHouse$Uses") (n := "acts") (d := "Z") (by decide +kernel) (by decide +kernel)
theorem wq_X8_113 {adE adK adV : Nat → Nat} {zr : Nat → Value} {b L0 : Nat} {xs : Nat → Int32} {lo : Nat} : wP (kw_V adE adK adV zr b L0 xs lo) wG "MeetingHouse$Uses" 113 7 12 0 .int := wPb_ok (by decide +kernel) wf_X8_113 (r := "MeetingHouse$Uses") (n := "outside") (d := "I") (by decide +kernel) (by decide +kernel)
theorem wq_X8_116 {adE adK adV : Nat → Nat} {zr : Nat → Value} {b L0 : Nat} {xs : Nat → Int32} {lo : Nat} : wP (kw_V adE adK adV zr b L0 xs lo) wG "MeetingHouse$Uses" 116 7 13 0 .int := wPb_ok (by decide +kernel) wf_X8_116 (r := "MeetingHouse$Uses") (n := "line") (d := "I") (by decide +kernel) (by decide +kernel)
theorem wq_X8_135 {adE adK adV : Nat → Nat} {zr : Nat → Value} {b L0 : Nat} {xs : Nat → Int32} {lo : Nat} : wP (kw_V adE adK adV zr b L0 xs lo) wG "MeetingHouse$Uses" 135 15 10 0 .boolean := wPb_ok (by decide +kernel) wf_X8_135 (r := "MeetingHouse$Symbol") (n := "constant") (d := "Z") (by decide +kernel) (by decide +kernel)
theorem wq_X8_138 {adE adK adV : Nat → Nat} {zr : Nat → Value} {b L0 : Nat} {xs : Nat → Int32} {lo : Nat} : wP (kw_V adE adK adV zr b L0 xs lo) wG "MeetingHouse$Uses" 138 15 27 0 .int := wPb_ok (by decide +kernel) wf_X8_138 (r := "MeetingHouse$Symbol") (n := "usesFrom") (d := "I") (by decide +kernel) (by decide +kernel)
theorem wq_X8_141 {adE adK adV : Nat → Nat} {zr : Nat → Value} {b L0 : Nat} {xs : Nat → Int32} {lo : Nat} : wP (kw_V adE adK adV zr b L0 xs lo) wG "MeetingHouse$Uses" 141 15 29 0 .int := wPb_ok (by decide +kernel) wf_X8_141 (r := "MeetingHouse$Symbol") (n := "marks") (d := "I") (by decide +kernel) (by decide +kernel)
theorem wq_X8_143 {adE adK adV : Nat → Nat} {zr : Nat → Value} {b L0 : Nat} {xs : Nat → Int32} {lo : Nat} : wP (kw_V adE adK adV zr b L0 xs lo) wG "MeetingHouse$Uses" 143 15 30 0 .int := wPb_ok (by decide +kernel) wf_X8_143 (r := "MeetingHouse$Symbol") (n := "bits") (d := "I") (by decide +kernel) (by decide +kernel)
theorem wq_X8_155 {adE adK adV : Nat → Nat} {zr : Nat → Value} {b L0 : Nat} {xs : Nat → Int32} {lo : Nat} : wP (kw_V adE adK adV zr b L0 xs lo) wG "MeetingHouse$Uses" 155 15 28 0 .int := wPb_ok (by decide +kernel) wf_X8_155 (r := "MeetingHouse$Symbol") (n := "usesUntil") (d := "I") (by decide +kernel) (by decide +kernel)
theorem wq_X8_21 {adE adK adV : Nat → Nat} {zr : Nat → Value} {b L0 : Nat} {xs : Nat → Int32} {lo : Nat} : wP (kw_V adE adK adV zr b L0 xs lo) wG "MeetingHouse$Uses" 21 7 5 3 (.array .int) := wPb_ok (by decide +kernel) wf_X8_21 (r := "MeetingHouse$Uses") (n := "marks") (d := "[I") (by decide +kernel) (by decide +kernel)
theorem wq_X8_238 {adE adK adV : Nat → Nat} {zr : Nat → Value} {b L0 : Nat} {xs : Nat → Int32} {lo : Nat} : wP (kw_V adE adK adV zr b L0 xs lo) wG "MeetingHouse$Uses" 238 7 19 0 .boolean := wPb_ok (by decide +kernel) wf_X8_238 (r := "MeetingHouse$Uses") (n := "common") (d := "Z") (by decide +kernel) (by decide +kernel)
theorem wq_X8_24 {adE adK adV : Nat → Nat} {zr : Nat → Value} {b L0 : Nat} {xs : Nat → Int32} {lo : Nat} : wP (kw_V adE adK adV zr b L0 xs lo) wG "MeetingHouse$Uses" 24 7 6 3 (.array .int) := wPb_ok (by decide +kernel) wf_X8_24 (r := "MeetingHouse$Uses") (n := "touched") (d := "[I") (by decide +kernel) (by decide +kernel)
theorem wq_X8_241 {adE adK adV : Nat → Nat} {zr : Nat → Value} {b L0 : Nat} {xs : Nat → Int32} {lo : Nat} : wP (kw_V adE adK adV zr b L0 xs lo) wG "MeetingHouse$Uses" 241 7 20 0 .boolean := wPb_ok (by decide +kernel) wf_X8_241 (r := "MeetingHouse$Uses") (n := "placed") (d := "Z") (by decide +kernel) (by decide +kernel)
theorem wq_X8_27 {adE adK adV : Nat → Nat} {zr : Nat → Value} {b L0 : Nat} {xs : Nat → Int32} {lo : Nat} : wP (kw_V adE adK adV zr b L0 xs lo) wG "MeetingHouse$Uses" 27 7 9 3 (.array (.object "MeetingHouse$Symbol")) := wPb_ok (by decide +kernel) wf_X8_27 (r := "MeetingHouse$Uses") (n := "marked") (d := "[LMeetingHouse$Symbol;") (by decide +kernel) (by decide +kernel)
theorem wq_X8_289 {adE adK adV : Nat → Nat} {zr : Nat → Value} {b L0 : Nat} {xs : Nat → Int32} {lo : Nat} : wP (kw_V adE adK adV zr b L0 xs lo) wG "MeetingHouse$Uses" 289 15 25 0 .int := wPb_ok (by decide +kernel) wf_X8_289 (r := "MeetingHouse$Symbol") (n := "now") (d := "I") (by decide +kernel) (by decide +kernel)
theorem wq_X8_351 {adE adK adV : Nat → Nat} {zr : Nat → Value} {b L0 : Nat} {xs : Nat → Int32} {lo : Nat} : wP (kw_V adE adK adV zr b L0 xs lo) wG "MeetingHouse$Uses" 351 7 16 0 .int := wPb_ok (by decide +kernel) wf_X8_351 (r := "MeetingHouse$Uses") (n := "freeMany") (d := "I") (by decide +kernel) (by decide +kernel)
theorem wq_X8_354 {adE adK adV : Nat → Nat} {zr : Nat → Value} {b L0 : Nat} {xs : Nat → Int32} {lo : Nat} : wP (kw_V adE adK adV zr b L0 xs lo) wG "MeetingHouse$Uses" 354 7 17 0 .boolean := wPb_ok (by decide +kernel) wf_X8_354 (r := "MeetingHouse$Uses") (n := "bad") (d := "Z") (by decide +kernel) (by decide +kernel)
theorem wq_X8_37 {adE adK adV : Nat → Nat} {zr : Nat → Value} {b L0 : Nat} {xs : Nat → Int32} {lo : Nat} : wP (kw_V adE adK adV zr b L0 xs lo) wG "MeetingHouse$Uses" 37 7 1 2 (.object "MeetingHouse$Names") := wPb_ok (by decide +kernel) wf_X8_37 (r := "MeetingHouse$Uses") (n := "names") (d := "LMeetingHouse$Names;") (by decide +kernel) (by decide +kernel)
theorem wq_X8_41 {adE adK adV : Nat → Nat} {zr : Nat → Value} {b L0 : Nat} {xs : Nat → Int32} {lo : Nat} : wP (kw_V adE adK adV zr b L0 xs lo) wG "MeetingHouse$Uses" 41 7 4 0 .int := wPb_ok (by decide +kernel) wf_X8_41 (r := "MeetingHouse$Uses") (n := "many") (d := "I") (by decide +kernel) (by decide +kernel)
theorem wq_X8_45 {adE adK adV : Nat → Nat} {zr : Nat → Value} {b L0 : Nat} {xs : Nat → Int32} {lo : Nat} : wP (kw_V adE adK adV zr b L0 xs lo) wG "MeetingHouse$Uses" 45 7 7 0 .int := wPb_ok (by decide +kernel) wf_X8_45 (r := "MeetingHouse$Uses") (n := "markMany") (d := "I") (by decide +kernel) (by decide +kernel)
theorem wq_X8_48 {adE adK adV : Nat → Nat} {zr : Nat → Value} {b L0 : Nat} {xs : Nat → Int32} {lo : Nat} : wP (kw_V adE adK adV zr b L0 xs lo) wG "MeetingHouse$Uses" 48 7 8 0 .int := wPb_ok (by decide +kernel) wf_X8_48 (r := "MeetingHouse$Uses") (n := "touchedMany") (d := "I") (by decide +kernel) (by decide +kernel)
theorem wq_X8_51 {adE adK adV : Nat → Nat} {zr : Nat → Value} {b L0 : Nat} {xs : Nat → Int32} {lo : Nat} : wP (kw_V adE adK adV zr b L0 xs lo) wG "MeetingHouse$Uses" 51 7 10 0 .int := wPb_ok (by decide +kernel) wf_X8_51 (r := "MeetingHouse$Uses") (n := "markedMany") (d := "I") (by decide +kernel) (by decide +kernel)
def zb_X8_look_p0 (E : zE) (L : Nat) (Q : kx_Rs → wS → Prop) (x1 : Option Nat) (x2 : Option Nat) (w : wS) : Prop := zw E (L - 23) kt_M296 [.ref (w_adr E.2.1 7 0), va_rf (x1), .int (-1)] (ws_i (ws_i (ws_i (ws_i (ws_p w 7 0 1 x2) 7 0 4 0) 7 0 7 0) 7 0 8 0) 7 0 10 0) (wk0 (fun w1 => wle (ws_i (ws_i (ws_i (ws_i (ws_p w 7 0 1 x2) 7 0 4 0) 7 0 7 0) 7 0 8 0) 7 0 10 0) w1 → Q (.inl none) w1) (fun e w => Q (.inr e) w))
theorem zt_X8_look_p0 {E : zE} {L : Nat} {Q : kx_Rs → wS → Prop} {x1 : Option Nat} {x2 : Option Nat} {w : wS} (hL : 23 ≤ L) (h : zb_X8_look_p0 E L Q x1 x2 w) : kzE E L kt_M317 0 [(0, .ref (w_adr E.2.1 7 0)), (1, va_rf (x1)), (2, va_rf (x2))] [] w Q := by
  unfold zb_X8_look_p0 at h
  refine kz_aload_n (M := kt_M317) kX8_look_c0.1 rfl ?_
  refine kz_aload_nv (M := kt_M317) (x := x2) kX8_look_c0.2.1 rfl ?_
  refine kz_pfp (M := kt_M317) (n := x2) (c := 7) (o := 0) kX8_look_c0.2.2.1 wq_X8_37 (.inl rfl) ?_
  refine kz_aload_n (M := kt_M317) kX8_look_c0.2.2.2.1 rfl ?_
  refine kz_ic (M := kt_M317) 0 kX8_look_c0.2.2.2.2.1 rfl ?_
  refine kz_pfi (M := kt_M317) (c := 7) (o := 0) kX8_look_c0.2.2.2.2.2.1 wq_X8_41 (.inl rfl) ?_
  refine kz_aload_n (M := kt_M317) kX8_look_c0.2.2.2.2.2.2.1 rfl ?_
  refine kz_ic (M := kt_M317) 0 kX8_look_c0.2.2.2.2.2.2.2.1 rfl ?_
  refine kz_pfi (M := kt_M317) (c := 7) (o := 0) kX8_look_c1.1 wq_X8_45 (.inl rfl) ?_
  refine kz_aload_n (M := kt_M317) kX8_look_c1.2.1 rfl ?_
  refine kz_ic (M := kt_M317) 0 kX8_look_c1.2.2.1 rfl ?_
  refine kz_pfi (M := kt_M317) (c := 7) (o := 0) kX8_look_c1.2.2.2.1 wq_X8_48 (.inl rfl) ?_
  refine kz_aload_n (M := kt_M317) kX8_look_c1.2.2.2.2.1 rfl ?_
  refine kz_ic (M := kt_M317) 0 kX8_look_c1.2.2.2.2.2.1 rfl ?_
  refine kz_pfi (M := kt_M317) (c := 7) (o := 0) kX8_look_c1.2.2.2.2.2.2.1 wq_X8_51 (.inl rfl) ?_
  refine kz_aload_n (M := kt_M317) kX8_look_c1.2.2.2.2.2.2.2.1 rfl ?_
  refine kz_aload_nv (M := kt_M317) (x := x1) kX8_look_c2.1 rfl ?_
  refine kz_ic (M := kt_M317) (-1) kX8_look_c2.2.1 rfl ?_
  refine kz_cv0 (M := kt_M317) (c := 7) (o := 0) (As := [va_rf (x1), .int (-1)]) (rest := []) kX8_look_c2.2.2.1 wl_X8_54 wMv_296 rfl (.inl rfl) rfl (Nat.le_trans (Nat.le_of_ble_eq_true rfl) hL) (by simp [lg_sl, w_cat, z_ci, z_cr, z_cl, z_cn, kt_M296]) (Nat.le_of_ble_eq_true rfl) h (fun w1 hle h => ?_) (fun _ _ _ h => kzx_no rfl h)
  have h := h hle
  exact kz_ret (M := kt_M317) kX8_look_c2.2.2.2.1 rfl h
def zL_X8_acts_p5 (E : zE) (L : Nat) (Q : kx_Rs → wS → Prop) (x1 : Option Nat) (x2 : Int32) (x3 : Option Nat) (w : wS) : Prop := kzE E L kt_M296 5 [(0, .ref (w_adr E.2.1 7 0)), (1, va_rf (x1)), (2, .int x2), (3, va_rf (x3))] [] w Q
def zb_X8_acts_p5 (E : zE) (L : Nat) (Q : kx_Rs → wS → Prop) (x1 : Option Nat) (x2 : Int32) (x3 : Option Nat) (w : wS) : Prop := (if x3 = none then (∃ p1, x1 = some p1 ∧ w_l w E.2.1 14 p1 ∧ zw E (L - 24) kt_M294 [.ref (w_adr E.2.1 7 0), va_rf (w_p w 14 p1 4), .int x2] w (wk0 (fun w2 => wle w w2 → Q (.inl none) w2) (fun e w => Q (.inr e) w))) else zw E (L - 24) kt_M324 [.ref (w_adr E.2.1 7 0), va_rf (x3), .int x2] w (wk0 (fun w4 => wle w w4 → (∃ p6, x3 = some p6 ∧ w_l w4 E.2.1 14 p6 ∧ zL_X8_acts_p5 E L Q x1 x2 (w_p w4 14 p6 7) w4)) (fun e w => Q (.inr e) w)))
theorem zt_X8_acts_p5 {E : zE} {L : Nat} {Q : kx_Rs → wS → Prop} {x1 : Option Nat} {x2 : Int32} {x3 : Option Nat} {w : wS} (hL : 24 ≤ L) (h : zb_X8_acts_p5 E L Q x1 x2 x3 w) : kzE E L kt_M296 5 [(0, .ref (w_adr E.2.1 7 0)), (1, va_rf (x1)), (2, .int x2), (3, va_rf (x3))] [] w Q := by
  unfold zb_X8_acts_p5 at h
  refine kz_aload_nv (M := kt_M296) (x := x3) kX8_acts_c0.2.2.2.1 rfl ?_
  refine kz_ifnull (M := kt_M296) (x := x3) kX8_acts_c0.2.2.2.2.1 (t := 23) rfl h (fun h => ?_) (fun h => ?_)
  · skip
    refine kz_aload_n (M := kt_M296) kX8_acts_c1.2.2.2.2.2.1 rfl ?_
    refine kz_aload_nv (M := kt_M296) (x := x1) kX8_acts_c1.2.2.2.2.2.2.1 rfl ?_
    obtain ⟨p1, hxp1, hlp1, h⟩ := h
    refine kz_nz0 (x := x1) hxp1 ?_
    refine kz_gfp (M := kt_M296) (c := 14) (o := p1) kX8_acts_c1.2.2.2.2.2.2.2.1 wf_X8_70 (.inr (by exact hlp1)) ?_
    refine kz_iload_n (M := kt_M296) kX8_acts_c2.1 rfl ?_
    refine kz_cv0 (M := kt_M296) (c := 7) (o := 0) (As := [va_rf (w_p w 14 p1 4), .int x2]) (rest := []) kX8_acts_c2.2.1 wl_X8_73 wMv_294 rfl (.inl rfl) rfl (Nat.le_trans (Nat.le_of_ble_eq_true rfl) hL) (by simp [lg_sl, w_cat, z_ci, z_cr, z_cl, z_cn, kt_M294]) (Nat.le_of_ble_eq_true rfl) h (fun w2 hle h => ?_) (fun _ _ _ h => kzx_no rfl h)
    have h := h hle
    have hlp1 := w_l_le hlp1 hle
    exact kz_ret (M := kt_M296) kX8_acts_c2.2.2.1 rfl h
  · skip
    refine kz_aload_n (M := kt_M296) kX8_acts_c0.2.2.2.2.2.1 rfl ?_
    refine kz_aload_nv (M := kt_M296) (x := x3) kX8_acts_c0.2.2.2.2.2.2.1 rfl ?_
    refine kz_iload_n (M := kt_M296) kX8_acts_c0.2.2.2.2.2.2.2.1 rfl ?_
    refine kz_cv0 (M := kt_M296) (c := 7) (o := 0) (As := [va_rf (x3), .int x2]) (rest := []) kX8_acts_c1.1 wl_X8_64 wMv_324 rfl (.inl rfl) rfl (Nat.le_trans (Nat.le_of_ble_eq_true rfl) hL) (by simp [lg_sl, w_cat, z_ci, z_cr, z_cl, z_cn, kt_M324]) (Nat.le_of_ble_eq_true rfl) h (fun w4 hle h => ?_) (fun _ _ _ h => kzx_no rfl h)
    have h := h hle
    refine kz_aload_nv (M := kt_M296) (x := x3) kX8_acts_c1.2.1 rfl ?_
    obtain ⟨p6, hxp6, hlp6, h⟩ := h
    refine kz_nz0 (x := x3) hxp6 ?_
    refine kz_gfp (M := kt_M296) (c := 14) (o := p6) kX8_acts_c1.2.2.1 wf_X8_67 (.inr (by exact hlp6)) ?_
    refine kz_stv_n (M := kt_M296) (x := w_p w4 14 p6 7) [(0, .ref (w_adr E.2.1 7 0)), (1, va_rf (x1)), (2, .int x2)] kX8_acts_c1.2.2.2.1 (Nat.le_of_ble_eq_true rfl) ⟨⟨rfl, rfl, .inl rfl⟩, ⟨⟨rfl, rfl, .inl rfl⟩, ⟨⟨rfl, rfl, .inr rfl⟩, trivial⟩⟩⟩ rfl ?_
    refine kz_goto (M := kt_M296) kX8_acts_c1.2.2.2.2.1 (t := 5) rfl ?_
    exact kz_weak [(0, .ref (w_adr E.2.1 7 0)), (1, va_rf (x1)), (2, .int x2), (3, va_rf (w_p w4 14 p6 7))] ⟨rfl, ⟨rfl, ⟨rfl, ⟨rfl, trivial⟩⟩⟩⟩ rfl h
def zb_X8_acts_p0 (E : zE) (L : Nat) (Q : kx_Rs → wS → Prop) (x1 : Option Nat) (x2 : Int32) (w : wS) : Prop := (∃ p1, x1 = some p1 ∧ w_l w E.2.1 14 p1 ∧ zL_X8_acts_p5 E L Q x1 x2 (w_p w 14 p1 3) w)
theorem zt_X8_acts_p0 {E : zE} {L : Nat} {Q : kx_Rs → wS → Prop} {x1 : Option Nat} {x2 : Int32} {w : wS} (hL : 24 ≤ L) (h : zb_X8_acts_p0 E L Q x1 x2 w) : kzE E L kt_M296 0 [(0, .ref (w_adr E.2.1 7 0)), (1, va_rf (x1)), (2, .int x2)] [] w Q := by
  unfold zb_X8_acts_p0 at h
  refine kz_aload_nv (M := kt_M296) (x := x1) kX8_acts_c0.1 rfl ?_
  obtain ⟨p1, hxp1, hlp1, h⟩ := h
  refine kz_nz0 (x := x1) hxp1 ?_
  refine kz_gfp (M := kt_M296) (c := 14) (o := p1) kX8_acts_c0.2.1 wf_X8_58 (.inr (by exact hlp1)) ?_
  refine kz_stv_n (M := kt_M296) (x := w_p w 14 p1 3) [(0, .ref (w_adr E.2.1 7 0)), (1, va_rf (x1)), (2, .int x2)] kX8_acts_c0.2.2.1 (Nat.le_of_ble_eq_true rfl) ⟨⟨rfl, rfl, .inl rfl⟩, ⟨⟨rfl, rfl, .inl rfl⟩, ⟨⟨rfl, rfl, .inr rfl⟩, trivial⟩⟩⟩ rfl ?_
  exact kz_weak [(0, .ref (w_adr E.2.1 7 0)), (1, va_rf (x1)), (2, .int x2), (3, va_rf (w_p w 14 p1 3))] ⟨rfl, ⟨rfl, ⟨rfl, ⟨rfl, trivial⟩⟩⟩⟩ rfl h
def zL_X8_routine_p63 (E : zE) (L : Nat) (Q : kx_Rs → wS → Prop) (x1 : Option Nat) (x3 : Int32) (x4 : Option Nat) (w : wS) : Prop := kzE E L kt_M324 63 [(0, .ref (w_adr E.2.1 7 0)), (1, va_rf (x1)), (3, .int x3), (4, va_rf (x4))] [] w Q
def zb_X8_routine_p104 (E : zE) (L : Nat) (Q : kx_Rs → wS → Prop) (x1 : Option Nat) (w : wS) : Prop := zw E (L - 23) kt_M328 [.ref (w_adr E.2.1 7 0), va_rf (x1)] w (wk0 (fun w1 => wle w w1 → Q (.inl none) w1) (fun e w => Q (.inr e) w))
theorem zt_X8_routine_p104 {E : zE} {L : Nat} {Q : kx_Rs → wS → Prop} {x1 : Option Nat} {w : wS} (hL : 24 ≤ L) (h : zb_X8_routine_p104 E L Q x1 w) : kzE E L kt_M324 104 [(0, .ref (w_adr E.2.1 7 0)), (1, va_rf (x1))] [] w Q := by
  unfold zb_X8_routine_p104 at h
  refine kz_aload_n (M := kt_M324) kX8_routine_c5.2.2.2.2.2.2.2.1 rfl ?_
  refine kz_aload_nv (M := kt_M324) (x := x1) kX8_routine_c6.1 rfl ?_
  refine kz_cv0 (M := kt_M324) (c := 7) (o := 0) (As := [va_rf (x1)]) (rest := []) kX8_routine_c6.2.1 wl_X8_98 wMv_328 rfl (.inl rfl) rfl (Nat.le_trans (Nat.le_of_ble_eq_true rfl) hL) (by simp [lg_sl, w_cat, z_ci, z_cr, z_cl, z_cn, kt_M328]) (Nat.le_of_ble_eq_true rfl) h (fun w1 hle h => ?_) (fun _ _ _ h => kzx_no rfl h)
  have h := h hle
  exact kz_ret (M := kt_M324) kX8_routine_c6.2.2.1 rfl h
def zb_X8_routine_p95 (E : zE) (L : Nat) (Q : kx_Rs → wS → Prop) (x1 : Option Nat) (x3 : Int32) (w : wS) : Prop := (∃ p1, x1 = some p1 ∧ w_l w E.2.1 14 p1 ∧ zw E (L - 23) kt_M296 [.ref (w_adr E.2.1 7 0), va_rf (w_p w 14 p1 4), .int x3] w (wk0 (fun w2 => wle w w2 → zb_X8_routine_p104 E L Q x1 w2) (fun e w => Q (.inr e) w)))
theorem zt_X8_routine_p95 {E : zE} {L : Nat} {Q : kx_Rs → wS → Prop} {x1 : Option Nat} {x3 : Int32} {w : wS} (hL : 24 ≤ L) (h : zb_X8_routine_p95 E L Q x1 x3 w) : kzE E L kt_M324 95 [(0, .ref (w_adr E.2.1 7 0)), (1, va_rf (x1)), (3, .int x3)] [] w Q := by
  unfold zb_X8_routine_p95 at h
  refine kz_aload_n (M := kt_M324) kX8_routine_c5.2.2.1 rfl ?_
  refine kz_aload_nv (M := kt_M324) (x := x1) kX8_routine_c5.2.2.2.1 rfl ?_
  obtain ⟨p1, hxp1, hlp1, h⟩ := h
  refine kz_nz0 (x := x1) hxp1 ?_
  refine kz_gfp (M := kt_M324) (c := 14) (o := p1) kX8_routine_c5.2.2.2.2.1 wf_X8_70 (.inr (by exact hlp1)) ?_
  refine kz_iload_n (M := kt_M324) kX8_routine_c5.2.2.2.2.2.1 rfl ?_
  refine kz_cv0 (M := kt_M324) (c := 7) (o := 0) (As := [va_rf (w_p w 14 p1 4), .int x3]) (rest := []) kX8_routine_c5.2.2.2.2.2.2.1 wl_X8_54 wMv_296 rfl (.inl rfl) rfl (Nat.le_trans (Nat.le_of_ble_eq_true rfl) hL) (by simp [lg_sl, w_cat, z_ci, z_cr, z_cl, z_cn, kt_M296]) (Nat.le_of_ble_eq_true rfl) h (fun w2 hle h => ?_) (fun _ _ _ h => kzx_no rfl h)
  have h := h hle
  have hlp1 := w_l_le hlp1 hle
  exact kz_weak [(0, .ref (w_adr E.2.1 7 0)), (1, va_rf (x1))] ⟨rfl, ⟨rfl, trivial⟩⟩ rfl (zt_X8_routine_p104 hL  h)
def zb_X8_routine_p63 (E : zE) (L : Nat) (Q : kx_Rs → wS → Prop) (x1 : Option Nat) (x3 : Int32) (x4 : Option Nat) (w : wS) : Prop := (if x4 = none then zb_X8_routine_p95 E L Q x1 x3 w else (∃ p1, x1 = some p1 ∧ w_l w E.2.1 14 p1 ∧ (if ¬ w_p w 14 p1 0 = some (E.1.1 11) then zb_X8_routine_p95 E L Q x1 x3 w else zw E (L - 24) kt_M324 [.ref (w_adr E.2.1 7 0), va_rf (x4), .int x3] w (wk0 (fun w2 => wle w w2 → (∃ p4, x4 = some p4 ∧ w_l w2 E.2.1 14 p4 ∧ zL_X8_routine_p63 E L Q x1 x3 (w_p w2 14 p4 7) w2)) (fun e w => Q (.inr e) w)))))
theorem zt_X8_routine_p63 {E : zE} {L : Nat} {Q : kx_Rs → wS → Prop} {x1 : Option Nat} {x3 : Int32} {x4 : Option Nat} {w : wS} (hL : 24 ≤ L) (h : zb_X8_routine_p63 E L Q x1 x3 x4 w) : kzE E L kt_M324 63 [(0, .ref (w_adr E.2.1 7 0)), (1, va_rf (x1)), (3, .int x3), (4, va_rf (x4))] [] w Q := by
  unfold zb_X8_routine_p63 at h
  refine kz_aloadv (M := kt_M324) (x := x4) kX8_routine_c3.2.2.2.2.1 rfl ?_
  refine kz_ifnull (M := kt_M324) (x := x4) kX8_routine_c3.2.2.2.2.2.1 (t := 95) rfl h (fun h => ?_) (fun h => ?_)
  · skip
    exact kz_weak [(0, .ref (w_adr E.2.1 7 0)), (1, va_rf (x1)), (3, .int x3)] ⟨rfl, ⟨rfl, ⟨rfl, trivial⟩⟩⟩ rfl (zt_X8_routine_p95 hL  h)
  · skip
    refine kz_aload_nv (M := kt_M324) (x := x1) kX8_routine_c3.2.2.2.2.2.2.1 rfl ?_
    obtain ⟨p1, hxp1, hlp1, h⟩ := h
    refine kz_nz0 (x := x1) hxp1 ?_
    refine kz_gfp (M := kt_M324) (c := 14) (o := p1) kX8_routine_c3.2.2.2.2.2.2.2.1 wf_X8_76 (.inr (by exact hlp1)) ?_
    refine kz_getsE (M := kt_M324) (v := va_rf (some (E.1.1 11))) kX8_routine_c4.1 zs_X8_85 ?_
    refine kz_acmp_ne (M := kt_M324) (x := w_p w 14 p1 0) (y := some (E.1.1 11)) kX8_routine_c4.2.1 (t := 95) rfl h (fun h => ?_) (fun h => ?_)
    · skip
      exact kz_weak [(0, .ref (w_adr E.2.1 7 0)), (1, va_rf (x1)), (3, .int x3)] ⟨rfl, ⟨rfl, ⟨rfl, trivial⟩⟩⟩ rfl (zt_X8_routine_p95 hL  h)
    · skip
      refine kz_aload_n (M := kt_M324) kX8_routine_c4.2.2.1 rfl ?_
      refine kz_aloadv (M := kt_M324) (x := x4) kX8_routine_c4.2.2.2.1 rfl ?_
      refine kz_iload_n (M := kt_M324) kX8_routine_c4.2.2.2.2.1 rfl ?_
      refine kz_cv0 (M := kt_M324) (c := 7) (o := 0) (As := [va_rf (x4), .int x3]) (rest := []) kX8_routine_c4.2.2.2.2.2.1 wl_X8_64 wMv_324 rfl (.inl rfl) rfl (Nat.le_trans (Nat.le_of_ble_eq_true rfl) hL) (by simp [lg_sl, w_cat, z_ci, z_cr, z_cl, z_cn, kt_M324]) (Nat.le_of_ble_eq_true rfl) h (fun w2 hle h => ?_) (fun _ _ _ h => kzx_no rfl h)
      have h := h hle
      have hlp1 := w_l_le hlp1 hle
      refine kz_aloadv (M := kt_M324) (x := x4) kX8_routine_c4.2.2.2.2.2.2.1 rfl ?_
      obtain ⟨p4, hxp4, hlp4, h⟩ := h
      refine kz_nz0 (x := x4) hxp4 ?_
      refine kz_gfp (M := kt_M324) (c := 14) (o := p4) kX8_routine_c4.2.2.2.2.2.2.2.1 wf_X8_67 (.inr (by exact hlp4)) ?_
      refine kz_stv (M := kt_M324) (x := w_p w2 14 p4 7) [(0, .ref (w_adr E.2.1 7 0)), (1, va_rf (x1)), (3, .int x3)] kX8_routine_c5.1 (Nat.le_of_ble_eq_true rfl) ⟨⟨rfl, rfl, .inl rfl⟩, ⟨⟨rfl, rfl, .inl rfl⟩, ⟨⟨rfl, rfl, .inr rfl⟩, trivial⟩⟩⟩ rfl ?_
      refine kz_goto (M := kt_M324) kX8_routine_c5.2.1 (t := 63) rfl ?_
      exact kz_weak [(0, .ref (w_adr E.2.1 7 0)), (1, va_rf (x1)), (3, .int x3), (4, va_rf (w_p w2 14 p4 7))] ⟨rfl, ⟨rfl, ⟨rfl, ⟨rfl, trivial⟩⟩⟩⟩ rfl h
def zb_X8_routine_p57 (E : zE) (L : Nat) (Q : kx_Rs → wS → Prop) (x1 : Option Nat) (x3 : Int32) (w : wS) : Prop := (∃ p1, x1 = some p1 ∧ w_l w E.2.1 14 p1 ∧ zL_X8_routine_p63 E L Q x1 x3 (w_p w 14 p1 5) w)
theorem zt_X8_routine_p57 {E : zE} {L : Nat} {Q : kx_Rs → wS → Prop} {x1 : Option Nat} {x3 : Int32} {w : wS} (hL : 24 ≤ L) (h : zb_X8_routine_p57 E L Q x1 x3 w) : kzE E L kt_M324 57 [(0, .ref (w_adr E.2.1 7 0)), (1, va_rf (x1)), (3, .int x3)] [] w Q := by
  unfold zb_X8_routine_p57 at h
  refine kz_aload_nv (M := kt_M324) (x := x1) kX8_routine_c3.2.1 rfl ?_
  obtain ⟨p1, hxp1, hlp1, h⟩ := h
  refine kz_nz0 (x := x1) hxp1 ?_
  refine kz_gfp (M := kt_M324) (c := 14) (o := p1) kX8_routine_c3.2.2.1 wf_X8_95 (.inr (by exact hlp1)) ?_
  refine kz_stv (M := kt_M324) (x := w_p w 14 p1 5) [(0, .ref (w_adr E.2.1 7 0)), (1, va_rf (x1)), (3, .int x3)] kX8_routine_c3.2.2.2.1 (Nat.le_of_ble_eq_true rfl) ⟨⟨rfl, rfl, .inl rfl⟩, ⟨⟨rfl, rfl, .inl rfl⟩, ⟨⟨rfl, rfl, .inr rfl⟩, trivial⟩⟩⟩ rfl ?_
  exact kz_weak [(0, .ref (w_adr E.2.1 7 0)), (1, va_rf (x1)), (3, .int x3), (4, va_rf (w_p w 14 p1 5))] ⟨rfl, ⟨rfl, ⟨rfl, ⟨rfl, trivial⟩⟩⟩⟩ rfl h
def zb_X8_routine_p39 (E : zE) (L : Nat) (Q : kx_Rs → wS → Prop) (x1 : Option Nat) (y0 : Int32) (w : wS) : Prop := (∃ p1, x1 = some p1 ∧ w_l w E.2.1 14 p1 ∧ (if w_p w 14 p1 0 = some (E.1.1 33) then zb_X8_routine_p57 E L Q x1 y0 w else (if ¬ w_i w 14 p1 11 = 0 then zb_X8_routine_p104 E L Q x1 w else zb_X8_routine_p57 E L Q x1 y0 w)))
theorem zt_X8_routine_p39 {E : zE} {L : Nat} {Q : kx_Rs → wS → Prop} {x1 : Option Nat} {y0 : Int32} {w : wS} (hL : 24 ≤ L) (h : zb_X8_routine_p39 E L Q x1 y0 w) : kzE E L kt_M324 39 [(0, .ref (w_adr E.2.1 7 0)), (1, va_rf (x1))] [.int y0] w Q := by
  unfold zb_X8_routine_p39 at h
  refine kz_sti_n (M := kt_M324) [(0, .ref (w_adr E.2.1 7 0)), (1, va_rf (x1))] kX8_routine_c2.2.1 (Nat.le_of_ble_eq_true rfl) ⟨⟨rfl, rfl, .inl rfl⟩, ⟨⟨rfl, rfl, .inl rfl⟩, trivial⟩⟩ rfl ?_
  refine kz_aload_nv (M := kt_M324) (x := x1) kX8_routine_c2.2.2.1 rfl ?_
  obtain ⟨p1, hxp1, hlp1, h⟩ := h
  refine kz_nz0 (x := x1) hxp1 ?_
  refine kz_gfp (M := kt_M324) (c := 14) (o := p1) kX8_routine_c2.2.2.2.1 wf_X8_76 (.inr (by exact hlp1)) ?_
  refine kz_getsE (M := kt_M324) (v := va_rf (some (E.1.1 33))) kX8_routine_c2.2.2.2.2.1 zs_X8_80 ?_
  refine kz_acmp_eq (M := kt_M324) (x := w_p w 14 p1 0) (y := some (E.1.1 33)) kX8_routine_c2.2.2.2.2.2.1 (t := 57) rfl h (fun h => ?_) (fun h => ?_)
  · skip
    exact kz_weak [(0, .ref (w_adr E.2.1 7 0)), (1, va_rf (x1)), (3, .int y0)] ⟨rfl, ⟨rfl, ⟨rfl, trivial⟩⟩⟩ rfl (zt_X8_routine_p57 hL  h)
  · skip
    refine kz_aload_nv (M := kt_M324) (x := x1) kX8_routine_c2.2.2.2.2.2.2.1 rfl ?_
    refine kz_nz0 (x := x1) hxp1 ?_
    refine kz_gfi (M := kt_M324) (c := 14) (o := p1) kX8_routine_c2.2.2.2.2.2.2.2.1 wf_X8_91 (.inr (by exact hlp1)) ?_
    refine kz_if_ne (M := kt_M324) kX8_routine_c3.1 (t := 104) rfl h (fun h => ?_) (fun h => ?_)
    · skip
      exact kz_weak [(0, .ref (w_adr E.2.1 7 0)), (1, va_rf (x1))] ⟨rfl, ⟨rfl, trivial⟩⟩ rfl (zt_X8_routine_p104 hL  h)
    · skip
      exact kz_weak [(0, .ref (w_adr E.2.1 7 0)), (1, va_rf (x1)), (3, .int y0)] ⟨rfl, ⟨rfl, ⟨rfl, trivial⟩⟩⟩ rfl (zt_X8_routine_p57 hL  h)
def zb_X8_routine_p21 (E : zE) (L : Nat) (Q : kx_Rs → wS → Prop) (x1 : Option Nat) (x2 : Int32) (w : wS) : Prop := (∃ p1, x1 = some p1 ∧ w_l w E.2.1 14 p1 ∧ (if ¬ w_p w 14 p1 0 = some (E.1.1 11) then zb_X8_routine_p39 E L Q x1 x2 w else zb_X8_routine_p39 E L Q x1 (w_i w 14 p1 10) w))
theorem zt_X8_routine_p21 {E : zE} {L : Nat} {Q : kx_Rs → wS → Prop} {x1 : Option Nat} {x2 : Int32} {w : wS} (hL : 24 ≤ L) (h : zb_X8_routine_p21 E L Q x1 x2 w) : kzE E L kt_M324 21 [(0, .ref (w_adr E.2.1 7 0)), (1, va_rf (x1)), (2, .int x2)] [] w Q := by
  unfold zb_X8_routine_p21 at h
  refine kz_aload_nv (M := kt_M324) (x := x1) kX8_routine_c1.2.1 rfl ?_
  obtain ⟨p1, hxp1, hlp1, h⟩ := h
  refine kz_nz0 (x := x1) hxp1 ?_
  refine kz_gfp (M := kt_M324) (c := 14) (o := p1) kX8_routine_c1.2.2.1 wf_X8_76 (.inr (by exact hlp1)) ?_
  refine kz_getsE (M := kt_M324) (v := va_rf (some (E.1.1 11))) kX8_routine_c1.2.2.2.1 zs_X8_85 ?_
  refine kz_acmp_ne (M := kt_M324) (x := w_p w 14 p1 0) (y := some (E.1.1 11)) kX8_routine_c1.2.2.2.2.1 (t := 38) rfl h (fun h => ?_) (fun h => ?_)
  · skip
    refine kz_iload_n (M := kt_M324) kX8_routine_c2.1 rfl ?_
    exact kz_weak [(0, .ref (w_adr E.2.1 7 0)), (1, va_rf (x1))] ⟨rfl, ⟨rfl, trivial⟩⟩ rfl (zt_X8_routine_p39 hL  h)
  · skip
    refine kz_aload_nv (M := kt_M324) (x := x1) kX8_routine_c1.2.2.2.2.2.1 rfl ?_
    refine kz_nz0 (x := x1) hxp1 ?_
    refine kz_gfi (M := kt_M324) (c := 14) (o := p1) kX8_routine_c1.2.2.2.2.2.2.1 wf_X8_88 (.inr (by exact hlp1)) ?_
    refine kz_goto (M := kt_M324) kX8_routine_c1.2.2.2.2.2.2.2.1 (t := 39) rfl ?_
    exact kz_weak [(0, .ref (w_adr E.2.1 7 0)), (1, va_rf (x1))] ⟨rfl, ⟨rfl, trivial⟩⟩ rfl (zt_X8_routine_p39 hL  h)
def zb_X8_routine_p0 (E : zE) (L : Nat) (Q : kx_Rs → wS → Prop) (x1 : Option Nat) (x2 : Int32) (w : wS) : Prop := (∃ p1, x1 = some p1 ∧ w_l w E.2.1 14 p1 ∧ (if w_p w 14 p1 0 = some (E.1.1 33) then zb_X8_routine_p21 E L Q x1 x2 w else (if w_p w 14 p1 0 = some (E.1.1 11) then zb_X8_routine_p21 E L Q x1 x2 w else Q (.inl none) w)))
theorem zt_X8_routine_p0 {E : zE} {L : Nat} {Q : kx_Rs → wS → Prop} {x1 : Option Nat} {x2 : Int32} {w : wS} (hL : 24 ≤ L) (h : zb_X8_routine_p0 E L Q x1 x2 w) : kzE E L kt_M324 0 [(0, .ref (w_adr E.2.1 7 0)), (1, va_rf (x1)), (2, .int x2)] [] w Q := by
  unfold zb_X8_routine_p0 at h
  refine kz_aload_nv (M := kt_M324) (x := x1) kX8_routine_c0.1 rfl ?_
  obtain ⟨p1, hxp1, hlp1, h⟩ := h
  refine kz_nz0 (x := x1) hxp1 ?_
  refine kz_gfp (M := kt_M324) (c := 14) (o := p1) kX8_routine_c0.2.1 wf_X8_76 (.inr (by exact hlp1)) ?_
  refine kz_getsE (M := kt_M324) (v := va_rf (some (E.1.1 33))) kX8_routine_c0.2.2.1 zs_X8_80 ?_
  refine kz_acmp_eq (M := kt_M324) (x := w_p w 14 p1 0) (y := some (E.1.1 33)) kX8_routine_c0.2.2.2.1 (t := 21) rfl h (fun h => ?_) (fun h => ?_)
  · skip
    exact kz_weak [(0, .ref (w_adr E.2.1 7 0)), (1, va_rf (x1)), (2, .int x2)] ⟨rfl, ⟨rfl, ⟨rfl, trivial⟩⟩⟩ rfl (zt_X8_routine_p21 hL  h)
  · skip
    refine kz_aload_nv (M := kt_M324) (x := x1) kX8_routine_c0.2.2.2.2.1 rfl ?_
    refine kz_nz0 (x := x1) hxp1 ?_
    refine kz_gfp (M := kt_M324) (c := 14) (o := p1) kX8_routine_c0.2.2.2.2.2.1 wf_X8_76 (.inr (by exact hlp1)) ?_
    refine kz_getsE (M := kt_M324) (v := va_rf (some (E.1.1 11))) kX8_routine_c0.2.2.2.2.2.2.1 zs_X8_85 ?_
    refine kz_acmp_eq (M := kt_M324) (x := w_p w 14 p1 0) (y := some (E.1.1 11)) kX8_routine_c0.2.2.2.2.2.2.2.1 (t := 21) rfl h (fun h => ?_) (fun h => ?_)
    · skip
      exact kz_weak [(0, .ref (w_adr E.2.1 7 0)), (1, va_rf (x1)), (2, .int x2)] ⟨rfl, ⟨rfl, ⟨rfl, trivial⟩⟩⟩ rfl (zt_X8_routine_p21 hL  h)
    · skip
      exact kz_ret (M := kt_M324) kX8_routine_c1.1 rfl h
def zL_X8_summary_p186 (E : zE) (L : Nat) (Q : kx_Rs → wS → Prop) (x1 : Option Nat) (x2 : Option Nat) (x3 : Option Nat) (w : wS) : Prop := kzE E L kt_M328 186 [(0, .ref (w_adr E.2.1 7 0)), (1, va_rf (x1)), (2, va_rf (x2)), (3, va_rf (x3))] [] w Q
def zL_X8_summary_p129 (E : zE) (L : Nat) (Q : kx_Rs → wS → Prop) (x1 : Option Nat) (x2 : Option Nat) (x3 : Option Nat) (w : wS) : Prop := kzE E L kt_M328 129 [(0, .ref (w_adr E.2.1 7 0)), (1, va_rf (x1)), (2, va_rf (x2)), (3, va_rf (x3))] [] w Q
def zL_X8_summary_p70 (E : zE) (L : Nat) (Q : kx_Rs → wS → Prop) (x1 : Option Nat) (x2 : Option Nat) (w : wS) : Prop := kzE E L kt_M328 70 [(0, .ref (w_adr E.2.1 7 0)), (1, va_rf (x1)), (2, va_rf (x2))] [] w Q
def zb_X8_summary_p241 (E : zE) (L : Nat) (Q : kx_Rs → wS → Prop) (x1 : Option Nat) (x2 : Option Nat) (x3 : Option Nat) (w : wS) : Prop := (∃ p1, x3 = some p1 ∧ w_l w E.2.1 15 p1 ∧ zL_X8_summary_p186 E L Q x1 x2 (w_p w 15 p1 4) w)
theorem zt_X8_summary_p241 {E : zE} {L : Nat} {Q : kx_Rs → wS → Prop} {x1 : Option Nat} {x2 : Option Nat} {x3 : Option Nat} {w : wS} (hL : 23 ≤ L) (h : zb_X8_summary_p241 E L Q x1 x2 x3 w) : kzE E L kt_M328 241 [(0, .ref (w_adr E.2.1 7 0)), (1, va_rf (x1)), (2, va_rf (x2)), (3, va_rf (x3))] [] w Q := by
  unfold zb_X8_summary_p241 at h
  refine kz_aload_nv (M := kt_M328) (x := x3) kX8_summary_c15.2.2.2.1 rfl ?_
  obtain ⟨p1, hxp1, hlp1, h⟩ := h
  refine kz_nz0 (x := x3) hxp1 ?_
  refine kz_gfp (M := kt_M328) (c := 15) (o := p1) kX8_summary_c15.2.2.2.2.1 wf_X8_145 (.inr (by exact hlp1)) ?_
  refine kz_stv_n (M := kt_M328) (x := w_p w 15 p1 4) [(0, .ref (w_adr E.2.1 7 0)), (1, va_rf (x1)), (2, va_rf (x2))] kX8_summary_c15.2.2.2.2.2.1 (Nat.le_of_ble_eq_true rfl) ⟨⟨rfl, rfl, .inl rfl⟩, ⟨⟨rfl, rfl, .inl rfl⟩, ⟨⟨rfl, rfl, .inr (w_cat (x2))⟩, trivial⟩⟩⟩ rfl ?_
  refine kz_goto (M := kt_M328) kX8_summary_c15.2.2.2.2.2.2.1 (t := 186) rfl ?_
  exact kz_weak [(0, .ref (w_adr E.2.1 7 0)), (1, va_rf (x1)), (2, va_rf (x2)), (3, va_rf (w_p w 15 p1 4))] ⟨rfl, ⟨rfl, ⟨rfl, ⟨rfl, trivial⟩⟩⟩⟩ rfl h
def zb_X8_summary_p186 (E : zE) (L : Nat) (Q : kx_Rs → wS → Prop) (x1 : Option Nat) (x2 : Option Nat) (x3 : Option Nat) (w : wS) : Prop := (if x3 = none then (∃ p1, x2 = some p1 ∧ w_l w E.2.1 15 p1 ∧ zw E (L - 20) kt_M322 [.ref (w_adr E.2.1 7 0)] (ws_i (ws_i w 15 p1 28 (w_i w 7 0 4)) 7 0 18 0) (wk0 (fun w2 => wle (ws_i (ws_i w 15 p1 28 (w_i w 7 0 4)) 7 0 18 0) w2 → Q (.inl none) w2) (fun e w => Q (.inr e) w))) else (∃ p4, x3 = some p4 ∧ w_l w E.2.1 15 p4 ∧ (∃ p5, x1 = some p5 ∧ w_l w E.2.1 14 p5 ∧ (if w_i w 14 p5 10 ≤ w_i w 15 p4 3 then zb_X8_summary_p241 E L Q x1 x2 x3 w else (if w_i w 15 p4 29 = (-1) then zb_X8_summary_p241 E L Q x1 x2 x3 w else (kx_inb (w_i w 15 p4 29) (w_n w 7 0 5) = true ∧ (if ((w_a w 7 0 5 (w_i w 15 p4 29).toNatClampNeg) &&& 15) = 0 then zb_X8_summary_p241 E L Q x1 x2 x3 w else (kx_inb (w_i w 15 p4 29) (w_n w 7 0 5) = true ∧ zw E (L - 23) kt_M297 [.ref (w_adr E.2.1 7 0), va_rf (x3), .int ((w_a w 7 0 5 (w_i w 15 p4 29).toNatClampNeg) &&& 15)] w (wk0 (fun w6 => wle w w6 → zb_X8_summary_p241 E L Q x1 x2 x3 w6) (fun e w => Q (.inr e) w))))))))))
theorem zt_X8_summary_p186 {E : zE} {L : Nat} {Q : kx_Rs → wS → Prop} {x1 : Option Nat} {x2 : Option Nat} {x3 : Option Nat} {w : wS} (hL : 23 ≤ L) (h : zb_X8_summary_p186 E L Q x1 x2 x3 w) : kzE E L kt_M328 186 [(0, .ref (w_adr E.2.1 7 0)), (1, va_rf (x1)), (2, va_rf (x2)), (3, va_rf (x3))] [] w Q := by
  unfold zb_X8_summary_p186 at h
  refine kz_aload_nv (M := kt_M328) (x := x3) kX8_summary_c11.2.2.2.2.2.2.1 rfl ?_
  refine kz_ifnull (M := kt_M328) (x := x3) kX8_summary_c11.2.2.2.2.2.2.2.1 (t := 249) rfl h (fun h => ?_) (fun h => ?_)
  · skip
    refine kz_aload_nv (M := kt_M328) (x := x2) kX8_summary_c15.2.2.2.2.2.2.2.1 rfl ?_
    refine kz_aload_n (M := kt_M328) kX8_summary_c16.1 rfl ?_
    refine kz_gfi (M := kt_M328) (c := 7) (o := 0) kX8_summary_c16.2.1 wf_X8_41 (.inl rfl) ?_
    obtain ⟨p1, hxp1, hlp1, h⟩ := h
    refine kz_nz1 (x := x2) hxp1 ?_
    refine kz_pfi (M := kt_M328) (c := 15) (o := p1) kX8_summary_c16.2.2.1 wq_X8_155 (.inr (by exact hlp1)) ?_
    refine kz_aload_n (M := kt_M328) kX8_summary_c16.2.2.2.1 rfl ?_
    refine kz_ic (M := kt_M328) 0 kX8_summary_c16.2.2.2.2.1 rfl ?_
    refine kz_pfz (M := kt_M328) (c := 7) (o := 0) kX8_summary_c16.2.2.2.2.2.1 wq_X8_105 (.inl rfl) (by decide) ?_
    refine kz_aload_n (M := kt_M328) kX8_summary_c16.2.2.2.2.2.2.1 rfl ?_
    refine kz_cv0 (M := kt_M328) (c := 7) (o := 0) (As := []) (rest := []) kX8_summary_c16.2.2.2.2.2.2.2.1 wl_X8_158 wMv_322 rfl (.inl rfl) rfl (Nat.le_trans (Nat.le_of_ble_eq_true rfl) hL) (Nat.le_of_ble_eq_true rfl) (Nat.le_of_ble_eq_true rfl) h (fun w2 hle h => ?_) (fun _ _ _ h => kzx_no rfl h)
    have h := h hle
    have hlp1 := w_l_le hlp1 hle
    exact kz_ret (M := kt_M328) kX8_summary_c17.1 rfl h
  · skip
    refine kz_aload_nv (M := kt_M328) (x := x3) kX8_summary_c12.1 rfl ?_
    obtain ⟨p4, hxp4, hlp4, h⟩ := h
    refine kz_nz0 (x := x3) hxp4 ?_
    refine kz_gfi (M := kt_M328) (c := 15) (o := p4) kX8_summary_c12.2.1 wf_X8_148 (.inr (by exact hlp4)) ?_
    refine kz_aload_nv (M := kt_M328) (x := x1) kX8_summary_c12.2.2.1 rfl ?_
    obtain ⟨p5, hxp5, hlp5, h⟩ := h
    refine kz_nz0 (x := x1) hxp5 ?_
    refine kz_gfi (M := kt_M328) (c := 14) (o := p5) kX8_summary_c12.2.2.2.1 wf_X8_88 (.inr (by exact hlp5)) ?_
    refine kz_icmp_ge (M := kt_M328) kX8_summary_c12.2.2.2.2.1 (t := 241) rfl h (fun h => ?_) (fun h => ?_)
    · skip
      exact kz_weak [(0, .ref (w_adr E.2.1 7 0)), (1, va_rf (x1)), (2, va_rf (x2)), (3, va_rf (x3))] ⟨rfl, ⟨rfl, ⟨rfl, ⟨rfl, trivial⟩⟩⟩⟩ rfl (zt_X8_summary_p241 hL  h)
    · skip
      refine kz_aload_nv (M := kt_M328) (x := x3) kX8_summary_c12.2.2.2.2.2.1 rfl ?_
      refine kz_nz0 (x := x3) hxp4 ?_
      refine kz_gfi (M := kt_M328) (c := 15) (o := p4) kX8_summary_c12.2.2.2.2.2.2.1 wf_X8_141 (.inr (by exact hlp4)) ?_
      refine kz_ic (M := kt_M328) (-1) kX8_summary_c12.2.2.2.2.2.2.2.1 rfl ?_
      refine kz_icmp_eq (M := kt_M328) kX8_summary_c13.1 (t := 241) rfl h (fun h => ?_) (fun h => ?_)
      · skip
        exact kz_weak [(0, .ref (w_adr E.2.1 7 0)), (1, va_rf (x1)), (2, va_rf (x2)), (3, va_rf (x3))] ⟨rfl, ⟨rfl, ⟨rfl, ⟨rfl, trivial⟩⟩⟩⟩ rfl (zt_X8_summary_p241 hL  h)
      · skip
        refine kz_aload_n (M := kt_M328) kX8_summary_c13.2.1 rfl ?_
        refine kz_gfa (M := kt_M328) (c := 7) (o := 0) kX8_summary_c13.2.2.1 wf_X8_21 (.inl rfl) ?_
        refine kz_aload_nv (M := kt_M328) (x := x3) kX8_summary_c13.2.2.2.1 rfl ?_
        refine kz_nz0 (x := x3) hxp4 ?_
        refine kz_gfi (M := kt_M328) (c := 15) (o := p4) kX8_summary_c13.2.2.2.2.1 wf_X8_141 (.inr (by exact hlp4)) ?_
        refine kz_iald (M := kt_M328) (c := 7) (o := 0) (k := 5) (a := (w_d w 7 0 5)) kX8_summary_c13.2.2.2.2.2.1 ow_7_0_5 oa_7_0_5 ot_0 h (fun h => ?_)
        refine kz_bi (M := kt_M328) 15 kX8_summary_c13.2.2.2.2.2.2.1 rfl ?_
        refine kz_iand (M := kt_M328) kX8_summary_c13.2.2.2.2.2.2.2.1 ?_
        refine kz_if_eq (M := kt_M328) kX8_summary_c14.1 (t := 241) rfl h (fun h => ?_) (fun h => ?_)
        · skip
          exact kz_weak [(0, .ref (w_adr E.2.1 7 0)), (1, va_rf (x1)), (2, va_rf (x2)), (3, va_rf (x3))] ⟨rfl, ⟨rfl, ⟨rfl, ⟨rfl, trivial⟩⟩⟩⟩ rfl (zt_X8_summary_p241 hL  h)
        · skip
          refine kz_aload_n (M := kt_M328) kX8_summary_c14.2.1 rfl ?_
          refine kz_aload_nv (M := kt_M328) (x := x3) kX8_summary_c14.2.2.1 rfl ?_
          refine kz_aload_n (M := kt_M328) kX8_summary_c14.2.2.2.1 rfl ?_
          refine kz_gfa (M := kt_M328) (c := 7) (o := 0) kX8_summary_c14.2.2.2.2.1 wf_X8_21 (.inl rfl) ?_
          refine kz_aload_nv (M := kt_M328) (x := x3) kX8_summary_c14.2.2.2.2.2.1 rfl ?_
          refine kz_nz0 (x := x3) hxp4 ?_
          refine kz_gfi (M := kt_M328) (c := 15) (o := p4) kX8_summary_c14.2.2.2.2.2.2.1 wf_X8_141 (.inr (by exact hlp4)) ?_
          refine kz_iald (M := kt_M328) (c := 7) (o := 0) (k := 5) (a := (w_d w 7 0 5)) kX8_summary_c14.2.2.2.2.2.2.2.1 ow_7_0_5 oa_7_0_5 ot_0 h (fun h => ?_)
          refine kz_bi (M := kt_M328) 15 kX8_summary_c15.1 rfl ?_
          refine kz_iand (M := kt_M328) kX8_summary_c15.2.1 ?_
          refine kz_cv0 (M := kt_M328) (c := 7) (o := 0) (As := [va_rf (x3), .int ((w_a w 7 0 5 (w_i w 15 p4 29).toNatClampNeg) &&& 15)]) (rest := []) kX8_summary_c15.2.2.1 wl_X8_151 wMv_297 rfl (.inl rfl) rfl (Nat.le_trans (Nat.le_of_ble_eq_true rfl) hL) (by simp [lg_sl, w_cat, z_ci, z_cr, z_cl, z_cn, kt_M297]) (Nat.le_of_ble_eq_true rfl) h (fun w6 hle h => ?_) (fun _ _ _ h => kzx_no rfl h)
          have h := h hle
          have hlp4 := w_l_le hlp4 hle
          have hlp5 := w_l_le hlp5 hle
          exact kz_weak [(0, .ref (w_adr E.2.1 7 0)), (1, va_rf (x1)), (2, va_rf (x2)), (3, va_rf (x3))] ⟨rfl, ⟨rfl, ⟨rfl, ⟨rfl, trivial⟩⟩⟩⟩ rfl (zt_X8_summary_p241 hL  h)
def zb_X8_summary_p167 (E : zE) (L : Nat) (Q : kx_Rs → wS → Prop) (x1 : Option Nat) (x2 : Option Nat) (x3 : Option Nat) (y0 : Int32) (y1 : Option Nat) (w : wS) : Prop := (∃ p1, y1 = some p1 ∧ w_l w E.2.1 15 p1 ∧ (∃ p2, x3 = some p2 ∧ w_l (ws_i w 15 p1 30 y0) E.2.1 14 p2 ∧ zL_X8_summary_p129 E L Q x1 x2 (w_p w 14 p2 7) (ws_i w 15 p1 30 y0)))
theorem zt_X8_summary_p167 {E : zE} {L : Nat} {Q : kx_Rs → wS → Prop} {x1 : Option Nat} {x2 : Option Nat} {x3 : Option Nat} {y0 : Int32} {y1 : Option Nat} {w : wS} (hL : 23 ≤ L) (h : zb_X8_summary_p167 E L Q x1 x2 x3 y0 y1 w) : kzE E L kt_M328 167 [(0, .ref (w_adr E.2.1 7 0)), (1, va_rf (x1)), (2, va_rf (x2)), (3, va_rf (x3))] [.int y0, va_rf (y1)] w Q := by
  unfold zb_X8_summary_p167 at h
  obtain ⟨p1, hxp1, hlp1, h⟩ := h
  refine kz_nz1 (x := y1) hxp1 ?_
  refine kz_pfi (M := kt_M328) (c := 15) (o := p1) kX8_summary_c10.2.2.2.2.2.1 wq_X8_143 (.inr (by exact hlp1)) ?_
  refine kz_aload_nv (M := kt_M328) (x := x3) kX8_summary_c10.2.2.2.2.2.2.1 rfl ?_
  obtain ⟨p2, hxp2, hlp2, h⟩ := h
  refine kz_nz0 (x := x3) hxp2 ?_
  refine kz_gfpR (M := kt_M328) (c := 14) (o := p2) (w_p w 14 p2 7) kX8_summary_c10.2.2.2.2.2.2.2.1 wf_X8_67 (.inr (by exact hlp2)) rd_p_i ?_
  refine kz_stv_n (M := kt_M328) (x := w_p w 14 p2 7) [(0, .ref (w_adr E.2.1 7 0)), (1, va_rf (x1)), (2, va_rf (x2))] kX8_summary_c11.1 (Nat.le_of_ble_eq_true rfl) ⟨⟨rfl, rfl, .inl rfl⟩, ⟨⟨rfl, rfl, .inl rfl⟩, ⟨⟨rfl, rfl, .inr (w_cat (x2))⟩, trivial⟩⟩⟩ rfl ?_
  refine kz_goto (M := kt_M328) kX8_summary_c11.2.1 (t := 129) rfl ?_
  exact kz_weak [(0, .ref (w_adr E.2.1 7 0)), (1, va_rf (x1)), (2, va_rf (x2)), (3, va_rf (w_p w 14 p2 7))] ⟨rfl, ⟨rfl, ⟨rfl, ⟨rfl, trivial⟩⟩⟩⟩ rfl h
def zb_X8_summary_p129 (E : zE) (L : Nat) (Q : kx_Rs → wS → Prop) (x1 : Option Nat) (x2 : Option Nat) (x3 : Option Nat) (w : wS) : Prop := (if x3 = none then (∃ p1, x1 = some p1 ∧ w_l w E.2.1 14 p1 ∧ (∃ p2, w_p w 14 p1 16 = some p2 ∧ w_l w E.2.1 15 p2 ∧ zL_X8_summary_p186 E L Q x1 x2 (w_p w 15 p2 4) w)) else (∃ p3, x3 = some p3 ∧ w_l w E.2.1 14 p3 ∧ (∃ p4, w_p w 14 p3 16 = some p4 ∧ w_l w E.2.1 15 p4 ∧ (if ¬ w_i w 15 p4 29 = (-1) then (kx_inb (w_i w 15 p4 29) (w_n w 7 0 5) = true ∧ zb_X8_summary_p167 E L Q x1 x2 x3 ((w_a w 7 0 5 (w_i w 15 p4 29).toNatClampNeg) &&& 15) (w_p w 14 p3 16) w) else zb_X8_summary_p167 E L Q x1 x2 x3 0 (w_p w 14 p3 16) w))))
theorem zt_X8_summary_p129 {E : zE} {L : Nat} {Q : kx_Rs → wS → Prop} {x1 : Option Nat} {x2 : Option Nat} {x3 : Option Nat} {w : wS} (hL : 23 ≤ L) (h : zb_X8_summary_p129 E L Q x1 x2 x3 w) : kzE E L kt_M328 129 [(0, .ref (w_adr E.2.1 7 0)), (1, va_rf (x1)), (2, va_rf (x2)), (3, va_rf (x3))] [] w Q := by
  unfold zb_X8_summary_p129 at h
  refine kz_aload_nv (M := kt_M328) (x := x3) kX8_summary_c8.2.2.1 rfl ?_
  refine kz_ifnull (M := kt_M328) (x := x3) kX8_summary_c8.2.2.2.1 (t := 178) rfl h (fun h => ?_) (fun h => ?_)
  · skip
    refine kz_aload_nv (M := kt_M328) (x := x1) kX8_summary_c11.2.2.1 rfl ?_
    obtain ⟨p1, hxp1, hlp1, h⟩ := h
    refine kz_nz0 (x := x1) hxp1 ?_
    refine kz_gfp (M := kt_M328) (c := 14) (o := p1) kX8_summary_c11.2.2.2.1 wf_X8_131 (.inr (by exact hlp1)) ?_
    obtain ⟨p2, hxp2, hlp2, h⟩ := h
    refine kz_nz0 (x := w_p w 14 p1 16) hxp2 ?_
    refine kz_gfp (M := kt_M328) (c := 15) (o := p2) kX8_summary_c11.2.2.2.2.1 wf_X8_145 (.inr (by exact hlp2)) ?_
    refine kz_stv_n (M := kt_M328) (x := w_p w 15 p2 4) [(0, .ref (w_adr E.2.1 7 0)), (1, va_rf (x1)), (2, va_rf (x2))] kX8_summary_c11.2.2.2.2.2.1 (Nat.le_of_ble_eq_true rfl) ⟨⟨rfl, rfl, .inl rfl⟩, ⟨⟨rfl, rfl, .inl rfl⟩, ⟨⟨rfl, rfl, .inr (w_cat (x2))⟩, trivial⟩⟩⟩ rfl ?_
    exact kz_weak [(0, .ref (w_adr E.2.1 7 0)), (1, va_rf (x1)), (2, va_rf (x2)), (3, va_rf (w_p w 15 p2 4))] ⟨rfl, ⟨rfl, ⟨rfl, ⟨rfl, trivial⟩⟩⟩⟩ rfl h
  · skip
    refine kz_aload_nv (M := kt_M328) (x := x3) kX8_summary_c8.2.2.2.2.1 rfl ?_
    obtain ⟨p3, hxp3, hlp3, h⟩ := h
    refine kz_nz0 (x := x3) hxp3 ?_
    refine kz_gfp (M := kt_M328) (c := 14) (o := p3) kX8_summary_c8.2.2.2.2.2.1 wf_X8_131 (.inr (by exact hlp3)) ?_
    refine kz_aload_nv (M := kt_M328) (x := x3) kX8_summary_c8.2.2.2.2.2.2.1 rfl ?_
    refine kz_nz0 (x := x3) hxp3 ?_
    refine kz_gfp (M := kt_M328) (c := 14) (o := p3) kX8_summary_c8.2.2.2.2.2.2.2.1 wf_X8_131 (.inr (by exact hlp3)) ?_
    obtain ⟨p4, hxp4, hlp4, h⟩ := h
    refine kz_nz0 (x := w_p w 14 p3 16) hxp4 ?_
    refine kz_gfi (M := kt_M328) (c := 15) (o := p4) kX8_summary_c9.1 wf_X8_141 (.inr (by exact hlp4)) ?_
    refine kz_ic (M := kt_M328) (-1) kX8_summary_c9.2.1 rfl ?_
    refine kz_icmp_ne (M := kt_M328) kX8_summary_c9.2.2.1 (t := 152) rfl h (fun h => ?_) (fun h => ?_)
    · skip
      refine kz_aload_n (M := kt_M328) kX8_summary_c9.2.2.2.2.2.1 rfl ?_
      refine kz_gfa (M := kt_M328) (c := 7) (o := 0) kX8_summary_c9.2.2.2.2.2.2.1 wf_X8_21 (.inl rfl) ?_
      refine kz_aload_nv (M := kt_M328) (x := x3) kX8_summary_c9.2.2.2.2.2.2.2.1 rfl ?_
      refine kz_nz0 (x := x3) hxp3 ?_
      refine kz_gfp (M := kt_M328) (c := 14) (o := p3) kX8_summary_c10.1 wf_X8_131 (.inr (by exact hlp3)) ?_
      refine kz_nz0 (x := w_p w 14 p3 16) hxp4 ?_
      refine kz_gfi (M := kt_M328) (c := 15) (o := p4) kX8_summary_c10.2.1 wf_X8_141 (.inr (by exact hlp4)) ?_
      refine kz_iald (M := kt_M328) (c := 7) (o := 0) (k := 5) (a := (w_d w 7 0 5)) kX8_summary_c10.2.2.1 ow_7_0_5 oa_7_0_5 ot_0 h (fun h => ?_)
      refine kz_bi (M := kt_M328) 15 kX8_summary_c10.2.2.2.1 rfl ?_
      refine kz_iand (M := kt_M328) kX8_summary_c10.2.2.2.2.1 ?_
      exact kz_weak [(0, .ref (w_adr E.2.1 7 0)), (1, va_rf (x1)), (2, va_rf (x2)), (3, va_rf (x3))] ⟨rfl, ⟨rfl, ⟨rfl, ⟨rfl, trivial⟩⟩⟩⟩ rfl (zt_X8_summary_p167 hL  h)
    · skip
      refine kz_ic (M := kt_M328) 0 kX8_summary_c9.2.2.2.1 rfl ?_
      refine kz_goto (M := kt_M328) kX8_summary_c9.2.2.2.2.1 (t := 167) rfl ?_
      exact kz_weak [(0, .ref (w_adr E.2.1 7 0)), (1, va_rf (x1)), (2, va_rf (x2)), (3, va_rf (x3))] ⟨rfl, ⟨rfl, ⟨rfl, ⟨rfl, trivial⟩⟩⟩⟩ rfl (zt_X8_summary_p167 hL  h)
def zb_X8_summary_p103 (E : zE) (L : Nat) (Q : kx_Rs → wS → Prop) (x1 : Option Nat) (w : wS) : Prop := (∃ p1, x1 = some p1 ∧ w_l w E.2.1 14 p1 ∧ (∃ p2, w_p w 14 p1 16 = some p2 ∧ w_l w E.2.1 15 p2 ∧ ((w_i w 7 0 14 = 0 ∨ w_i w 7 0 14 = 1) ∧ zL_X8_summary_p129 E L Q x1 (w_p w 14 p1 16) (w_p w 14 p1 3) (ws_i (ws_i w 15 p2 10 (w_i w 7 0 14)) 15 p2 27 (w_i w 7 0 4)))))
theorem zt_X8_summary_p103 {E : zE} {L : Nat} {Q : kx_Rs → wS → Prop} {x1 : Option Nat} {w : wS} (hL : 23 ≤ L) (h : zb_X8_summary_p103 E L Q x1 w) : kzE E L kt_M328 103 [(0, .ref (w_adr E.2.1 7 0)), (1, va_rf (x1))] [] w Q := by
  unfold zb_X8_summary_p103 at h
  refine kz_aload_nv (M := kt_M328) (x := x1) kX8_summary_c6.2.2.2.2.1 rfl ?_
  obtain ⟨p1, hxp1, hlp1, h⟩ := h
  refine kz_nz0 (x := x1) hxp1 ?_
  refine kz_gfp (M := kt_M328) (c := 14) (o := p1) kX8_summary_c6.2.2.2.2.2.1 wf_X8_131 (.inr (by exact hlp1)) ?_
  refine kz_stv_n (M := kt_M328) (x := w_p w 14 p1 16) [(0, .ref (w_adr E.2.1 7 0)), (1, va_rf (x1))] kX8_summary_c6.2.2.2.2.2.2.1 (Nat.le_of_ble_eq_true rfl) ⟨⟨rfl, rfl, .inl rfl⟩, ⟨⟨rfl, rfl, .inr (w_cat (x1))⟩, trivial⟩⟩ rfl ?_
  refine kz_aload_nv (M := kt_M328) (x := w_p w 14 p1 16) kX8_summary_c6.2.2.2.2.2.2.2.1 rfl ?_
  refine kz_aload_n (M := kt_M328) kX8_summary_c7.1 rfl ?_
  refine kz_gfi (M := kt_M328) (c := 7) (o := 0) kX8_summary_c7.2.1 wf_X8_108 (.inl rfl) ?_
  obtain ⟨p2, hxp2, hlp2, h⟩ := h
  refine kz_nz1 (x := w_p w 14 p1 16) hxp2 ?_
  obtain ⟨h0, h⟩ := h
  refine kz_pfz (M := kt_M328) (c := 15) (o := p2) kX8_summary_c7.2.2.1 wq_X8_135 (.inr (by exact hlp2)) h0 ?_
  refine kz_aload_nv (M := kt_M328) (x := w_p w 14 p1 16) kX8_summary_c7.2.2.2.1 rfl ?_
  refine kz_aload_n (M := kt_M328) kX8_summary_c7.2.2.2.2.1 rfl ?_
  refine kz_gfiR (M := kt_M328) (c := 7) (o := 0) (w_i w 7 0 4) kX8_summary_c7.2.2.2.2.2.1 wf_X8_41 (.inl rfl) (rd_i_i rfl) ?_
  refine kz_nz1 (x := w_p w 14 p1 16) hxp2 ?_
  refine kz_pfi (M := kt_M328) (c := 15) (o := p2) kX8_summary_c7.2.2.2.2.2.2.1 wq_X8_138 (.inr (by exact hlp2)) ?_
  refine kz_aload_nv (M := kt_M328) (x := x1) kX8_summary_c7.2.2.2.2.2.2.2.1 rfl ?_
  refine kz_nz0 (x := x1) hxp1 ?_
  refine kz_gfpR (M := kt_M328) (c := 14) (o := p1) (w_p w 14 p1 3) kX8_summary_c8.1 wf_X8_58 (.inr (by exact hlp1)) (rd_p_i.trans rd_p_i) ?_
  refine kz_stv_n (M := kt_M328) (x := w_p w 14 p1 3) [(0, .ref (w_adr E.2.1 7 0)), (1, va_rf (x1)), (2, va_rf (w_p w 14 p1 16))] kX8_summary_c8.2.1 (Nat.le_of_ble_eq_true rfl) ⟨⟨rfl, rfl, .inl rfl⟩, ⟨⟨rfl, rfl, .inl rfl⟩, ⟨⟨rfl, rfl, .inr (w_cat (w_p w 14 p1 16))⟩, trivial⟩⟩⟩ rfl ?_
  exact kz_weak [(0, .ref (w_adr E.2.1 7 0)), (1, va_rf (x1)), (2, va_rf (w_p w 14 p1 16)), (3, va_rf (w_p w 14 p1 3))] ⟨rfl, ⟨rfl, ⟨rfl, ⟨rfl, trivial⟩⟩⟩⟩ rfl h
def zb_X8_summary_p70 (E : zE) (L : Nat) (Q : kx_Rs → wS → Prop) (x1 : Option Nat) (x2 : Option Nat) (w : wS) : Prop := (if x2 = none then (∃ p1, x1 = some p1 ∧ w_l w E.2.1 14 p1 ∧ zw E (L - 22) kt_M321 [.ref (w_adr E.2.1 7 0), va_rf (w_p w 14 p1 4)] w (wk0 (fun w2 => wle w w2 → zw E (L - 22) kt_M308 [.ref (w_adr E.2.1 7 0), va_rf (w_p w2 14 p1 6)] w2 (wk0 (fun w4 => wle w2 w4 → zb_X8_summary_p103 E L Q x1 w4) (fun e w => Q (.inr e) w))) (fun e w => Q (.inr e) w))) else zw E (L - 21) kt_M306 [.ref (w_adr E.2.1 7 0), va_rf (x2)] w (wk0 (fun w6 => wle w w6 → (∃ p8, x2 = some p8 ∧ w_l w6 E.2.1 14 p8 ∧ zL_X8_summary_p70 E L Q x1 (w_p w6 14 p8 7) w6)) (fun e w => Q (.inr e) w)))
theorem zt_X8_summary_p70 {E : zE} {L : Nat} {Q : kx_Rs → wS → Prop} {x1 : Option Nat} {x2 : Option Nat} {w : wS} (hL : 23 ≤ L) (h : zb_X8_summary_p70 E L Q x1 x2 w) : kzE E L kt_M328 70 [(0, .ref (w_adr E.2.1 7 0)), (1, va_rf (x1)), (2, va_rf (x2))] [] w Q := by
  unfold zb_X8_summary_p70 at h
  refine kz_aload_nv (M := kt_M328) (x := x2) kX8_summary_c4.2.2.2.1 rfl ?_
  refine kz_ifnull (M := kt_M328) (x := x2) kX8_summary_c4.2.2.2.2.1 (t := 87) rfl h (fun h => ?_) (fun h => ?_)
  · skip
    refine kz_aload_n (M := kt_M328) kX8_summary_c5.2.2.2.2.1 rfl ?_
    refine kz_aload_nv (M := kt_M328) (x := x1) kX8_summary_c5.2.2.2.2.2.1 rfl ?_
    obtain ⟨p1, hxp1, hlp1, h⟩ := h
    refine kz_nz0 (x := x1) hxp1 ?_
    refine kz_gfp (M := kt_M328) (c := 14) (o := p1) kX8_summary_c5.2.2.2.2.2.2.1 wf_X8_70 (.inr (by exact hlp1)) ?_
    refine kz_cv0 (M := kt_M328) (c := 7) (o := 0) (As := [va_rf (w_p w 14 p1 4)]) (rest := []) kX8_summary_c5.2.2.2.2.2.2.2.1 wl_X8_119 wMv_321 rfl (.inl rfl) rfl (Nat.le_trans (Nat.le_of_ble_eq_true rfl) hL) (by simp [lg_sl, w_cat, z_ci, z_cr, z_cl, z_cn, kt_M321]) (Nat.le_of_ble_eq_true rfl) h (fun w2 hle h => ?_) (fun _ _ _ h => kzx_no rfl h)
    have h := h hle
    have hlp1 := w_l_le hlp1 hle
    refine kz_aload_n (M := kt_M328) kX8_summary_c6.1 rfl ?_
    refine kz_aload_nv (M := kt_M328) (x := x1) kX8_summary_c6.2.1 rfl ?_
    refine kz_nz0 (x := x1) hxp1 ?_
    refine kz_gfp (M := kt_M328) (c := 14) (o := p1) kX8_summary_c6.2.2.1 wf_X8_128 (.inr (by exact hlp1)) ?_
    refine kz_cv0 (M := kt_M328) (c := 7) (o := 0) (As := [va_rf (w_p w2 14 p1 6)]) (rest := []) kX8_summary_c6.2.2.2.1 wl_X8_122 wMv_308 rfl (.inl rfl) rfl (Nat.le_trans (Nat.le_of_ble_eq_true rfl) hL) (by simp [lg_sl, w_cat, z_ci, z_cr, z_cl, z_cn, kt_M308]) (Nat.le_of_ble_eq_true rfl) h (fun w4 hle h => ?_) (fun _ _ _ h => kzx_no rfl h)
    have h := h hle
    have hlp1 := w_l_le hlp1 hle
    exact kz_weak [(0, .ref (w_adr E.2.1 7 0)), (1, va_rf (x1))] ⟨rfl, ⟨rfl, trivial⟩⟩ rfl (zt_X8_summary_p103 hL  h)
  · skip
    refine kz_aload_n (M := kt_M328) kX8_summary_c4.2.2.2.2.2.1 rfl ?_
    refine kz_aload_nv (M := kt_M328) (x := x2) kX8_summary_c4.2.2.2.2.2.2.1 rfl ?_
    refine kz_cv0 (M := kt_M328) (c := 7) (o := 0) (As := [va_rf (x2)]) (rest := []) kX8_summary_c4.2.2.2.2.2.2.2.1 wl_X8_125 wMv_306 rfl (.inl rfl) rfl (Nat.le_trans (Nat.le_of_ble_eq_true rfl) hL) (by simp [lg_sl, w_cat, z_ci, z_cr, z_cl, z_cn, kt_M306]) (Nat.le_of_ble_eq_true rfl) h (fun w6 hle h => ?_) (fun _ _ _ h => kzx_no rfl h)
    have h := h hle
    refine kz_aload_nv (M := kt_M328) (x := x2) kX8_summary_c5.1 rfl ?_
    obtain ⟨p8, hxp8, hlp8, h⟩ := h
    refine kz_nz0 (x := x2) hxp8 ?_
    refine kz_gfp (M := kt_M328) (c := 14) (o := p8) kX8_summary_c5.2.1 wf_X8_67 (.inr (by exact hlp8)) ?_
    refine kz_stv_n (M := kt_M328) (x := w_p w6 14 p8 7) [(0, .ref (w_adr E.2.1 7 0)), (1, va_rf (x1))] kX8_summary_c5.2.2.1 (Nat.le_of_ble_eq_true rfl) ⟨⟨rfl, rfl, .inl rfl⟩, ⟨⟨rfl, rfl, .inr (w_cat (x1))⟩, trivial⟩⟩ rfl ?_
    refine kz_goto (M := kt_M328) kX8_summary_c5.2.2.2.1 (t := 70) rfl ?_
    exact kz_weak [(0, .ref (w_adr E.2.1 7 0)), (1, va_rf (x1)), (2, va_rf (w_p w6 14 p8 7))] ⟨rfl, ⟨rfl, ⟨rfl, trivial⟩⟩⟩ rfl h
def zb_X8_summary_p0 (E : zE) (L : Nat) (Q : kx_Rs → wS → Prop) (x1 : Option Nat) (w : wS) : Prop := (∃ p1, x1 = some p1 ∧ w_l (ws_i (ws_i (ws_i (ws_i (ws_i w 7 0 11 0) 7 0 18 1) 7 0 14 0) 7 0 12 2147483647) 7 0 13 (-1)) E.2.1 14 p1 ∧ (if ¬ w_p w 14 p1 0 = some (E.1.1 33) then (if w_i w 14 p1 11 = 0 then zL_X8_summary_p70 E L Q x1 (w_p w 14 p1 5) (ws_i (ws_i (ws_i (ws_i (ws_i w 7 0 11 0) 7 0 18 1) 7 0 14 0) 7 0 12 2147483647) 7 0 13 (-1)) else zw E (L - 22) kt_M308 [.ref (w_adr E.2.1 7 0), va_rf (w_p w 14 p1 4)] (ws_i (ws_i (ws_i (ws_i (ws_i w 7 0 11 0) 7 0 18 1) 7 0 14 0) 7 0 12 2147483647) 7 0 13 (-1)) (wk0 (fun w2 => wle (ws_i (ws_i (ws_i (ws_i (ws_i w 7 0 11 0) 7 0 18 1) 7 0 14 0) 7 0 12 2147483647) 7 0 13 (-1)) w2 → zb_X8_summary_p103 E L Q x1 w2) (fun e w => Q (.inr e) w))) else zw E (L - 22) kt_M321 [.ref (w_adr E.2.1 7 0), va_rf (w_p w 14 p1 4)] (ws_i (ws_i (ws_i (ws_i (ws_i w 7 0 11 0) 7 0 18 1) 7 0 14 0) 7 0 12 2147483647) 7 0 13 (-1)) (wk0 (fun w4 => wle (ws_i (ws_i (ws_i (ws_i (ws_i w 7 0 11 0) 7 0 18 1) 7 0 14 0) 7 0 12 2147483647) 7 0 13 (-1)) w4 → zb_X8_summary_p103 E L Q x1 w4) (fun e w => Q (.inr e) w))))
theorem zt_X8_summary_p0 {E : zE} {L : Nat} {Q : kx_Rs → wS → Prop} {x1 : Option Nat} {w : wS} (hL : 23 ≤ L) (h : zb_X8_summary_p0 E L Q x1 w) : kzE E L kt_M328 0 [(0, .ref (w_adr E.2.1 7 0)), (1, va_rf (x1))] [] w Q := by
  unfold zb_X8_summary_p0 at h
  refine kz_aload_n (M := kt_M328) kX8_summary_c0.1 rfl ?_
  refine kz_ic (M := kt_M328) 0 kX8_summary_c0.2.1 rfl ?_
  refine kz_pfz (M := kt_M328) (c := 7) (o := 0) kX8_summary_c0.2.2.1 wq_X8_102 (.inl rfl) (by decide) ?_
  refine kz_aload_n (M := kt_M328) kX8_summary_c0.2.2.2.1 rfl ?_
  refine kz_ic (M := kt_M328) 1 kX8_summary_c0.2.2.2.2.1 rfl ?_
  refine kz_pfz (M := kt_M328) (c := 7) (o := 0) kX8_summary_c0.2.2.2.2.2.1 wq_X8_105 (.inl rfl) (by decide) ?_
  refine kz_aload_n (M := kt_M328) kX8_summary_c0.2.2.2.2.2.2.1 rfl ?_
  refine kz_ic (M := kt_M328) 0 kX8_summary_c0.2.2.2.2.2.2.2.1 rfl ?_
  refine kz_pfz (M := kt_M328) (c := 7) (o := 0) kX8_summary_c1.1 wq_X8_108 (.inl rfl) (by decide) ?_
  refine kz_aload_n (M := kt_M328) kX8_summary_c1.2.1 rfl ?_
  refine kz_ldcI (M := kt_M328) (x := 2147483647) kX8_summary_c1.2.2.1 (zc_X8_112) ?_
  refine kz_pfi (M := kt_M328) (c := 7) (o := 0) kX8_summary_c1.2.2.2.1 wq_X8_113 (.inl rfl) ?_
  refine kz_aload_n (M := kt_M328) kX8_summary_c1.2.2.2.2.1 rfl ?_
  refine kz_ic (M := kt_M328) (-1) kX8_summary_c1.2.2.2.2.2.1 rfl ?_
  refine kz_pfi (M := kt_M328) (c := 7) (o := 0) kX8_summary_c1.2.2.2.2.2.2.1 wq_X8_116 (.inl rfl) ?_
  refine kz_aload_nv (M := kt_M328) (x := x1) kX8_summary_c1.2.2.2.2.2.2.2.1 rfl ?_
  obtain ⟨p1, hxp1, hlp1, h⟩ := h
  refine kz_nz0 (x := x1) hxp1 ?_
  refine kz_gfpR (M := kt_M328) (c := 14) (o := p1) (w_p w 14 p1 0) kX8_summary_c2.1 wf_X8_76 (.inr (by exact hlp1)) (rd_p_i.trans (rd_p_i.trans (rd_p_i.trans (rd_p_i.trans rd_p_i)))) ?_
  refine kz_getsE (M := kt_M328) (v := va_rf (some (E.1.1 33))) kX8_summary_c2.2.1 zs_X8_80 ?_
  refine kz_acmp_ne (M := kt_M328) (x := w_p w 14 p1 0) (y := some (E.1.1 33)) kX8_summary_c2.2.2.1 (t := 47) rfl h (fun h => ?_) (fun h => ?_)
  · skip
    refine kz_aload_nv (M := kt_M328) (x := x1) kX8_summary_c3.1 rfl ?_
    refine kz_nz0 (x := x1) hxp1 ?_
    refine kz_gfiR (M := kt_M328) (c := 14) (o := p1) (w_i w 14 p1 11) kX8_summary_c3.2.1 wf_X8_91 (.inr (by exact hlp1)) ((rd_i_i rfl).trans ((rd_i_i rfl).trans ((rd_i_i rfl).trans ((rd_i_i rfl).trans (rd_i_ic rfl))))) ?_
    refine kz_if_eq (M := kt_M328) kX8_summary_c3.2.2.1 (t := 65) rfl h (fun h => ?_) (fun h => ?_)
    · skip
      refine kz_aload_nv (M := kt_M328) (x := x1) kX8_summary_c4.1 rfl ?_
      refine kz_nz0 (x := x1) hxp1 ?_
      refine kz_gfpR (M := kt_M328) (c := 14) (o := p1) (w_p w 14 p1 5) kX8_summary_c4.2.1 wf_X8_95 (.inr (by exact hlp1)) (rd_p_i.trans (rd_p_i.trans (rd_p_i.trans (rd_p_i.trans rd_p_i)))) ?_
      refine kz_stv_n (M := kt_M328) (x := w_p w 14 p1 5) [(0, .ref (w_adr E.2.1 7 0)), (1, va_rf (x1))] kX8_summary_c4.2.2.1 (Nat.le_of_ble_eq_true rfl) ⟨⟨rfl, rfl, .inl rfl⟩, ⟨⟨rfl, rfl, .inr (w_cat (x1))⟩, trivial⟩⟩ rfl ?_
      exact kz_weak [(0, .ref (w_adr E.2.1 7 0)), (1, va_rf (x1)), (2, va_rf (w_p w 14 p1 5))] ⟨rfl, ⟨rfl, ⟨rfl, trivial⟩⟩⟩ rfl h
    · skip
      refine kz_aload_n (M := kt_M328) kX8_summary_c3.2.2.2.1 rfl ?_
      refine kz_aload_nv (M := kt_M328) (x := x1) kX8_summary_c3.2.2.2.2.1 rfl ?_
      refine kz_nz0 (x := x1) hxp1 ?_
      refine kz_gfpR (M := kt_M328) (c := 14) (o := p1) (w_p w 14 p1 4) kX8_summary_c3.2.2.2.2.2.1 wf_X8_70 (.inr (by exact hlp1)) (rd_p_i.trans (rd_p_i.trans (rd_p_i.trans (rd_p_i.trans rd_p_i)))) ?_
      refine kz_cv0 (M := kt_M328) (c := 7) (o := 0) (As := [va_rf (w_p w 14 p1 4)]) (rest := []) kX8_summary_c3.2.2.2.2.2.2.1 wl_X8_122 wMv_308 rfl (.inl rfl) rfl (Nat.le_trans (Nat.le_of_ble_eq_true rfl) hL) (by simp [lg_sl, w_cat, z_ci, z_cr, z_cl, z_cn, kt_M308]) (Nat.le_of_ble_eq_true rfl) h (fun w2 hle h => ?_) (fun _ _ _ h => kzx_no rfl h)
      have h := h hle
      have hlp1 := w_l_le hlp1 hle
      refine kz_goto (M := kt_M328) kX8_summary_c3.2.2.2.2.2.2.2.1 (t := 103) rfl ?_
      exact kz_weak [(0, .ref (w_adr E.2.1 7 0)), (1, va_rf (x1))] ⟨rfl, ⟨rfl, trivial⟩⟩ rfl (zt_X8_summary_p103 hL  h)
  · skip
    refine kz_aload_n (M := kt_M328) kX8_summary_c2.2.2.2.1 rfl ?_
    refine kz_aload_nv (M := kt_M328) (x := x1) kX8_summary_c2.2.2.2.2.1 rfl ?_
    refine kz_nz0 (x := x1) hxp1 ?_
    refine kz_gfpR (M := kt_M328) (c := 14) (o := p1) (w_p w 14 p1 4) kX8_summary_c2.2.2.2.2.2.1 wf_X8_70 (.inr (by exact hlp1)) (rd_p_i.trans (rd_p_i.trans (rd_p_i.trans (rd_p_i.trans rd_p_i)))) ?_
    refine kz_cv0 (M := kt_M328) (c := 7) (o := 0) (As := [va_rf (w_p w 14 p1 4)]) (rest := []) kX8_summary_c2.2.2.2.2.2.2.1 wl_X8_119 wMv_321 rfl (.inl rfl) rfl (Nat.le_trans (Nat.le_of_ble_eq_true rfl) hL) (by simp [lg_sl, w_cat, z_ci, z_cr, z_cl, z_cn, kt_M321]) (Nat.le_of_ble_eq_true rfl) h (fun w4 hle h => ?_) (fun _ _ _ h => kzx_no rfl h)
    have h := h hle
    have hlp1 := w_l_le hlp1 hle
    refine kz_goto (M := kt_M328) kX8_summary_c2.2.2.2.2.2.2.2.1 (t := 103) rfl ?_
    exact kz_weak [(0, .ref (w_adr E.2.1 7 0)), (1, va_rf (x1))] ⟨rfl, ⟨rfl, trivial⟩⟩ rfl (zt_X8_summary_p103 hL  h)
def zL_X8_process_p5 (E : zE) (L : Nat) (Q : kx_Rs → wS → Prop) (x1 : Option Nat) (x2 : Option Nat) (w : wS) : Prop := kzE E L kt_M321 5 [(0, .ref (w_adr E.2.1 7 0)), (1, va_rf (x1)), (2, va_rf (x2))] [] w Q
def zb_X8_process_p5 (E : zE) (L : Nat) (Q : kx_Rs → wS → Prop) (x1 : Option Nat) (x2 : Option Nat) (w : wS) : Prop := (if x2 = none then (∃ p1, x1 = some p1 ∧ w_l w E.2.1 14 p1 ∧ zw E (L - 22) kt_M295 [.ref (w_adr E.2.1 7 0), va_rf (w_p w 14 p1 4)] w (wk0 (fun w2 => wle w w2 → Q (.inl none) w2) (fun e w => Q (.inr e) w))) else zw E (L - 21) kt_M306 [.ref (w_adr E.2.1 7 0), va_rf (x2)] w (wk0 (fun w4 => wle w w4 → (∃ p6, x2 = some p6 ∧ w_l w4 E.2.1 14 p6 ∧ zL_X8_process_p5 E L Q x1 (w_p w4 14 p6 7) w4)) (fun e w => Q (.inr e) w)))
theorem zt_X8_process_p5 {E : zE} {L : Nat} {Q : kx_Rs → wS → Prop} {x1 : Option Nat} {x2 : Option Nat} {w : wS} (hL : 22 ≤ L) (h : zb_X8_process_p5 E L Q x1 x2 w) : kzE E L kt_M321 5 [(0, .ref (w_adr E.2.1 7 0)), (1, va_rf (x1)), (2, va_rf (x2))] [] w Q := by
  unfold zb_X8_process_p5 at h
  refine kz_aload_nv (M := kt_M321) (x := x2) kX8_process_c0.2.2.2.1 rfl ?_
  refine kz_ifnull (M := kt_M321) (x := x2) kX8_process_c0.2.2.2.2.1 (t := 22) rfl h (fun h => ?_) (fun h => ?_)
  · skip
    refine kz_aload_n (M := kt_M321) kX8_process_c1.2.2.2.2.1 rfl ?_
    refine kz_aload_nv (M := kt_M321) (x := x1) kX8_process_c1.2.2.2.2.2.1 rfl ?_
    obtain ⟨p1, hxp1, hlp1, h⟩ := h
    refine kz_nz0 (x := x1) hxp1 ?_
    refine kz_gfp (M := kt_M321) (c := 14) (o := p1) kX8_process_c1.2.2.2.2.2.2.1 wf_X8_70 (.inr (by exact hlp1)) ?_
    refine kz_cv0 (M := kt_M321) (c := 7) (o := 0) (As := [va_rf (w_p w 14 p1 4)]) (rest := []) kX8_process_c1.2.2.2.2.2.2.2.1 wl_X8_292 wMv_295 rfl (.inl rfl) rfl (Nat.le_trans (Nat.le_of_ble_eq_true rfl) hL) (by simp [lg_sl, w_cat, z_ci, z_cr, z_cl, z_cn, kt_M295]) (Nat.le_of_ble_eq_true rfl) h (fun w2 hle h => ?_) (fun _ _ _ h => kzx_no rfl h)
    have h := h hle
    have hlp1 := w_l_le hlp1 hle
    exact kz_ret (M := kt_M321) kX8_process_c2.1 rfl h
  · skip
    refine kz_aload_n (M := kt_M321) kX8_process_c0.2.2.2.2.2.1 rfl ?_
    refine kz_aload_nv (M := kt_M321) (x := x2) kX8_process_c0.2.2.2.2.2.2.1 rfl ?_
    refine kz_cv0 (M := kt_M321) (c := 7) (o := 0) (As := [va_rf (x2)]) (rest := []) kX8_process_c0.2.2.2.2.2.2.2.1 wl_X8_125 wMv_306 rfl (.inl rfl) rfl (Nat.le_trans (Nat.le_of_ble_eq_true rfl) hL) (by simp [lg_sl, w_cat, z_ci, z_cr, z_cl, z_cn, kt_M306]) (Nat.le_of_ble_eq_true rfl) h (fun w4 hle h => ?_) (fun _ _ _ h => kzx_no rfl h)
    have h := h hle
    refine kz_aload_nv (M := kt_M321) (x := x2) kX8_process_c1.1 rfl ?_
    obtain ⟨p6, hxp6, hlp6, h⟩ := h
    refine kz_nz0 (x := x2) hxp6 ?_
    refine kz_gfp (M := kt_M321) (c := 14) (o := p6) kX8_process_c1.2.1 wf_X8_67 (.inr (by exact hlp6)) ?_
    refine kz_stv_n (M := kt_M321) (x := w_p w4 14 p6 7) [(0, .ref (w_adr E.2.1 7 0)), (1, va_rf (x1))] kX8_process_c1.2.2.1 (Nat.le_of_ble_eq_true rfl) ⟨⟨rfl, rfl, .inl rfl⟩, ⟨⟨rfl, rfl, .inr (w_cat (x1))⟩, trivial⟩⟩ rfl ?_
    refine kz_goto (M := kt_M321) kX8_process_c1.2.2.2.1 (t := 5) rfl ?_
    exact kz_weak [(0, .ref (w_adr E.2.1 7 0)), (1, va_rf (x1)), (2, va_rf (w_p w4 14 p6 7))] ⟨rfl, ⟨rfl, ⟨rfl, trivial⟩⟩⟩ rfl h
def zb_X8_process_p0 (E : zE) (L : Nat) (Q : kx_Rs → wS → Prop) (x1 : Option Nat) (w : wS) : Prop := (∃ p1, x1 = some p1 ∧ w_l w E.2.1 14 p1 ∧ zL_X8_process_p5 E L Q x1 (w_p w 14 p1 3) w)
theorem zt_X8_process_p0 {E : zE} {L : Nat} {Q : kx_Rs → wS → Prop} {x1 : Option Nat} {w : wS} (hL : 22 ≤ L) (h : zb_X8_process_p0 E L Q x1 w) : kzE E L kt_M321 0 [(0, .ref (w_adr E.2.1 7 0)), (1, va_rf (x1))] [] w Q := by
  unfold zb_X8_process_p0 at h
  refine kz_aload_nv (M := kt_M321) (x := x1) kX8_process_c0.1 rfl ?_
  obtain ⟨p1, hxp1, hlp1, h⟩ := h
  refine kz_nz0 (x := x1) hxp1 ?_
  refine kz_gfp (M := kt_M321) (c := 14) (o := p1) kX8_process_c0.2.1 wf_X8_58 (.inr (by exact hlp1)) ?_
  refine kz_stv_n (M := kt_M321) (x := w_p w 14 p1 3) [(0, .ref (w_adr E.2.1 7 0)), (1, va_rf (x1))] kX8_process_c0.2.2.1 (Nat.le_of_ble_eq_true rfl) ⟨⟨rfl, rfl, .inl rfl⟩, ⟨⟨rfl, rfl, .inr (w_cat (x1))⟩, trivial⟩⟩ rfl ?_
  exact kz_weak [(0, .ref (w_adr E.2.1 7 0)), (1, va_rf (x1)), (2, va_rf (w_p w 14 p1 3))] ⟨rfl, ⟨rfl, ⟨rfl, trivial⟩⟩⟩ rfl h
def zb_X8_declared_p52 (E : zE) (L : Nat) (Q : kx_Rs → wS → Prop) (w : wS) : Prop := Q (.inl none) w
theorem zt_X8_declared_p52 {E : zE} {L : Nat} {Q : kx_Rs → wS → Prop} {w : wS} (hL : 22 ≤ L) (h : zb_X8_declared_p52 E L Q  w) : kzE E L kt_M306 52 [(0, .ref (w_adr E.2.1 7 0))] [] w Q := by
  unfold zb_X8_declared_p52 at h
  exact kz_ret (M := kt_M306) kX8_declared_c2.2.2.2.2.2.2.1 rfl h
def zb_X8_declared_p0 (E : zE) (L : Nat) (Q : kx_Rs → wS → Prop) (x1 : Option Nat) (w : wS) : Prop := (∃ p1, x1 = some p1 ∧ w_l w E.2.1 14 p1 ∧ (if ¬ w_p w 14 p1 0 = some (E.1.1 28) then (if ¬ w_p w 14 p1 0 = some (E.1.1 25) then zb_X8_declared_p52 E L Q w else (∃ p2, w_p w 14 p1 3 = some p2 ∧ w_l w E.2.1 14 p2 ∧ (if (w_p w 14 p2 3) = none then zb_X8_declared_p52 E L Q w else zw E (L - 22) kt_M308 [.ref (w_adr E.2.1 7 0), va_rf (w_p w 14 p2 3)] w (wk0 (fun w3 => wle w w3 → zb_X8_declared_p52 E L Q w3) (fun e w => Q (.inr e) w))))) else zw E (L - 22) kt_M308 [.ref (w_adr E.2.1 7 0), va_rf (w_p w 14 p1 3)] w (wk0 (fun w5 => wle w w5 → zb_X8_declared_p52 E L Q w5) (fun e w => Q (.inr e) w))))
theorem zt_X8_declared_p0 {E : zE} {L : Nat} {Q : kx_Rs → wS → Prop} {x1 : Option Nat} {w : wS} (hL : 22 ≤ L) (h : zb_X8_declared_p0 E L Q x1 w) : kzE E L kt_M306 0 [(0, .ref (w_adr E.2.1 7 0)), (1, va_rf (x1))] [] w Q := by
  unfold zb_X8_declared_p0 at h
  refine kz_aload_nv (M := kt_M306) (x := x1) kX8_declared_c0.1 rfl ?_
  obtain ⟨p1, hxp1, hlp1, h⟩ := h
  refine kz_nz0 (x := x1) hxp1 ?_
  refine kz_gfp (M := kt_M306) (c := 14) (o := p1) kX8_declared_c0.2.1 wf_X8_76 (.inr (by exact hlp1)) ?_
  refine kz_getsE (M := kt_M306) (v := va_rf (some (E.1.1 28))) kX8_declared_c0.2.2.1 zs_X8_295 ?_
  refine kz_acmp_ne (M := kt_M306) (x := w_p w 14 p1 0) (y := some (E.1.1 28)) kX8_declared_c0.2.2.2.1 (t := 21) rfl h (fun h => ?_) (fun h => ?_)
  · skip
    refine kz_aload_nv (M := kt_M306) (x := x1) kX8_declared_c1.2.1 rfl ?_
    refine kz_nz0 (x := x1) hxp1 ?_
    refine kz_gfp (M := kt_M306) (c := 14) (o := p1) kX8_declared_c1.2.2.1 wf_X8_76 (.inr (by exact hlp1)) ?_
    refine kz_getsE (M := kt_M306) (v := va_rf (some (E.1.1 25))) kX8_declared_c1.2.2.2.1 zs_X8_298 ?_
    refine kz_acmp_ne (M := kt_M306) (x := w_p w 14 p1 0) (y := some (E.1.1 25)) kX8_declared_c1.2.2.2.2.1 (t := 52) rfl h (fun h => ?_) (fun h => ?_)
    · skip
      exact kz_weak [(0, .ref (w_adr E.2.1 7 0))] ⟨rfl, trivial⟩ rfl (zt_X8_declared_p52 hL  h)
    · skip
      refine kz_aload_nv (M := kt_M306) (x := x1) kX8_declared_c1.2.2.2.2.2.1 rfl ?_
      refine kz_nz0 (x := x1) hxp1 ?_
      refine kz_gfp (M := kt_M306) (c := 14) (o := p1) kX8_declared_c1.2.2.2.2.2.2.1 wf_X8_58 (.inr (by exact hlp1)) ?_
      obtain ⟨p2, hxp2, hlp2, h⟩ := h
      refine kz_nz0 (x := w_p w 14 p1 3) hxp2 ?_
      refine kz_gfp (M := kt_M306) (c := 14) (o := p2) kX8_declared_c1.2.2.2.2.2.2.2.1 wf_X8_58 (.inr (by exact hlp2)) ?_
      refine kz_ifnull (M := kt_M306) (x := w_p w 14 p2 3) kX8_declared_c2.1 (t := 52) rfl h (fun h => ?_) (fun h => ?_)
      · skip
        exact kz_weak [(0, .ref (w_adr E.2.1 7 0))] ⟨rfl, trivial⟩ rfl (zt_X8_declared_p52 hL  h)
      · skip
        refine kz_aload_n (M := kt_M306) kX8_declared_c2.2.1 rfl ?_
        refine kz_aload_nv (M := kt_M306) (x := x1) kX8_declared_c2.2.2.1 rfl ?_
        refine kz_nz0 (x := x1) hxp1 ?_
        refine kz_gfp (M := kt_M306) (c := 14) (o := p1) kX8_declared_c2.2.2.2.1 wf_X8_58 (.inr (by exact hlp1)) ?_
        refine kz_nz0 (x := w_p w 14 p1 3) hxp2 ?_
        refine kz_gfp (M := kt_M306) (c := 14) (o := p2) kX8_declared_c2.2.2.2.2.1 wf_X8_58 (.inr (by exact hlp2)) ?_
        refine kz_cv0 (M := kt_M306) (c := 7) (o := 0) (As := [va_rf (w_p w 14 p2 3)]) (rest := []) kX8_declared_c2.2.2.2.2.2.1 wl_X8_122 wMv_308 rfl (.inl rfl) rfl (Nat.le_trans (Nat.le_of_ble_eq_true rfl) hL) (by simp [lg_sl, w_cat, z_ci, z_cr, z_cl, z_cn, kt_M308]) (Nat.le_of_ble_eq_true rfl) h (fun w3 hle h => ?_) (fun _ _ _ h => kzx_no rfl h)
        have h := h hle
        have hlp1 := w_l_le hlp1 hle
        have hlp2 := w_l_le hlp2 hle
        exact kz_weak [(0, .ref (w_adr E.2.1 7 0))] ⟨rfl, trivial⟩ rfl (zt_X8_declared_p52 hL  h)
  · skip
    refine kz_aload_n (M := kt_M306) kX8_declared_c0.2.2.2.2.1 rfl ?_
    refine kz_aload_nv (M := kt_M306) (x := x1) kX8_declared_c0.2.2.2.2.2.1 rfl ?_
    refine kz_nz0 (x := x1) hxp1 ?_
    refine kz_gfp (M := kt_M306) (c := 14) (o := p1) kX8_declared_c0.2.2.2.2.2.2.1 wf_X8_58 (.inr (by exact hlp1)) ?_
    refine kz_cv0 (M := kt_M306) (c := 7) (o := 0) (As := [va_rf (w_p w 14 p1 3)]) (rest := []) kX8_declared_c0.2.2.2.2.2.2.2.1 wl_X8_122 wMv_308 rfl (.inl rfl) rfl (Nat.le_trans (Nat.le_of_ble_eq_true rfl) hL) (by simp [lg_sl, w_cat, z_ci, z_cr, z_cl, z_cn, kt_M308]) (Nat.le_of_ble_eq_true rfl) h (fun w5 hle h => ?_) (fun _ _ _ h => kzx_no rfl h)
    have h := h hle
    have hlp1 := w_l_le hlp1 hle
    refine kz_goto (M := kt_M306) kX8_declared_c1.1 (t := 52) rfl ?_
    exact kz_weak [(0, .ref (w_adr E.2.1 7 0))] ⟨rfl, trivial⟩ rfl (zt_X8_declared_p52 hL  h)
def zb_X8_expression_p194 (E : zE) (L : Nat) (Q : kx_Rs → wS → Prop) (w : wS) : Prop := Q (.inl none) w
theorem zt_X8_expression_p194 {E : zE} {L : Nat} {Q : kx_Rs → wS → Prop} {w : wS} (hL : 23 ≤ L) (h : zb_X8_expression_p194 E L Q  w) : kzE E L kt_M308 194 [(0, .ref (w_adr E.2.1 7 0))] [] w Q := by
  unfold zb_X8_expression_p194 at h
  exact kz_ret (M := kt_M308) kX8_expression_c9.2.1 rfl h
def zb_X8_expression_p178 (E : zE) (L : Nat) (Q : kx_Rs → wS → Prop) (x1 : Option Nat) (x2 : Int32) (w : wS) : Prop := (∃ p1, x1 = some p1 ∧ w_l w E.2.1 14 p1 ∧ zw E (L - 23) kt_M318 [.ref (w_adr E.2.1 7 0), va_rf (w_p w 14 p1 16)] w (wk0 (fun w2 => wle w w2 → zb_X8_expression_p194 E L Q (ws_i w2 7 0 13 x2)) (fun e w => Q (.inr e) w)))
theorem zt_X8_expression_p178 {E : zE} {L : Nat} {Q : kx_Rs → wS → Prop} {x1 : Option Nat} {x2 : Int32} {w : wS} (hL : 23 ≤ L) (h : zb_X8_expression_p178 E L Q x1 x2 w) : kzE E L kt_M308 178 [(0, .ref (w_adr E.2.1 7 0)), (1, va_rf (x1)), (2, .int x2)] [] w Q := by
  unfold zb_X8_expression_p178 at h
  refine kz_aload_n (M := kt_M308) kX8_expression_c8.2.1 rfl ?_
  refine kz_aload_nv (M := kt_M308) (x := x1) kX8_expression_c8.2.2.1 rfl ?_
  obtain ⟨p1, hxp1, hlp1, h⟩ := h
  refine kz_nz0 (x := x1) hxp1 ?_
  refine kz_gfp (M := kt_M308) (c := 14) (o := p1) kX8_expression_c8.2.2.2.1 wf_X8_131 (.inr (by exact hlp1)) ?_
  refine kz_cv0 (M := kt_M308) (c := 7) (o := 0) (As := [va_rf (w_p w 14 p1 16)]) (rest := []) kX8_expression_c8.2.2.2.2.1 wl_X8_328 wMv_318 rfl (.inl rfl) rfl (Nat.le_trans (Nat.le_of_ble_eq_true rfl) hL) (by simp [lg_sl, w_cat, z_ci, z_cr, z_cl, z_cn, kt_M318]) (Nat.le_of_ble_eq_true rfl) h (fun w2 hle h => ?_) (fun _ _ _ h => kzx_no rfl h)
  have h := h hle
  have hlp1 := w_l_le hlp1 hle
  refine kz_aload_n (M := kt_M308) kX8_expression_c8.2.2.2.2.2.1 rfl ?_
  refine kz_iload_n (M := kt_M308) kX8_expression_c8.2.2.2.2.2.2.1 rfl ?_
  refine kz_pfi (M := kt_M308) (c := 7) (o := 0) kX8_expression_c8.2.2.2.2.2.2.2.1 wq_X8_116 (.inl rfl) ?_
  refine kz_goto (M := kt_M308) kX8_expression_c9.1 (t := 194) rfl ?_
  exact kz_weak [(0, .ref (w_adr E.2.1 7 0))] ⟨rfl, trivial⟩ rfl (zt_X8_expression_p194 hL  h)
def zb_X8_expression_p0 (E : zE) (L : Nat) (Q : kx_Rs → wS → Prop) (x1 : Option Nat) (w : wS) : Prop := (∃ p1, x1 = some p1 ∧ w_l w E.2.1 14 p1 ∧ (∃ i2, zO E "MeetingHouse$Kind" (w_p w 14 p1 0) i2 ∧ (if (kw_on i2) = 37 then zw E (L - 22) kt_M308 [.ref (w_adr E.2.1 7 0), va_rf (w_p w 14 p1 3)] w (wk0 (fun w3 => wle w w3 → zb_X8_expression_p194 E L Q w3) (fun e w => Q (.inr e) w)) else (if (kw_on i2) = 38 then zw E (L - 22) kt_M309 [.ref (w_adr E.2.1 7 0), va_rf (w_p w 14 p1 3)] w (wk0 (fun w5 => wle w w5 → zb_X8_expression_p194 E L Q w5) (fun e w => Q (.inr e) w)) else (if (kw_on i2) = 39 then (∃ p7, w_p w 14 p1 16 = some p7 ∧ w_l w E.2.1 15 p7 ∧ (if ¬ w_p w 15 p7 0 = some (E.1.1 54) then (if (w_p w 14 p1 3) = none then zb_X8_expression_p194 E L Q w else zw E (L - 22) kt_M308 [.ref (w_adr E.2.1 7 0), va_rf (w_p w 14 p1 3)] w (wk0 (fun w8 => wle w w8 → zb_X8_expression_p194 E L Q w8) (fun e w => Q (.inr e) w))) else zw E (L - 22) kt_M307 [.ref (w_adr E.2.1 7 0), va_rf (x1), .int 1] w (wk0 (fun w10 => wle w w10 → zb_X8_expression_p194 E L Q w10) (fun e w => Q (.inr e) w)))) else (if (kw_on i2) = 40 then zw E (L - 22) kt_M309 [.ref (w_adr E.2.1 7 0), va_rf (w_p w 14 p1 4)] w (wk0 (fun w12 => wle w w12 → (if ¬ w_i w12 7 0 13 = (-1) then zb_X8_expression_p178 E L Q x1 (w_i w12 7 0 13) w12 else zb_X8_expression_p178 E L Q x1 (w_i w12 7 0 13) (ws_i w12 7 0 13 (w_i w12 14 p1 2)))) (fun e w => Q (.inr e) w)) else (if (kw_on i2) = 41 then (if w_i w 14 p1 8 = 27 then zb_X8_expression_p194 E L Q w else zw E (L - 22) kt_M308 [.ref (w_adr E.2.1 7 0), va_rf (w_p w 14 p1 3)] w (wk0 (fun w14 => wle w w14 → zb_X8_expression_p194 E L Q w14) (fun e w => Q (.inr e) w))) else (if (kw_on i2) = 42 then zw E (L - 22) kt_M308 [.ref (w_adr E.2.1 7 0), va_rf (w_p w 14 p1 3)] w (wk0 (fun w16 => wle w w16 → zw E (L - 22) kt_M308 [.ref (w_adr E.2.1 7 0), va_rf (w_p w16 14 p1 4)] w16 (wk0 (fun w18 => wle w16 w18 → zb_X8_expression_p194 E L Q w18) (fun e w => Q (.inr e) w))) (fun e w => Q (.inr e) w)) else (if (kw_on i2) = 43 then zw E (L - 22) kt_M309 [.ref (w_adr E.2.1 7 0), va_rf (w_p w 14 p1 3)] w (wk0 (fun w20 => wle w w20 → zb_X8_expression_p194 E L Q w20) (fun e w => Q (.inr e) w)) else zb_X8_expression_p194 E L Q w)))))))))
theorem zt_X8_expression_p0 {E : zE} {L : Nat} {Q : kx_Rs → wS → Prop} {x1 : Option Nat} {w : wS} (hL : 23 ≤ L) (h : zb_X8_expression_p0 E L Q x1 w) : kzE E L kt_M308 0 [(0, .ref (w_adr E.2.1 7 0)), (1, va_rf (x1))] [] w Q := by
  unfold zb_X8_expression_p0 at h
  refine kz_aload_nv (M := kt_M308) (x := x1) kX8_expression_c0.1 rfl ?_
  obtain ⟨p1, hxp1, hlp1, h⟩ := h
  refine kz_nz0 (x := x1) hxp1 ?_
  refine kz_gfp (M := kt_M308) (c := 14) (o := p1) kX8_expression_c0.2.1 wf_X8_76 (.inr (by exact hlp1)) ?_
  obtain ⟨i2, ho, h⟩ := h
  refine kz_ord (M := kt_M308) (x := w_p w 14 p1 0) (i := i2) (C := "MeetingHouse$Kind") kX8_expression_c0.2.2.1 zo_l_X8 zo_m_X8 zo_s_Kind zo_u_X8 (Nat.le_trans (Nat.le_of_ble_eq_true rfl) hL) (Nat.le_of_ble_eq_true rfl) ho ?_
  refine kz_tsw (M := kt_M308) [(37, 48), (38, 98), (39, 109), (40, 149), (41, 59), (42, 79), (43, 98)] [_, _, _, _, _, _, _] 194 dX8_expression_p7 (by decide +kernel) h ⟨fun h => ?_, fun h => ?_, fun h => ?_, fun h => ?_, fun h => ?_, fun h => ?_, fun h => ?_, trivial⟩ (fun h => ?_)
  · skip
    refine kz_aload_n (M := kt_M308) kX8_expression_c0.2.2.2.2.1 rfl ?_
    refine kz_aload_nv (M := kt_M308) (x := x1) kX8_expression_c0.2.2.2.2.2.1 rfl ?_
    refine kz_nz0 (x := x1) hxp1 ?_
    refine kz_gfp (M := kt_M308) (c := 14) (o := p1) kX8_expression_c0.2.2.2.2.2.2.1 wf_X8_58 (.inr (by exact hlp1)) ?_
    refine kz_cv0 (M := kt_M308) (c := 7) (o := 0) (As := [va_rf (w_p w 14 p1 3)]) (rest := []) kX8_expression_c0.2.2.2.2.2.2.2.1 wl_X8_122 wMv_308 rfl (.inl rfl) rfl (Nat.le_trans (Nat.le_of_ble_eq_true rfl) hL) (by simp [lg_sl, w_cat, z_ci, z_cr, z_cl, z_cn, kt_M308]) (Nat.le_of_ble_eq_true rfl) h (fun w3 hle h => ?_) (fun _ _ _ h => kzx_no rfl h)
    have h := h hle
    have hlp1 := w_l_le hlp1 hle
    refine kz_goto (M := kt_M308) kX8_expression_c1.1 (t := 194) rfl ?_
    exact kz_weak [(0, .ref (w_adr E.2.1 7 0))] ⟨rfl, trivial⟩ rfl (zt_X8_expression_p194 hL  h)
  · skip
    refine kz_aload_n (M := kt_M308) kX8_expression_c3.2.2.2.1 rfl ?_
    refine kz_aload_nv (M := kt_M308) (x := x1) kX8_expression_c3.2.2.2.2.1 rfl ?_
    refine kz_nz0 (x := x1) hxp1 ?_
    refine kz_gfp (M := kt_M308) (c := 14) (o := p1) kX8_expression_c3.2.2.2.2.2.1 wf_X8_58 (.inr (by exact hlp1)) ?_
    refine kz_cv0 (M := kt_M308) (c := 7) (o := 0) (As := [va_rf (w_p w 14 p1 3)]) (rest := []) kX8_expression_c3.2.2.2.2.2.2.1 wl_X8_301 wMv_309 rfl (.inl rfl) rfl (Nat.le_trans (Nat.le_of_ble_eq_true rfl) hL) (by simp [lg_sl, w_cat, z_ci, z_cr, z_cl, z_cn, kt_M309]) (Nat.le_of_ble_eq_true rfl) h (fun w5 hle h => ?_) (fun _ _ _ h => kzx_no rfl h)
    have h := h hle
    have hlp1 := w_l_le hlp1 hle
    refine kz_goto (M := kt_M308) kX8_expression_c3.2.2.2.2.2.2.2.1 (t := 194) rfl ?_
    exact kz_weak [(0, .ref (w_adr E.2.1 7 0))] ⟨rfl, trivial⟩ rfl (zt_X8_expression_p194 hL  h)
  · skip
    refine kz_aload_nv (M := kt_M308) (x := x1) kX8_expression_c4.1 rfl ?_
    refine kz_nz0 (x := x1) hxp1 ?_
    refine kz_gfp (M := kt_M308) (c := 14) (o := p1) kX8_expression_c4.2.1 wf_X8_131 (.inr (by exact hlp1)) ?_
    obtain ⟨p7, hxp7, hlp7, h⟩ := h
    refine kz_nz0 (x := w_p w 14 p1 16) hxp7 ?_
    refine kz_gfp (M := kt_M308) (c := 15) (o := p7) kX8_expression_c4.2.2.1 wf_X8_248 (.inr (by exact hlp7)) ?_
    refine kz_getsE (M := kt_M308) (v := va_rf (some (E.1.1 54))) kX8_expression_c4.2.2.2.1 zs_X8_337 ?_
    refine kz_acmp_ne (M := kt_M308) (x := w_p w 15 p7 0) (y := some (E.1.1 54)) kX8_expression_c4.2.2.2.2.1 (t := 131) rfl h (fun h => ?_) (fun h => ?_)
    · skip
      refine kz_aload_nv (M := kt_M308) (x := x1) kX8_expression_c5.2.2.1 rfl ?_
      refine kz_nz0 (x := x1) hxp1 ?_
      refine kz_gfp (M := kt_M308) (c := 14) (o := p1) kX8_expression_c5.2.2.2.1 wf_X8_58 (.inr (by exact hlp1)) ?_
      refine kz_ifnull (M := kt_M308) (x := w_p w 14 p1 3) kX8_expression_c5.2.2.2.2.1 (t := 194) rfl h (fun h => ?_) (fun h => ?_)
      · skip
        exact kz_weak [(0, .ref (w_adr E.2.1 7 0))] ⟨rfl, trivial⟩ rfl (zt_X8_expression_p194 hL  h)
      · skip
        refine kz_aload_n (M := kt_M308) kX8_expression_c5.2.2.2.2.2.1 rfl ?_
        refine kz_aload_nv (M := kt_M308) (x := x1) kX8_expression_c5.2.2.2.2.2.2.1 rfl ?_
        refine kz_nz0 (x := x1) hxp1 ?_
        refine kz_gfp (M := kt_M308) (c := 14) (o := p1) kX8_expression_c5.2.2.2.2.2.2.2.1 wf_X8_58 (.inr (by exact hlp1)) ?_
        refine kz_cv0 (M := kt_M308) (c := 7) (o := 0) (As := [va_rf (w_p w 14 p1 3)]) (rest := []) kX8_expression_c6.1 wl_X8_122 wMv_308 rfl (.inl rfl) rfl (Nat.le_trans (Nat.le_of_ble_eq_true rfl) hL) (by simp [lg_sl, w_cat, z_ci, z_cr, z_cl, z_cn, kt_M308]) (Nat.le_of_ble_eq_true rfl) h (fun w8 hle h => ?_) (fun _ _ _ h => kzx_no rfl h)
        have h := h hle
        have hlp1 := w_l_le hlp1 hle
        have hlp7 := w_l_le hlp7 hle
        refine kz_goto (M := kt_M308) kX8_expression_c6.2.1 (t := 194) rfl ?_
        exact kz_weak [(0, .ref (w_adr E.2.1 7 0))] ⟨rfl, trivial⟩ rfl (zt_X8_expression_p194 hL  h)
    · skip
      refine kz_aload_n (M := kt_M308) kX8_expression_c4.2.2.2.2.2.1 rfl ?_
      refine kz_aload_nv (M := kt_M308) (x := x1) kX8_expression_c4.2.2.2.2.2.2.1 rfl ?_
      refine kz_ic (M := kt_M308) 1 kX8_expression_c4.2.2.2.2.2.2.2.1 rfl ?_
      refine kz_cv0 (M := kt_M308) (c := 7) (o := 0) (As := [va_rf (x1), .int 1]) (rest := []) kX8_expression_c5.1 wl_X8_310 wMv_307 rfl (.inl rfl) rfl (Nat.le_trans (Nat.le_of_ble_eq_true rfl) hL) (by simp [lg_sl, w_cat, z_ci, z_cr, z_cl, z_cn, kt_M307]) (Nat.le_of_ble_eq_true rfl) h (fun w10 hle h => ?_) (fun _ _ _ h => kzx_no rfl h)
      have h := h hle
      have hlp1 := w_l_le hlp1 hle
      have hlp7 := w_l_le hlp7 hle
      refine kz_goto (M := kt_M308) kX8_expression_c5.2.1 (t := 194) rfl ?_
      exact kz_weak [(0, .ref (w_adr E.2.1 7 0))] ⟨rfl, trivial⟩ rfl (zt_X8_expression_p194 hL  h)
  · skip
    refine kz_aload_n (M := kt_M308) kX8_expression_c6.2.2.1 rfl ?_
    refine kz_aload_nv (M := kt_M308) (x := x1) kX8_expression_c6.2.2.2.1 rfl ?_
    refine kz_nz0 (x := x1) hxp1 ?_
    refine kz_gfp (M := kt_M308) (c := 14) (o := p1) kX8_expression_c6.2.2.2.2.1 wf_X8_70 (.inr (by exact hlp1)) ?_
    refine kz_cv0 (M := kt_M308) (c := 7) (o := 0) (As := [va_rf (w_p w 14 p1 4)]) (rest := []) kX8_expression_c6.2.2.2.2.2.1 wl_X8_301 wMv_309 rfl (.inl rfl) rfl (Nat.le_trans (Nat.le_of_ble_eq_true rfl) hL) (by simp [lg_sl, w_cat, z_ci, z_cr, z_cl, z_cn, kt_M309]) (Nat.le_of_ble_eq_true rfl) h (fun w12 hle h => ?_) (fun _ _ _ h => kzx_no rfl h)
    have h := h hle
    have hlp1 := w_l_le hlp1 hle
    refine kz_aload_n (M := kt_M308) kX8_expression_c6.2.2.2.2.2.2.1 rfl ?_
    refine kz_gfi (M := kt_M308) (c := 7) (o := 0) kX8_expression_c6.2.2.2.2.2.2.2.1 wf_X8_116 (.inl rfl) ?_
    refine kz_sti_n (M := kt_M308) [(0, .ref (w_adr E.2.1 7 0)), (1, va_rf (x1))] kX8_expression_c7.1 (Nat.le_of_ble_eq_true rfl) ⟨⟨rfl, rfl, .inl rfl⟩, ⟨⟨rfl, rfl, .inr (w_cat (x1))⟩, trivial⟩⟩ rfl ?_
    refine kz_aload_n (M := kt_M308) kX8_expression_c7.2.1 rfl ?_
    refine kz_gfi (M := kt_M308) (c := 7) (o := 0) kX8_expression_c7.2.2.1 wf_X8_116 (.inl rfl) ?_
    refine kz_ic (M := kt_M308) (-1) kX8_expression_c7.2.2.2.1 rfl ?_
    refine kz_icmp_ne (M := kt_M308) kX8_expression_c7.2.2.2.2.1 (t := 178) rfl h (fun h => ?_) (fun h => ?_)
    · skip
      exact kz_weak [(0, .ref (w_adr E.2.1 7 0)), (1, va_rf (x1)), (2, .int (w_i w12 7 0 13))] ⟨rfl, ⟨rfl, ⟨rfl, trivial⟩⟩⟩ rfl (zt_X8_expression_p178 hL  h)
    · skip
      refine kz_aload_n (M := kt_M308) kX8_expression_c7.2.2.2.2.2.1 rfl ?_
      refine kz_aload_nv (M := kt_M308) (x := x1) kX8_expression_c7.2.2.2.2.2.2.1 rfl ?_
      refine kz_nz0 (x := x1) hxp1 ?_
      refine kz_gfi (M := kt_M308) (c := 14) (o := p1) kX8_expression_c7.2.2.2.2.2.2.2.1 wf_X8_195 (.inr (by exact hlp1)) ?_
      refine kz_pfi (M := kt_M308) (c := 7) (o := 0) kX8_expression_c8.1 wq_X8_116 (.inl rfl) ?_
      exact kz_weak [(0, .ref (w_adr E.2.1 7 0)), (1, va_rf (x1)), (2, .int (w_i w12 7 0 13))] ⟨rfl, ⟨rfl, ⟨rfl, trivial⟩⟩⟩ rfl (zt_X8_expression_p178 hL  h)
  · skip
    refine kz_aload_nv (M := kt_M308) (x := x1) kX8_expression_c1.2.1 rfl ?_
    refine kz_nz0 (x := x1) hxp1 ?_
    refine kz_gfi (M := kt_M308) (c := 14) (o := p1) kX8_expression_c1.2.2.1 wf_X8_332 (.inr (by exact hlp1)) ?_
    refine kz_bi (M := kt_M308) 27 kX8_expression_c1.2.2.2.1 rfl ?_
    refine kz_icmp_eq (M := kt_M308) kX8_expression_c1.2.2.2.2.1 (t := 194) rfl h (fun h => ?_) (fun h => ?_)
    · skip
      exact kz_weak [(0, .ref (w_adr E.2.1 7 0))] ⟨rfl, trivial⟩ rfl (zt_X8_expression_p194 hL  h)
    · skip
      refine kz_aload_n (M := kt_M308) kX8_expression_c1.2.2.2.2.2.1 rfl ?_
      refine kz_aload_nv (M := kt_M308) (x := x1) kX8_expression_c1.2.2.2.2.2.2.1 rfl ?_
      refine kz_nz0 (x := x1) hxp1 ?_
      refine kz_gfp (M := kt_M308) (c := 14) (o := p1) kX8_expression_c1.2.2.2.2.2.2.2.1 wf_X8_58 (.inr (by exact hlp1)) ?_
      refine kz_cv0 (M := kt_M308) (c := 7) (o := 0) (As := [va_rf (w_p w 14 p1 3)]) (rest := []) kX8_expression_c2.1 wl_X8_122 wMv_308 rfl (.inl rfl) rfl (Nat.le_trans (Nat.le_of_ble_eq_true rfl) hL) (by simp [lg_sl, w_cat, z_ci, z_cr, z_cl, z_cn, kt_M308]) (Nat.le_of_ble_eq_true rfl) h (fun w14 hle h => ?_) (fun _ _ _ h => kzx_no rfl h)
      have h := h hle
      have hlp1 := w_l_le hlp1 hle
      refine kz_goto (M := kt_M308) kX8_expression_c2.2.1 (t := 194) rfl ?_
      exact kz_weak [(0, .ref (w_adr E.2.1 7 0))] ⟨rfl, trivial⟩ rfl (zt_X8_expression_p194 hL  h)
  · skip
    refine kz_aload_n (M := kt_M308) kX8_expression_c2.2.2.1 rfl ?_
    refine kz_aload_nv (M := kt_M308) (x := x1) kX8_expression_c2.2.2.2.1 rfl ?_
    refine kz_nz0 (x := x1) hxp1 ?_
    refine kz_gfp (M := kt_M308) (c := 14) (o := p1) kX8_expression_c2.2.2.2.2.1 wf_X8_58 (.inr (by exact hlp1)) ?_
    refine kz_cv0 (M := kt_M308) (c := 7) (o := 0) (As := [va_rf (w_p w 14 p1 3)]) (rest := []) kX8_expression_c2.2.2.2.2.2.1 wl_X8_122 wMv_308 rfl (.inl rfl) rfl (Nat.le_trans (Nat.le_of_ble_eq_true rfl) hL) (by simp [lg_sl, w_cat, z_ci, z_cr, z_cl, z_cn, kt_M308]) (Nat.le_of_ble_eq_true rfl) h (fun w16 hle h => ?_) (fun _ _ _ h => kzx_no rfl h)
    have h := h hle
    have hlp1 := w_l_le hlp1 hle
    refine kz_aload_n (M := kt_M308) kX8_expression_c2.2.2.2.2.2.2.1 rfl ?_
    refine kz_aload_nv (M := kt_M308) (x := x1) kX8_expression_c2.2.2.2.2.2.2.2.1 rfl ?_
    refine kz_nz0 (x := x1) hxp1 ?_
    refine kz_gfp (M := kt_M308) (c := 14) (o := p1) kX8_expression_c3.1 wf_X8_70 (.inr (by exact hlp1)) ?_
    refine kz_cv0 (M := kt_M308) (c := 7) (o := 0) (As := [va_rf (w_p w16 14 p1 4)]) (rest := []) kX8_expression_c3.2.1 wl_X8_122 wMv_308 rfl (.inl rfl) rfl (Nat.le_trans (Nat.le_of_ble_eq_true rfl) hL) (by simp [lg_sl, w_cat, z_ci, z_cr, z_cl, z_cn, kt_M308]) (Nat.le_of_ble_eq_true rfl) h (fun w18 hle h => ?_) (fun _ _ _ h => kzx_no rfl h)
    have h := h hle
    have hlp1 := w_l_le hlp1 hle
    refine kz_goto (M := kt_M308) kX8_expression_c3.2.2.1 (t := 194) rfl ?_
    exact kz_weak [(0, .ref (w_adr E.2.1 7 0))] ⟨rfl, trivial⟩ rfl (zt_X8_expression_p194 hL  h)
  · skip
    refine kz_aload_n (M := kt_M308) kX8_expression_c3.2.2.2.1 rfl ?_
    refine kz_aload_nv (M := kt_M308) (x := x1) kX8_expression_c3.2.2.2.2.1 rfl ?_
    refine kz_nz0 (x := x1) hxp1 ?_
    refine kz_gfp (M := kt_M308) (c := 14) (o := p1) kX8_expression_c3.2.2.2.2.2.1 wf_X8_58 (.inr (by exact hlp1)) ?_
    refine kz_cv0 (M := kt_M308) (c := 7) (o := 0) (As := [va_rf (w_p w 14 p1 3)]) (rest := []) kX8_expression_c3.2.2.2.2.2.2.1 wl_X8_301 wMv_309 rfl (.inl rfl) rfl (Nat.le_trans (Nat.le_of_ble_eq_true rfl) hL) (by simp [lg_sl, w_cat, z_ci, z_cr, z_cl, z_cn, kt_M309]) (Nat.le_of_ble_eq_true rfl) h (fun w20 hle h => ?_) (fun _ _ _ h => kzx_no rfl h)
    have h := h hle
    have hlp1 := w_l_le hlp1 hle
    refine kz_goto (M := kt_M308) kX8_expression_c3.2.2.2.2.2.2.2.1 (t := 194) rfl ?_
    exact kz_weak [(0, .ref (w_adr E.2.1 7 0))] ⟨rfl, trivial⟩ rfl (zt_X8_expression_p194 hL  h)
  · skip
    exact kz_weak [(0, .ref (w_adr E.2.1 7 0))] ⟨rfl, trivial⟩ rfl (zt_X8_expression_p194 hL  h)
def zL_X8_expressions_p2 (E : zE) (L : Nat) (Q : kx_Rs → wS → Prop) (x2 : Option Nat) (w : wS) : Prop := kzE E L kt_M309 2 [(0, .ref (w_adr E.2.1 7 0)), (2, va_rf (x2))] [] w Q
def zb_X8_expressions_p2 (E : zE) (L : Nat) (Q : kx_Rs → wS → Prop) (x2 : Option Nat) (w : wS) : Prop := (if x2 = none then Q (.inl none) w else zw E (L - 22) kt_M308 [.ref (w_adr E.2.1 7 0), va_rf (x2)] w (wk0 (fun w1 => wle w w1 → (∃ p3, x2 = some p3 ∧ w_l w1 E.2.1 14 p3 ∧ zL_X8_expressions_p2 E L Q (w_p w1 14 p3 7) w1)) (fun e w => Q (.inr e) w)))
theorem zt_X8_expressions_p2 {E : zE} {L : Nat} {Q : kx_Rs → wS → Prop} {x2 : Option Nat} {w : wS} (hL : 22 ≤ L) (h : zb_X8_expressions_p2 E L Q x2 w) : kzE E L kt_M309 2 [(0, .ref (w_adr E.2.1 7 0)), (2, va_rf (x2))] [] w Q := by
  unfold zb_X8_expressions_p2 at h
  refine kz_aload_nv (M := kt_M309) (x := x2) kX8_expressions_c0.2.2.1 rfl ?_
  refine kz_ifnull (M := kt_M309) (x := x2) kX8_expressions_c0.2.2.2.1 (t := 19) rfl h (fun h => ?_) (fun h => ?_)
  · skip
    exact kz_ret (M := kt_M309) kX8_expressions_c1.2.2.2.1 rfl h
  · skip
    refine kz_aload_n (M := kt_M309) kX8_expressions_c0.2.2.2.2.1 rfl ?_
    refine kz_aload_nv (M := kt_M309) (x := x2) kX8_expressions_c0.2.2.2.2.2.1 rfl ?_
    refine kz_cv0 (M := kt_M309) (c := 7) (o := 0) (As := [va_rf (x2)]) (rest := []) kX8_expressions_c0.2.2.2.2.2.2.1 wl_X8_122 wMv_308 rfl (.inl rfl) rfl (Nat.le_trans (Nat.le_of_ble_eq_true rfl) hL) (by simp [lg_sl, w_cat, z_ci, z_cr, z_cl, z_cn, kt_M308]) (Nat.le_of_ble_eq_true rfl) h (fun w1 hle h => ?_) (fun _ _ _ h => kzx_no rfl h)
    have h := h hle
    refine kz_aload_nv (M := kt_M309) (x := x2) kX8_expressions_c0.2.2.2.2.2.2.2.1 rfl ?_
    obtain ⟨p3, hxp3, hlp3, h⟩ := h
    refine kz_nz0 (x := x2) hxp3 ?_
    refine kz_gfp (M := kt_M309) (c := 14) (o := p3) kX8_expressions_c1.1 wf_X8_67 (.inr (by exact hlp3)) ?_
    refine kz_stv_n (M := kt_M309) (x := w_p w1 14 p3 7) [(0, .ref (w_adr E.2.1 7 0))] kX8_expressions_c1.2.1 (Nat.le_of_ble_eq_true rfl) ⟨⟨rfl, rfl, .inl rfl⟩, trivial⟩ rfl ?_
    refine kz_goto (M := kt_M309) kX8_expressions_c1.2.2.1 (t := 2) rfl ?_
    exact kz_weak [(0, .ref (w_adr E.2.1 7 0)), (2, va_rf (w_p w1 14 p3 7))] ⟨rfl, ⟨rfl, trivial⟩⟩ rfl h
def zb_X8_expressions_p0 (E : zE) (L : Nat) (Q : kx_Rs → wS → Prop) (x1 : Option Nat) (w : wS) : Prop := zL_X8_expressions_p2 E L Q x1 w
theorem zt_X8_expressions_p0 {E : zE} {L : Nat} {Q : kx_Rs → wS → Prop} {x1 : Option Nat} {w : wS} (hL : 22 ≤ L) (h : zb_X8_expressions_p0 E L Q x1 w) : kzE E L kt_M309 0 [(0, .ref (w_adr E.2.1 7 0)), (1, va_rf (x1))] [] w Q := by
  unfold zb_X8_expressions_p0 at h
  refine kz_aload_nv (M := kt_M309) (x := x1) kX8_expressions_c0.1 rfl ?_
  refine kz_stv_n (M := kt_M309) (x := x1) [(0, .ref (w_adr E.2.1 7 0))] kX8_expressions_c0.2.1 (Nat.le_of_ble_eq_true rfl) ⟨⟨rfl, rfl, .inl rfl⟩, trivial⟩ rfl ?_
  exact kz_weak [(0, .ref (w_adr E.2.1 7 0)), (2, va_rf (x1))] ⟨rfl, ⟨rfl, trivial⟩⟩ rfl h
def zb_X8_element_p15 (E : zE) (L : Nat) (Q : kx_Rs → wS → Prop) (x1 : Option Nat) (x2 : Int32) (w : wS) : Prop := (∃ p1, x1 = some p1 ∧ w_l w E.2.1 14 p1 ∧ zw E (L - 25) kt_M298 [.ref (w_adr E.2.1 7 0), va_rf (w_p w 14 p1 16), va_rf (w_p w 14 p1 3), .int x2, .int (w_i w 14 p1 2)] w (wk0 (fun w2 => wle w w2 → Q (.inl none) w2) (fun e w => Q (.inr e) w)))
theorem zt_X8_element_p15 {E : zE} {L : Nat} {Q : kx_Rs → wS → Prop} {x1 : Option Nat} {x2 : Int32} {w : wS} (hL : 25 ≤ L) (h : zb_X8_element_p15 E L Q x1 x2 w) : kzE E L kt_M307 15 [(0, .ref (w_adr E.2.1 7 0)), (1, va_rf (x1)), (2, .int x2)] [] w Q := by
  unfold zb_X8_element_p15 at h
  refine kz_aload_n (M := kt_M307) kX8_element_c0.2.2.2.2.2.2.2.1 rfl ?_
  refine kz_aload_nv (M := kt_M307) (x := x1) kX8_element_c1.1 rfl ?_
  obtain ⟨p1, hxp1, hlp1, h⟩ := h
  refine kz_nz0 (x := x1) hxp1 ?_
  refine kz_gfp (M := kt_M307) (c := 14) (o := p1) kX8_element_c1.2.1 wf_X8_131 (.inr (by exact hlp1)) ?_
  refine kz_aload_nv (M := kt_M307) (x := x1) kX8_element_c1.2.2.1 rfl ?_
  refine kz_nz0 (x := x1) hxp1 ?_
  refine kz_gfp (M := kt_M307) (c := 14) (o := p1) kX8_element_c1.2.2.2.1 wf_X8_58 (.inr (by exact hlp1)) ?_
  refine kz_iload_n (M := kt_M307) kX8_element_c1.2.2.2.2.1 rfl ?_
  refine kz_aload_nv (M := kt_M307) (x := x1) kX8_element_c1.2.2.2.2.2.1 rfl ?_
  refine kz_nz0 (x := x1) hxp1 ?_
  refine kz_gfi (M := kt_M307) (c := 14) (o := p1) kX8_element_c1.2.2.2.2.2.2.1 wf_X8_195 (.inr (by exact hlp1)) ?_
  refine kz_cv0 (M := kt_M307) (c := 7) (o := 0) (As := [va_rf (w_p w 14 p1 16), va_rf (w_p w 14 p1 3), .int x2, .int (w_i w 14 p1 2)]) (rest := []) kX8_element_c1.2.2.2.2.2.2.2.1 wl_X8_324 wMv_298 rfl (.inl rfl) rfl (Nat.le_trans (Nat.le_of_ble_eq_true rfl) hL) (by simp [lg_sl, w_cat, z_ci, z_cr, z_cl, z_cn, kt_M298]) (Nat.le_of_ble_eq_true rfl) h (fun w2 hle h => ?_) (fun _ _ _ h => kzx_no rfl h)
  have h := h hle
  have hlp1 := w_l_le hlp1 hle
  exact kz_ret (M := kt_M307) kX8_element_c2.1 rfl h
def zb_X8_element_p0 (E : zE) (L : Nat) (Q : kx_Rs → wS → Prop) (x1 : Option Nat) (x2 : Int32) (w : wS) : Prop := (∃ p1, x1 = some p1 ∧ w_l w E.2.1 14 p1 ∧ (if (w_p w 14 p1 3) = none then zb_X8_element_p15 E L Q x1 x2 w else zw E (L - 22) kt_M308 [.ref (w_adr E.2.1 7 0), va_rf (w_p w 14 p1 3)] w (wk0 (fun w2 => wle w w2 → zb_X8_element_p15 E L Q x1 x2 w2) (fun e w => Q (.inr e) w))))
theorem zt_X8_element_p0 {E : zE} {L : Nat} {Q : kx_Rs → wS → Prop} {x1 : Option Nat} {x2 : Int32} {w : wS} (hL : 25 ≤ L) (h : zb_X8_element_p0 E L Q x1 x2 w) : kzE E L kt_M307 0 [(0, .ref (w_adr E.2.1 7 0)), (1, va_rf (x1)), (2, .int x2)] [] w Q := by
  unfold zb_X8_element_p0 at h
  refine kz_aload_nv (M := kt_M307) (x := x1) kX8_element_c0.1 rfl ?_
  obtain ⟨p1, hxp1, hlp1, h⟩ := h
  refine kz_nz0 (x := x1) hxp1 ?_
  refine kz_gfp (M := kt_M307) (c := 14) (o := p1) kX8_element_c0.2.1 wf_X8_58 (.inr (by exact hlp1)) ?_
  refine kz_ifnull (M := kt_M307) (x := w_p w 14 p1 3) kX8_element_c0.2.2.1 (t := 15) rfl h (fun h => ?_) (fun h => ?_)
  · skip
    exact kz_weak [(0, .ref (w_adr E.2.1 7 0)), (1, va_rf (x1)), (2, .int x2)] ⟨rfl, ⟨rfl, ⟨rfl, trivial⟩⟩⟩ rfl (zt_X8_element_p15 hL  h)
  · skip
    refine kz_aload_n (M := kt_M307) kX8_element_c0.2.2.2.1 rfl ?_
    refine kz_aload_nv (M := kt_M307) (x := x1) kX8_element_c0.2.2.2.2.1 rfl ?_
    refine kz_nz0 (x := x1) hxp1 ?_
    refine kz_gfp (M := kt_M307) (c := 14) (o := p1) kX8_element_c0.2.2.2.2.2.1 wf_X8_58 (.inr (by exact hlp1)) ?_
    refine kz_cv0 (M := kt_M307) (c := 7) (o := 0) (As := [va_rf (w_p w 14 p1 3)]) (rest := []) kX8_element_c0.2.2.2.2.2.2.1 wl_X8_122 wMv_308 rfl (.inl rfl) rfl (Nat.le_trans (Nat.le_of_ble_eq_true rfl) hL) (by simp [lg_sl, w_cat, z_ci, z_cr, z_cl, z_cn, kt_M308]) (Nat.le_of_ble_eq_true rfl) h (fun w2 hle h => ?_) (fun _ _ _ h => kzx_no rfl h)
    have h := h hle
    have hlp1 := w_l_le hlp1 hle
    exact kz_weak [(0, .ref (w_adr E.2.1 7 0)), (1, va_rf (x1)), (2, .int x2)] ⟨rfl, ⟨rfl, ⟨rfl, trivial⟩⟩⟩ rfl (zt_X8_element_p15 hL  h)
def zb_X8_at_p20 (E : zE) (L : Nat) (Q : kx_Rs → wS → Prop) (x1 : Option Nat) (x2 : Option Nat) (x3 : Int32) (x5 : Int32) (w : wS) : Prop := zw E (L - 27) kt_M319 [.ref (w_adr E.2.1 7 0), va_rf (x1), va_rf (x2), .int x3] w (wk0 (fun w1 => wle w w1 → Q (.inl none) (ws_i w1 7 0 13 x5)) (fun e w => Q (.inr e) w))
theorem zt_X8_at_p20 {E : zE} {L : Nat} {Q : kx_Rs → wS → Prop} {x1 : Option Nat} {x2 : Option Nat} {x3 : Int32} {x5 : Int32} {w : wS} (hL : 27 ≤ L) (h : zb_X8_at_p20 E L Q x1 x2 x3 x5 w) : kzE E L kt_M298 20 [(0, .ref (w_adr E.2.1 7 0)), (1, va_rf (x1)), (2, va_rf (x2)), (3, .int x3), (5, .int x5)] [] w Q := by
  unfold zb_X8_at_p20 at h
  refine kz_aload_n (M := kt_M298) kX8_at_c1.2.2.1 rfl ?_
  refine kz_aload_nv (M := kt_M298) (x := x1) kX8_at_c1.2.2.2.1 rfl ?_
  refine kz_aload_nv (M := kt_M298) (x := x2) kX8_at_c1.2.2.2.2.1 rfl ?_
  refine kz_iload_n (M := kt_M298) kX8_at_c1.2.2.2.2.2.1 rfl ?_
  refine kz_cv0 (M := kt_M298) (c := 7) (o := 0) (As := [va_rf (x1), va_rf (x2), .int x3]) (rest := []) kX8_at_c1.2.2.2.2.2.2.1 wl_X8_244 wMv_319 rfl (.inl rfl) rfl (Nat.le_trans (Nat.le_of_ble_eq_true rfl) hL) (by simp [lg_sl, w_cat, z_ci, z_cr, z_cl, z_cn, kt_M319]) (Nat.le_of_ble_eq_true rfl) h (fun w1 hle h => ?_) (fun _ _ _ h => kzx_no rfl h)
  have h := h hle
  refine kz_aload_n (M := kt_M298) kX8_at_c1.2.2.2.2.2.2.2.1 rfl ?_
  refine kz_iload (M := kt_M298) kX8_at_c2.1 rfl ?_
  refine kz_pfi (M := kt_M298) (c := 7) (o := 0) kX8_at_c2.2.1 wq_X8_116 (.inl rfl) ?_
  exact kz_ret (M := kt_M298) kX8_at_c2.2.2.1 rfl h
def zb_X8_at_p0 (E : zE) (L : Nat) (Q : kx_Rs → wS → Prop) (x1 : Option Nat) (x2 : Option Nat) (x3 : Int32) (x4 : Int32) (w : wS) : Prop := (if ¬ w_i w 7 0 13 = (-1) then zb_X8_at_p20 E L Q x1 x2 x3 (w_i w 7 0 13) w else zb_X8_at_p20 E L Q x1 x2 x3 (w_i w 7 0 13) (ws_i w 7 0 13 x4))
theorem zt_X8_at_p0 {E : zE} {L : Nat} {Q : kx_Rs → wS → Prop} {x1 : Option Nat} {x2 : Option Nat} {x3 : Int32} {x4 : Int32} {w : wS} (hL : 27 ≤ L) (h : zb_X8_at_p0 E L Q x1 x2 x3 x4 w) : kzE E L kt_M298 0 [(0, .ref (w_adr E.2.1 7 0)), (1, va_rf (x1)), (2, va_rf (x2)), (3, .int x3), (4, .int x4)] [] w Q := by
  unfold zb_X8_at_p0 at h
  refine kz_aload_n (M := kt_M298) kX8_at_c0.1 rfl ?_
  refine kz_gfi (M := kt_M298) (c := 7) (o := 0) kX8_at_c0.2.1 wf_X8_116 (.inl rfl) ?_
  refine kz_sti (M := kt_M298) [(0, .ref (w_adr E.2.1 7 0)), (1, va_rf (x1)), (2, va_rf (x2)), (3, .int x3), (4, .int x4)] kX8_at_c0.2.2.1 (Nat.le_of_ble_eq_true rfl) ⟨⟨rfl, rfl, .inl rfl⟩, ⟨⟨rfl, rfl, .inl rfl⟩, ⟨⟨rfl, rfl, .inl rfl⟩, ⟨⟨rfl, rfl, .inl rfl⟩, ⟨⟨rfl, rfl, .inr rfl⟩, trivial⟩⟩⟩⟩⟩ rfl ?_
  refine kz_aload_n (M := kt_M298) kX8_at_c0.2.2.2.1 rfl ?_
  refine kz_gfi (M := kt_M298) (c := 7) (o := 0) kX8_at_c0.2.2.2.2.1 wf_X8_116 (.inl rfl) ?_
  refine kz_ic (M := kt_M298) (-1) kX8_at_c0.2.2.2.2.2.1 rfl ?_
  refine kz_icmp_ne (M := kt_M298) kX8_at_c0.2.2.2.2.2.2.1 (t := 20) rfl h (fun h => ?_) (fun h => ?_)
  · skip
    exact kz_weak [(0, .ref (w_adr E.2.1 7 0)), (1, va_rf (x1)), (2, va_rf (x2)), (3, .int x3), (5, .int (w_i w 7 0 13))] ⟨rfl, ⟨rfl, ⟨rfl, ⟨rfl, ⟨rfl, trivial⟩⟩⟩⟩⟩ rfl (zt_X8_at_p20 hL  h)
  · skip
    refine kz_aload_n (M := kt_M298) kX8_at_c0.2.2.2.2.2.2.2.1 rfl ?_
    refine kz_iload (M := kt_M298) kX8_at_c1.1 rfl ?_
    refine kz_pfi (M := kt_M298) (c := 7) (o := 0) kX8_at_c1.2.1 wq_X8_116 (.inl rfl) ?_
    exact kz_weak [(0, .ref (w_adr E.2.1 7 0)), (1, va_rf (x1)), (2, va_rf (x2)), (3, .int x3), (5, .int (w_i w 7 0 13))] ⟨rfl, ⟨rfl, ⟨rfl, ⟨rfl, ⟨rfl, trivial⟩⟩⟩⟩⟩ rfl (zt_X8_at_p20 hL  h)
def zL_X8_place_p158 (E : zE) (L : Nat) (Q : kx_Rs → wS → Prop) (x3 : Int32) (x4 : Option Nat) (x5 : Option Nat) (x6 : Int32) (w : wS) : Prop := kzE E L kt_M319 158 [(0, .ref (w_adr E.2.1 7 0)), (3, .int x3), (4, va_rf (x4)), (5, va_rf (x5)), (6, .int x6)] [] w Q
def zL_X8_place_p107 (E : zE) (L : Nat) (Q : kx_Rs → wS → Prop) (x3 : Int32) (x4 : Option Nat) (x5 : Option Nat) (x6 : Int32) (w : wS) : Prop := kzE E L kt_M319 107 [(0, .ref (w_adr E.2.1 7 0)), (3, .int x3), (4, va_rf (x4)), (5, va_rf (x5)), (6, .int x6)] [] w Q
def zL_X8_place_p6 (E : zE) (L : Nat) (Q : kx_Rs → wS → Prop) (x3 : Int32) (x4 : Option Nat) (x5 : Option Nat) (w : wS) : Prop := kzE E L kt_M319 6 [(0, .ref (w_adr E.2.1 7 0)), (3, .int x3), (4, va_rf (x4)), (5, va_rf (x5))] [] w Q
def zb_X8_place_p222 (E : zE) (L : Nat) (Q : kx_Rs → wS → Prop) (x3 : Int32) (x4 : Option Nat) (x5 : Option Nat) (w : wS) : Prop := zw E (L - 22) kt_M329 [.ref (w_adr E.2.1 7 0)] w (wk1 (fun v2 w1 => wle w w1 → zL_X8_place_p158 E L Q x3 x4 x5 v2 w1) (fun e w => Q (.inr e) w))
theorem zt_X8_place_p222 {E : zE} {L : Nat} {Q : kx_Rs → wS → Prop} {x3 : Int32} {x4 : Option Nat} {x5 : Option Nat} {w : wS} (hL : 28 ≤ L) (h : zb_X8_place_p222 E L Q x3 x4 x5 w) : kzE E L kt_M319 222 [(0, .ref (w_adr E.2.1 7 0)), (3, .int x3), (4, va_rf (x4)), (5, va_rf (x5))] [] w Q := by
  unfold zb_X8_place_p222 at h
  refine kz_aload_n (M := kt_M319) kX8_place_c12.2.2.2.2.2.2.2.1 rfl ?_
  refine kz_cv1 (M := kt_M319) (c := 7) (o := 0) (As := []) (rest := []) kX8_place_c13.1 wl_X8_362 wMv_329 rfl (.inl rfl) rfl (Nat.le_trans (Nat.le_of_ble_eq_true rfl) hL) (Nat.le_of_ble_eq_true rfl) (Nat.le_of_ble_eq_true rfl) h (fun v2 w1 hle h => ?_) (fun _ _ _ h => kzx_no rfl h)
  have h := h hle
  refine kz_sti (M := kt_M319) [(0, .ref (w_adr E.2.1 7 0)), (3, .int x3), (4, va_rf (x4)), (5, va_rf (x5))] kX8_place_c13.2.1 (Nat.le_of_ble_eq_true rfl) ⟨⟨rfl, rfl, .inl rfl⟩, ⟨⟨rfl, rfl, .inl rfl⟩, ⟨⟨rfl, rfl, .inl rfl⟩, ⟨⟨rfl, rfl, .inr (w_cat (x5))⟩, trivial⟩⟩⟩⟩ rfl ?_
  refine kz_goto (M := kt_M319) kX8_place_c13.2.2.1 (t := 158) rfl ?_
  exact kz_weak [(0, .ref (w_adr E.2.1 7 0)), (3, .int x3), (4, va_rf (x4)), (5, va_rf (x5)), (6, .int v2)] ⟨rfl, ⟨rfl, ⟨rfl, ⟨rfl, ⟨rfl, trivial⟩⟩⟩⟩⟩ rfl h
def zb_X8_place_p210 (E : zE) (L : Nat) (Q : kx_Rs → wS → Prop) (x3 : Int32) (x4 : Option Nat) (x5 : Option Nat) (x7 : Int32) (y0 : Int32) (y1 : Int32) (w : wS) : Prop := (if y0 ≤ y1 then zb_X8_place_p222 E L Q x3 x4 x5 w else zw E (L - 28) kt_M330 [.ref (w_adr E.2.1 7 0), va_rf (x4), .int x7, .int x3] w (wk0 (fun w1 => wle w w1 → zb_X8_place_p222 E L Q x3 x4 x5 w1) (fun e w => Q (.inr e) w)))
theorem zt_X8_place_p210 {E : zE} {L : Nat} {Q : kx_Rs → wS → Prop} {x3 : Int32} {x4 : Option Nat} {x5 : Option Nat} {x7 : Int32} {y0 : Int32} {y1 : Int32} {w : wS} (hL : 28 ≤ L) (h : zb_X8_place_p210 E L Q x3 x4 x5 x7 y0 y1 w) : kzE E L kt_M319 210 [(0, .ref (w_adr E.2.1 7 0)), (3, .int x3), (4, va_rf (x4)), (5, va_rf (x5)), (7, .int x7)] [.int y0, .int y1] w Q := by
  unfold zb_X8_place_p210 at h
  refine kz_icmp_ge (M := kt_M319) kX8_place_c12.2.1 (t := 222) rfl h (fun h => ?_) (fun h => ?_)
  · skip
    exact kz_weak [(0, .ref (w_adr E.2.1 7 0)), (3, .int x3), (4, va_rf (x4)), (5, va_rf (x5))] ⟨rfl, ⟨rfl, ⟨rfl, ⟨rfl, trivial⟩⟩⟩⟩ rfl (zt_X8_place_p222 hL  h)
  · skip
    refine kz_aload_n (M := kt_M319) kX8_place_c12.2.2.1 rfl ?_
    refine kz_aloadv (M := kt_M319) (x := x4) kX8_place_c12.2.2.2.1 rfl ?_
    refine kz_iload (M := kt_M319) kX8_place_c12.2.2.2.2.1 rfl ?_
    refine kz_iload_n (M := kt_M319) kX8_place_c12.2.2.2.2.2.1 rfl ?_
    refine kz_cv0 (M := kt_M319) (c := 7) (o := 0) (As := [va_rf (x4), .int x7, .int x3]) (rest := []) kX8_place_c12.2.2.2.2.2.2.1 wl_X8_347 wMv_330 rfl (.inl rfl) rfl (Nat.le_trans (Nat.le_of_ble_eq_true rfl) hL) (by simp [lg_sl, w_cat, z_ci, z_cr, z_cl, z_cn, kt_M330]) (Nat.le_of_ble_eq_true rfl) h (fun w1 hle h => ?_) (fun _ _ _ h => kzx_no rfl h)
    have h := h hle
    exact kz_weak [(0, .ref (w_adr E.2.1 7 0)), (3, .int x3), (4, va_rf (x4)), (5, va_rf (x5))] ⟨rfl, ⟨rfl, ⟨rfl, ⟨rfl, trivial⟩⟩⟩⟩ rfl (zt_X8_place_p222 hL  h)
def zb_X8_place_p158 (E : zE) (L : Nat) (Q : kx_Rs → wS → Prop) (x3 : Int32) (x4 : Option Nat) (x5 : Option Nat) (x6 : Int32) (w : wS) : Prop := (if x6 = 0 then Q (.inl none) w else zw E (L - 23) kt_M331 [.ref (w_adr E.2.1 7 0), va_rf (x5)] (ws_i w 7 0 17 0) (wk1 (fun v2 w1 => wle (ws_i w 7 0 17 0) w1 → (if ¬ w_i w1 7 0 17 = 0 then zb_X8_place_p222 E L Q x3 x4 x5 w1 else (if v2 < 0 then zb_X8_place_p222 E L Q x3 x4 x5 w1 else (∃ p3, x4 = some p3 ∧ w_l w1 E.2.1 15 p3 ∧ (if ¬ w_i w1 15 p3 6 = (-1) then zb_X8_place_p210 E L Q x3 x4 x5 v2 (w_i w1 15 p3 6) v2 w1 else zb_X8_place_p210 E L Q x3 x4 x5 v2 200 v2 w1))))) (fun e w => Q (.inr e) w)))
theorem zt_X8_place_p158 {E : zE} {L : Nat} {Q : kx_Rs → wS → Prop} {x3 : Int32} {x4 : Option Nat} {x5 : Option Nat} {x6 : Int32} {w : wS} (hL : 28 ≤ L) (h : zb_X8_place_p158 E L Q x3 x4 x5 x6 w) : kzE E L kt_M319 158 [(0, .ref (w_adr E.2.1 7 0)), (3, .int x3), (4, va_rf (x4)), (5, va_rf (x5)), (6, .int x6)] [] w Q := by
  unfold zb_X8_place_p158 at h
  refine kz_iload (M := kt_M319) kX8_place_c9.2.2.1 rfl ?_
  refine kz_if_eq (M := kt_M319) kX8_place_c9.2.2.2.1 (t := 231) rfl h (fun h => ?_) (fun h => ?_)
  · skip
    exact kz_ret (M := kt_M319) kX8_place_c13.2.2.2.1 rfl h
  · skip
    refine kz_aload_n (M := kt_M319) kX8_place_c9.2.2.2.2.1 rfl ?_
    refine kz_ic (M := kt_M319) 0 kX8_place_c9.2.2.2.2.2.1 rfl ?_
    refine kz_pfz (M := kt_M319) (c := 7) (o := 0) kX8_place_c9.2.2.2.2.2.2.1 wq_X8_354 (.inl rfl) (by decide) ?_
    refine kz_aload_n (M := kt_M319) kX8_place_c9.2.2.2.2.2.2.2.1 rfl ?_
    refine kz_aloadv (M := kt_M319) (x := x5) kX8_place_c10.1 rfl ?_
    refine kz_cv1 (M := kt_M319) (c := 7) (o := 0) (As := [va_rf (x5)]) (rest := []) kX8_place_c10.2.1 wl_X8_357 wMv_331 rfl (.inl rfl) rfl (Nat.le_trans (Nat.le_of_ble_eq_true rfl) hL) (by simp [lg_sl, w_cat, z_ci, z_cr, z_cl, z_cn, kt_M331]) (Nat.le_of_ble_eq_true rfl) h (fun v2 w1 hle h => ?_) (fun _ _ _ h => kzx_no rfl h)
    have h := h hle
    refine kz_sti (M := kt_M319) [(0, .ref (w_adr E.2.1 7 0)), (3, .int x3), (4, va_rf (x4)), (5, va_rf (x5))] kX8_place_c10.2.2.1 (Nat.le_of_ble_eq_true rfl) ⟨⟨rfl, rfl, .inl rfl⟩, ⟨⟨rfl, rfl, .inl rfl⟩, ⟨⟨rfl, rfl, .inl rfl⟩, ⟨⟨rfl, rfl, .inl rfl⟩, trivial⟩⟩⟩⟩ rfl ?_
    refine kz_aload_n (M := kt_M319) kX8_place_c10.2.2.2.1 rfl ?_
    refine kz_gfi (M := kt_M319) (c := 7) (o := 0) kX8_place_c10.2.2.2.2.1 wf_X8_354 (.inl rfl) ?_
    refine kz_if_ne (M := kt_M319) kX8_place_c10.2.2.2.2.2.1 (t := 222) rfl h (fun h => ?_) (fun h => ?_)
    · skip
      exact kz_weak [(0, .ref (w_adr E.2.1 7 0)), (3, .int x3), (4, va_rf (x4)), (5, va_rf (x5))] ⟨rfl, ⟨rfl, ⟨rfl, ⟨rfl, trivial⟩⟩⟩⟩ rfl (zt_X8_place_p222 hL  h)
    · skip
      refine kz_iload (M := kt_M319) kX8_place_c10.2.2.2.2.2.2.1 rfl ?_
      refine kz_if_lt (M := kt_M319) kX8_place_c10.2.2.2.2.2.2.2.1 (t := 222) rfl h (fun h => ?_) (fun h => ?_)
      · skip
        exact kz_weak [(0, .ref (w_adr E.2.1 7 0)), (3, .int x3), (4, va_rf (x4)), (5, va_rf (x5))] ⟨rfl, ⟨rfl, ⟨rfl, ⟨rfl, trivial⟩⟩⟩⟩ rfl (zt_X8_place_p222 hL  h)
      · skip
        refine kz_iload (M := kt_M319) kX8_place_c11.1 rfl ?_
        refine kz_aloadv (M := kt_M319) (x := x4) kX8_place_c11.2.1 rfl ?_
        obtain ⟨p3, hxp3, hlp3, h⟩ := h
        refine kz_nz0 (x := x4) hxp3 ?_
        refine kz_gfi (M := kt_M319) (c := 15) (o := p3) kX8_place_c11.2.2.1 wf_X8_361 (.inr (by exact hlp3)) ?_
        refine kz_ic (M := kt_M319) (-1) kX8_place_c11.2.2.2.1 rfl ?_
        refine kz_icmp_ne (M := kt_M319) kX8_place_c11.2.2.2.2.1 (t := 205) rfl h (fun h => ?_) (fun h => ?_)
        · skip
          refine kz_aloadv (M := kt_M319) (x := x4) kX8_place_c11.2.2.2.2.2.2.2.1 rfl ?_
          refine kz_nz0 (x := x4) hxp3 ?_
          refine kz_gfi (M := kt_M319) (c := 15) (o := p3) kX8_place_c12.1 wf_X8_361 (.inr (by exact hlp3)) ?_
          exact kz_weak [(0, .ref (w_adr E.2.1 7 0)), (3, .int x3), (4, va_rf (x4)), (5, va_rf (x5)), (7, .int v2)] ⟨rfl, ⟨rfl, ⟨rfl, ⟨rfl, ⟨rfl, trivial⟩⟩⟩⟩⟩ rfl (zt_X8_place_p210 hL  h)
        · skip
          refine kz_si (M := kt_M319) 200 kX8_place_c11.2.2.2.2.2.1 rfl ?_
          refine kz_goto (M := kt_M319) kX8_place_c11.2.2.2.2.2.2.1 (t := 210) rfl ?_
          exact kz_weak [(0, .ref (w_adr E.2.1 7 0)), (3, .int x3), (4, va_rf (x4)), (5, va_rf (x5)), (7, .int v2)] ⟨rfl, ⟨rfl, ⟨rfl, ⟨rfl, ⟨rfl, trivial⟩⟩⟩⟩⟩ rfl (zt_X8_place_p210 hL  h)
def zb_X8_place_p149 (E : zE) (L : Nat) (Q : kx_Rs → wS → Prop) (x3 : Int32) (x4 : Option Nat) (x5 : Option Nat) (x6 : Int32) (w : wS) : Prop := zL_X8_place_p107 E L Q x3 x4 x5 (x6 + 1) w
theorem zt_X8_place_p149 {E : zE} {L : Nat} {Q : kx_Rs → wS → Prop} {x3 : Int32} {x4 : Option Nat} {x5 : Option Nat} {x6 : Int32} {w : wS} (hL : 28 ≤ L) (h : zb_X8_place_p149 E L Q x3 x4 x5 x6 w) : kzE E L kt_M319 149 [(0, .ref (w_adr E.2.1 7 0)), (3, .int x3), (4, va_rf (x4)), (5, va_rf (x5)), (6, .int x6)] [] w Q := by
  unfold zb_X8_place_p149 at h
  refine kz_inc (M := kt_M319) [(0, .ref (w_adr E.2.1 7 0)), (3, .int x3), (4, va_rf (x4)), (5, va_rf (x5))] kX8_place_c8.2.2.2.2.2.2.1 rfl (Nat.le_of_ble_eq_true rfl) ⟨⟨rfl, rfl, .inl rfl⟩, ⟨⟨rfl, rfl, .inl rfl⟩, ⟨⟨rfl, rfl, .inl rfl⟩, ⟨⟨rfl, rfl, .inr (w_cat (x5))⟩, trivial⟩⟩⟩⟩ rfl ?_
  refine kz_goto (M := kt_M319) kX8_place_c8.2.2.2.2.2.2.2.1 (t := 107) rfl ?_
  exact kz_weak [(0, .ref (w_adr E.2.1 7 0)), (3, .int x3), (4, va_rf (x4)), (5, va_rf (x5)), (6, .int (x6 + 1))] ⟨rfl, ⟨rfl, ⟨rfl, ⟨rfl, ⟨rfl, trivial⟩⟩⟩⟩⟩ rfl h
def zb_X8_place_p107 (E : zE) (L : Nat) (Q : kx_Rs → wS → Prop) (x3 : Int32) (x4 : Option Nat) (x5 : Option Nat) (x6 : Int32) (w : wS) : Prop := (if w_i w 7 0 16 ≤ x6 then zL_X8_place_p158 E L Q x3 x4 x5 1 w else (kx_inb x6 (w_n w 7 0 15) = true ∧ (∃ p1, w_r w 7 0 15 (x6).toNatClampNeg = some p1 ∧ w_l w E.2.1 15 p1 ∧ (if w_i w 15 p1 26 = 0 then zb_X8_place_p149 E L Q x3 x4 x5 x6 w else (kx_inb x6 (w_n w 7 0 15) = true ∧ (kx_inb x6 (w_n w 7 0 15) = true ∧ zb_X8_place_p149 E L Q x3 x4 x5 x6 (ws_i w 15 p1 25 (w_i w 15 p1 22))))))))
theorem zt_X8_place_p107 {E : zE} {L : Nat} {Q : kx_Rs → wS → Prop} {x3 : Int32} {x4 : Option Nat} {x5 : Option Nat} {x6 : Int32} {w : wS} (hL : 28 ≤ L) (h : zb_X8_place_p107 E L Q x3 x4 x5 x6 w) : kzE E L kt_M319 107 [(0, .ref (w_adr E.2.1 7 0)), (3, .int x3), (4, va_rf (x4)), (5, va_rf (x5)), (6, .int x6)] [] w Q := by
  unfold zb_X8_place_p107 at h
  refine kz_iload (M := kt_M319) kX8_place_c6.2.2.1 rfl ?_
  refine kz_aload_n (M := kt_M319) kX8_place_c6.2.2.2.1 rfl ?_
  refine kz_gfi (M := kt_M319) (c := 7) (o := 0) kX8_place_c6.2.2.2.2.1 wf_X8_351 (.inl rfl) ?_
  refine kz_icmp_ge (M := kt_M319) kX8_place_c6.2.2.2.2.2.1 (t := 155) rfl h (fun h => ?_) (fun h => ?_)
  · skip
    refine kz_ic (M := kt_M319) 1 kX8_place_c9.1 rfl ?_
    refine kz_sti (M := kt_M319) [(0, .ref (w_adr E.2.1 7 0)), (3, .int x3), (4, va_rf (x4)), (5, va_rf (x5))] kX8_place_c9.2.1 (Nat.le_of_ble_eq_true rfl) ⟨⟨rfl, rfl, .inl rfl⟩, ⟨⟨rfl, rfl, .inl rfl⟩, ⟨⟨rfl, rfl, .inl rfl⟩, ⟨⟨rfl, rfl, .inr (w_cat (x5))⟩, trivial⟩⟩⟩⟩ rfl ?_
    exact kz_weak [(0, .ref (w_adr E.2.1 7 0)), (3, .int x3), (4, va_rf (x4)), (5, va_rf (x5)), (6, .int 1)] ⟨rfl, ⟨rfl, ⟨rfl, ⟨rfl, ⟨rfl, trivial⟩⟩⟩⟩⟩ rfl h
  · skip
    refine kz_aload_n (M := kt_M319) kX8_place_c6.2.2.2.2.2.2.1 rfl ?_
    refine kz_gfc (M := kt_M319) (x := 2807) (c := 7) (o := 0) kX8_place_c6.2.2.2.2.2.2.2.1 wf_X8_30 (.inl rfl) ?_
    refine kz_iload (M := kt_M319) kX8_place_c7.1 rfl ?_
    refine kz_aald (M := kt_M319) (τ := 2) (c := 7) (o := 0) (k := 15) (a := (E.2.1 2807)) kX8_place_c7.2.1 ow_7_0_15 oa_7_0_15 ot_6 rfl h (fun h => ?_)
    obtain ⟨p1, hxp1, hlp1, h⟩ := h
    refine kz_nz0 (x := w_r w 7 0 15 (x6).toNatClampNeg) hxp1 ?_
    refine kz_gfi (M := kt_M319) (c := 15) (o := p1) kX8_place_c7.2.2.1 wf_X8_272 (.inr (by exact hlp1)) ?_
    refine kz_if_eq (M := kt_M319) kX8_place_c7.2.2.2.1 (t := 149) rfl h (fun h => ?_) (fun h => ?_)
    · skip
      exact kz_weak [(0, .ref (w_adr E.2.1 7 0)), (3, .int x3), (4, va_rf (x4)), (5, va_rf (x5)), (6, .int x6)] ⟨rfl, ⟨rfl, ⟨rfl, ⟨rfl, ⟨rfl, trivial⟩⟩⟩⟩⟩ rfl (zt_X8_place_p149 hL  h)
    · skip
      refine kz_aload_n (M := kt_M319) kX8_place_c7.2.2.2.2.1 rfl ?_
      refine kz_gfc (M := kt_M319) (x := 2807) (c := 7) (o := 0) kX8_place_c7.2.2.2.2.2.1 wf_X8_30 (.inl rfl) ?_
      refine kz_iload (M := kt_M319) kX8_place_c7.2.2.2.2.2.2.1 rfl ?_
      refine kz_aald (M := kt_M319) (τ := 2) (c := 7) (o := 0) (k := 15) (a := (E.2.1 2807)) kX8_place_c7.2.2.2.2.2.2.2.1 ow_7_0_15 oa_7_0_15 ot_6 rfl h (fun h => ?_)
      refine kz_aload_n (M := kt_M319) kX8_place_c8.1 rfl ?_
      refine kz_gfc (M := kt_M319) (x := 2807) (c := 7) (o := 0) kX8_place_c8.2.1 wf_X8_30 (.inl rfl) ?_
      refine kz_iload (M := kt_M319) kX8_place_c8.2.2.1 rfl ?_
      refine kz_aald (M := kt_M319) (τ := 2) (c := 7) (o := 0) (k := 15) (a := (E.2.1 2807)) kX8_place_c8.2.2.2.1 ow_7_0_15 oa_7_0_15 ot_6 rfl h (fun h => ?_)
      refine kz_nz0 (x := w_r w 7 0 15 (x6).toNatClampNeg) hxp1 ?_
      refine kz_gfi (M := kt_M319) (c := 15) (o := p1) kX8_place_c8.2.2.2.2.1 wf_X8_287 (.inr (by exact hlp1)) ?_
      refine kz_nz1 (x := w_r w 7 0 15 (x6).toNatClampNeg) hxp1 ?_
      refine kz_pfi (M := kt_M319) (c := 15) (o := p1) kX8_place_c8.2.2.2.2.2.1 wq_X8_289 (.inr (by exact hlp1)) ?_
      exact kz_weak [(0, .ref (w_adr E.2.1 7 0)), (3, .int x3), (4, va_rf (x4)), (5, va_rf (x5)), (6, .int x6)] ⟨rfl, ⟨rfl, ⟨rfl, ⟨rfl, ⟨rfl, trivial⟩⟩⟩⟩⟩ rfl (zt_X8_place_p149 hL  h)
def zb_X8_place_p95 (E : zE) (L : Nat) (Q : kx_Rs → wS → Prop) (x3 : Int32) (x4 : Option Nat) (w : wS) : Prop := zw E (L - 28) kt_M330 [.ref (w_adr E.2.1 7 0), va_rf (x4), .int (-1), .int x3] w (wk0 (fun w1 => wle w w1 → Q (.inl none) w1) (fun e w => Q (.inr e) w))
theorem zt_X8_place_p95 {E : zE} {L : Nat} {Q : kx_Rs → wS → Prop} {x3 : Int32} {x4 : Option Nat} {w : wS} (hL : 28 ≤ L) (h : zb_X8_place_p95 E L Q x3 x4 w) : kzE E L kt_M319 95 [(0, .ref (w_adr E.2.1 7 0)), (3, .int x3), (4, va_rf (x4))] [] w Q := by
  unfold zb_X8_place_p95 at h
  refine kz_aload_n (M := kt_M319) kX8_place_c5.2.2.1 rfl ?_
  refine kz_aloadv (M := kt_M319) (x := x4) kX8_place_c5.2.2.2.1 rfl ?_
  refine kz_ic (M := kt_M319) (-1) kX8_place_c5.2.2.2.2.1 rfl ?_
  refine kz_iload_n (M := kt_M319) kX8_place_c5.2.2.2.2.2.1 rfl ?_
  refine kz_cv0 (M := kt_M319) (c := 7) (o := 0) (As := [va_rf (x4), .int (-1), .int x3]) (rest := []) kX8_place_c5.2.2.2.2.2.2.1 wl_X8_347 wMv_330 rfl (.inl rfl) rfl (Nat.le_trans (Nat.le_of_ble_eq_true rfl) hL) (by simp [lg_sl, w_cat, z_ci, z_cr, z_cl, z_cn, kt_M330]) (Nat.le_of_ble_eq_true rfl) h (fun w1 hle h => ?_) (fun _ _ _ h => kzx_no rfl h)
  have h := h hle
  exact kz_ret (M := kt_M319) kX8_place_c5.2.2.2.2.2.2.2.1 rfl h
def zb_X8_place_p74 (E : zE) (L : Nat) (Q : kx_Rs → wS → Prop) (x3 : Int32) (x4 : Option Nat) (x5 : Option Nat) (w : wS) : Prop := (if ¬ w_i w 7 0 18 = 0 then zb_X8_place_p95 E L Q x3 x4 w else (if x5 = none then zb_X8_place_p95 E L Q x3 x4 w else zw E (L - 21) kt_M315 [.ref (w_adr E.2.1 7 0), va_rf (x5)] w (wk1 (fun v2 w1 => wle w w1 → (if ¬ v2 = 0 then zL_X8_place_p107 E L Q x3 x4 x5 0 w1 else zb_X8_place_p95 E L Q x3 x4 w1)) (fun e w => Q (.inr e) w))))
theorem zt_X8_place_p74 {E : zE} {L : Nat} {Q : kx_Rs → wS → Prop} {x3 : Int32} {x4 : Option Nat} {x5 : Option Nat} {w : wS} (hL : 28 ≤ L) (h : zb_X8_place_p74 E L Q x3 x4 x5 w) : kzE E L kt_M319 74 [(0, .ref (w_adr E.2.1 7 0)), (3, .int x3), (4, va_rf (x4)), (5, va_rf (x5))] [] w Q := by
  unfold zb_X8_place_p74 at h
  refine kz_aload_n (M := kt_M319) kX8_place_c4.2.1 rfl ?_
  refine kz_gfi (M := kt_M319) (c := 7) (o := 0) kX8_place_c4.2.2.1 wf_X8_105 (.inl rfl) ?_
  refine kz_if_ne (M := kt_M319) kX8_place_c4.2.2.2.1 (t := 95) rfl h (fun h => ?_) (fun h => ?_)
  · skip
    exact kz_weak [(0, .ref (w_adr E.2.1 7 0)), (3, .int x3), (4, va_rf (x4))] ⟨rfl, ⟨rfl, ⟨rfl, trivial⟩⟩⟩ rfl (zt_X8_place_p95 hL  h)
  · skip
    refine kz_aloadv (M := kt_M319) (x := x5) kX8_place_c4.2.2.2.2.1 rfl ?_
    refine kz_ifnull (M := kt_M319) (x := x5) kX8_place_c4.2.2.2.2.2.1 (t := 95) rfl h (fun h => ?_) (fun h => ?_)
    · skip
      exact kz_weak [(0, .ref (w_adr E.2.1 7 0)), (3, .int x3), (4, va_rf (x4))] ⟨rfl, ⟨rfl, ⟨rfl, trivial⟩⟩⟩ rfl (zt_X8_place_p95 hL  h)
    · skip
      refine kz_aload_n (M := kt_M319) kX8_place_c4.2.2.2.2.2.2.1 rfl ?_
      refine kz_aloadv (M := kt_M319) (x := x5) kX8_place_c4.2.2.2.2.2.2.2.1 rfl ?_
      refine kz_cv1 (M := kt_M319) (c := 7) (o := 0) (As := [va_rf (x5)]) (rest := []) kX8_place_c5.1 wl_X8_343 wMv_315 rfl (.inl rfl) rfl (Nat.le_trans (Nat.le_of_ble_eq_true rfl) hL) (by simp [lg_sl, w_cat, z_ci, z_cr, z_cl, z_cn, kt_M315]) (Nat.le_of_ble_eq_true rfl) h (fun v2 w1 hle h => ?_) (fun _ _ _ h => kzx_no rfl h)
      have h := h hle
      refine kz_if_ne (M := kt_M319) kX8_place_c5.2.1 (t := 104) rfl h (fun h => ?_) (fun h => ?_)
      · skip
        refine kz_ic (M := kt_M319) 0 kX8_place_c6.1 rfl ?_
        refine kz_sti (M := kt_M319) [(0, .ref (w_adr E.2.1 7 0)), (3, .int x3), (4, va_rf (x4)), (5, va_rf (x5))] kX8_place_c6.2.1 (Nat.le_of_ble_eq_true rfl) ⟨⟨rfl, rfl, .inl rfl⟩, ⟨⟨rfl, rfl, .inl rfl⟩, ⟨⟨rfl, rfl, .inl rfl⟩, ⟨⟨rfl, rfl, .inr (w_cat (x5))⟩, trivial⟩⟩⟩⟩ rfl ?_
        exact kz_weak [(0, .ref (w_adr E.2.1 7 0)), (3, .int x3), (4, va_rf (x4)), (5, va_rf (x5)), (6, .int 0)] ⟨rfl, ⟨rfl, ⟨rfl, ⟨rfl, ⟨rfl, trivial⟩⟩⟩⟩⟩ rfl h
      · skip
        exact kz_weak [(0, .ref (w_adr E.2.1 7 0)), (3, .int x3), (4, va_rf (x4))] ⟨rfl, ⟨rfl, ⟨rfl, trivial⟩⟩⟩ rfl (zt_X8_place_p95 hL  h)
def zb_X8_place_p43 (E : zE) (L : Nat) (Q : kx_Rs → wS → Prop) (x3 : Int32) (x4 : Option Nat) (x5 : Option Nat) (w : wS) : Prop := zL_X8_place_p6 E L Q x3 x4 x5 w
theorem zt_X8_place_p43 {E : zE} {L : Nat} {Q : kx_Rs → wS → Prop} {x3 : Int32} {x4 : Option Nat} {x5 : Option Nat} {w : wS} (hL : 28 ≤ L) (h : zb_X8_place_p43 E L Q x3 x4 x5 w) : kzE E L kt_M319 43 [(0, .ref (w_adr E.2.1 7 0)), (3, .int x3), (4, va_rf (x4)), (5, va_rf (x5))] [] w Q := by
  unfold zb_X8_place_p43 at h
  refine kz_goto (M := kt_M319) kX8_place_c2.2.2.2.1 (t := 6) rfl ?_
  exact kz_weak [(0, .ref (w_adr E.2.1 7 0)), (3, .int x3), (4, va_rf (x4)), (5, va_rf (x5))] ⟨rfl, ⟨rfl, ⟨rfl, ⟨rfl, trivial⟩⟩⟩⟩ rfl h
def zb_X8_place_p6 (E : zE) (L : Nat) (Q : kx_Rs → wS → Prop) (x3 : Int32) (x4 : Option Nat) (x5 : Option Nat) (w : wS) : Prop := (∃ p1, x4 = some p1 ∧ w_l w E.2.1 15 p1 ∧ (if w_i w 15 p1 14 = 0 then (if w_i w 15 p1 3 < w_i w 7 0 12 then (if ¬ w_i w 15 p1 29 = (-1) then zb_X8_place_p74 E L Q x3 x4 x5 w else zw E (L - 23) kt_M300 [.ref (w_adr E.2.1 7 0), va_rf (x4)] w (wk0 (fun w2 => wle w w2 → zb_X8_place_p74 E L Q x3 x4 x5 w2) (fun e w => Q (.inr e) w))) else Q (.inl none) w) else (∃ p4, w_p w 15 p1 18 = some p4 ∧ w_l w E.2.1 14 p4 ∧ (if (w_p w 14 p4 3) = none then zb_X8_place_p43 E L Q x3 (w_p w 14 p4 16) x5 w else zb_X8_place_p43 E L Q x3 (w_p w 14 p4 16) (w_p w 14 p4 3) w))))
theorem zt_X8_place_p6 {E : zE} {L : Nat} {Q : kx_Rs → wS → Prop} {x3 : Int32} {x4 : Option Nat} {x5 : Option Nat} {w : wS} (hL : 28 ≤ L) (h : zb_X8_place_p6 E L Q x3 x4 x5 w) : kzE E L kt_M319 6 [(0, .ref (w_adr E.2.1 7 0)), (3, .int x3), (4, va_rf (x4)), (5, va_rf (x5))] [] w Q := by
  unfold zb_X8_place_p6 at h
  refine kz_aloadv (M := kt_M319) (x := x4) kX8_place_c0.2.2.2.2.1 rfl ?_
  obtain ⟨p1, hxp1, hlp1, h⟩ := h
  refine kz_nz0 (x := x4) hxp1 ?_
  refine kz_gfi (M := kt_M319) (c := 15) (o := p1) kX8_place_c0.2.2.2.2.2.1 wf_X8_171 (.inr (by exact hlp1)) ?_
  refine kz_if_eq (M := kt_M319) kX8_place_c0.2.2.2.2.2.2.1 (t := 46) rfl h (fun h => ?_) (fun h => ?_)
  · skip
    refine kz_aloadv (M := kt_M319) (x := x4) kX8_place_c2.2.2.2.2.1 rfl ?_
    refine kz_nz0 (x := x4) hxp1 ?_
    refine kz_gfi (M := kt_M319) (c := 15) (o := p1) kX8_place_c2.2.2.2.2.2.1 wf_X8_148 (.inr (by exact hlp1)) ?_
    refine kz_aload_n (M := kt_M319) kX8_place_c2.2.2.2.2.2.2.1 rfl ?_
    refine kz_gfi (M := kt_M319) (c := 7) (o := 0) kX8_place_c2.2.2.2.2.2.2.2.1 wf_X8_113 (.inl rfl) ?_
    refine kz_icmp_lt (M := kt_M319) kX8_place_c3.1 (t := 59) rfl h (fun h => ?_) (fun h => ?_)
    · skip
      refine kz_aloadv (M := kt_M319) (x := x4) kX8_place_c3.2.2.1 rfl ?_
      refine kz_nz0 (x := x4) hxp1 ?_
      refine kz_gfi (M := kt_M319) (c := 15) (o := p1) kX8_place_c3.2.2.2.1 wf_X8_141 (.inr (by exact hlp1)) ?_
      refine kz_ic (M := kt_M319) (-1) kX8_place_c3.2.2.2.2.1 rfl ?_
      refine kz_icmp_ne (M := kt_M319) kX8_place_c3.2.2.2.2.2.1 (t := 74) rfl h (fun h => ?_) (fun h => ?_)
      · skip
        exact kz_weak [(0, .ref (w_adr E.2.1 7 0)), (3, .int x3), (4, va_rf (x4)), (5, va_rf (x5))] ⟨rfl, ⟨rfl, ⟨rfl, ⟨rfl, trivial⟩⟩⟩⟩ rfl (zt_X8_place_p74 hL  h)
      · skip
        refine kz_aload_n (M := kt_M319) kX8_place_c3.2.2.2.2.2.2.1 rfl ?_
        refine kz_aloadv (M := kt_M319) (x := x4) kX8_place_c3.2.2.2.2.2.2.2.1 rfl ?_
        refine kz_cv0 (M := kt_M319) (c := 7) (o := 0) (As := [va_rf (x4)]) (rest := []) kX8_place_c4.1 wl_X8_340 wMv_300 rfl (.inl rfl) rfl (Nat.le_trans (Nat.le_of_ble_eq_true rfl) hL) (by simp [lg_sl, w_cat, z_ci, z_cr, z_cl, z_cn, kt_M300]) (Nat.le_of_ble_eq_true rfl) h (fun w2 hle h => ?_) (fun _ _ _ h => kzx_no rfl h)
        have h := h hle
        have hlp1 := w_l_le hlp1 hle
        exact kz_weak [(0, .ref (w_adr E.2.1 7 0)), (3, .int x3), (4, va_rf (x4)), (5, va_rf (x5))] ⟨rfl, ⟨rfl, ⟨rfl, ⟨rfl, trivial⟩⟩⟩⟩ rfl (zt_X8_place_p74 hL  h)
    · skip
      exact kz_ret (M := kt_M319) kX8_place_c3.2.1 rfl h
  · skip
    refine kz_aloadv (M := kt_M319) (x := x4) kX8_place_c0.2.2.2.2.2.2.2.1 rfl ?_
    refine kz_nz0 (x := x4) hxp1 ?_
    refine kz_gfp (M := kt_M319) (c := 15) (o := p1) kX8_place_c1.1 wf_X8_174 (.inr (by exact hlp1)) ?_
    refine kz_stv (M := kt_M319) (x := w_p w 15 p1 18) [(0, .ref (w_adr E.2.1 7 0)), (3, .int x3), (5, va_rf (x5))] kX8_place_c1.2.1 (Nat.le_of_ble_eq_true rfl) ⟨⟨rfl, rfl, .inl rfl⟩, ⟨⟨rfl, rfl, .inl rfl⟩, ⟨⟨rfl, rfl, .inr (w_cat (x5))⟩, trivial⟩⟩⟩ rfl ?_
    refine kz_aloadv (M := kt_M319) (x := w_p w 15 p1 18) kX8_place_c1.2.2.1 rfl ?_
    obtain ⟨p4, hxp4, hlp4, h⟩ := h
    refine kz_nz0 (x := w_p w 15 p1 18) hxp4 ?_
    refine kz_gfp (M := kt_M319) (c := 14) (o := p4) kX8_place_c1.2.2.2.1 wf_X8_131 (.inr (by exact hlp4)) ?_
    refine kz_stv (M := kt_M319) (x := w_p w 14 p4 16) [(0, .ref (w_adr E.2.1 7 0)), (3, .int x3), (5, va_rf (x5)), (6, va_rf (w_p w 15 p1 18))] kX8_place_c1.2.2.2.2.1 (Nat.le_of_ble_eq_true rfl) ⟨⟨rfl, rfl, .inl rfl⟩, ⟨⟨rfl, rfl, .inr rfl⟩, ⟨⟨rfl, rfl, .inl rfl⟩, ⟨⟨rfl, rfl, .inl rfl⟩, trivial⟩⟩⟩⟩ rfl ?_
    refine kz_aloadv (M := kt_M319) (x := w_p w 15 p1 18) kX8_place_c1.2.2.2.2.2.1 rfl ?_
    refine kz_nz0 (x := w_p w 15 p1 18) hxp4 ?_
    refine kz_gfp (M := kt_M319) (c := 14) (o := p4) kX8_place_c1.2.2.2.2.2.2.1 wf_X8_58 (.inr (by exact hlp4)) ?_
    refine kz_ifnull (M := kt_M319) (x := w_p w 14 p4 3) kX8_place_c1.2.2.2.2.2.2.2.1 (t := 43) rfl h (fun h => ?_) (fun h => ?_)
    · skip
      exact kz_weak [(0, .ref (w_adr E.2.1 7 0)), (3, .int x3), (4, va_rf (w_p w 14 p4 16)), (5, va_rf (x5))] ⟨rfl, ⟨rfl, ⟨rfl, ⟨rfl, trivial⟩⟩⟩⟩ rfl (zt_X8_place_p43 hL  h)
    · skip
      refine kz_aloadv (M := kt_M319) (x := w_p w 15 p1 18) kX8_place_c2.1 rfl ?_
      refine kz_nz0 (x := w_p w 15 p1 18) hxp4 ?_
      refine kz_gfp (M := kt_M319) (c := 14) (o := p4) kX8_place_c2.2.1 wf_X8_58 (.inr (by exact hlp4)) ?_
      refine kz_stv (M := kt_M319) (x := w_p w 14 p4 3) [(0, .ref (w_adr E.2.1 7 0)), (3, .int x3), (4, va_rf (w_p w 14 p4 16))] kX8_place_c2.2.2.1 (Nat.le_of_ble_eq_true rfl) ⟨⟨rfl, rfl, .inl rfl⟩, ⟨⟨rfl, rfl, .inl rfl⟩, ⟨⟨rfl, rfl, .inr (w_cat (w_p w 14 p4 16))⟩, trivial⟩⟩⟩ rfl ?_
      exact kz_weak [(0, .ref (w_adr E.2.1 7 0)), (3, .int x3), (4, va_rf (w_p w 14 p4 16)), (5, va_rf (w_p w 14 p4 3))] ⟨rfl, ⟨rfl, ⟨rfl, ⟨rfl, trivial⟩⟩⟩⟩ rfl (zt_X8_place_p43 hL  h)
def zb_X8_place_p0 (E : zE) (L : Nat) (Q : kx_Rs → wS → Prop) (x1 : Option Nat) (x2 : Option Nat) (x3 : Int32) (w : wS) : Prop := zL_X8_place_p6 E L Q x3 x1 x2 w
theorem zt_X8_place_p0 {E : zE} {L : Nat} {Q : kx_Rs → wS → Prop} {x1 : Option Nat} {x2 : Option Nat} {x3 : Int32} {w : wS} (hL : 28 ≤ L) (h : zb_X8_place_p0 E L Q x1 x2 x3 w) : kzE E L kt_M319 0 [(0, .ref (w_adr E.2.1 7 0)), (1, va_rf (x1)), (2, va_rf (x2)), (3, .int x3)] [] w Q := by
  unfold zb_X8_place_p0 at h
  refine kz_aload_nv (M := kt_M319) (x := x1) kX8_place_c0.1 rfl ?_
  refine kz_stv (M := kt_M319) (x := x1) [(0, .ref (w_adr E.2.1 7 0)), (2, va_rf (x2)), (3, .int x3)] kX8_place_c0.2.1 (Nat.le_of_ble_eq_true rfl) ⟨⟨rfl, rfl, .inl rfl⟩, ⟨⟨rfl, rfl, .inl rfl⟩, ⟨⟨rfl, rfl, .inr rfl⟩, trivial⟩⟩⟩ rfl ?_
  refine kz_aload_nv (M := kt_M319) (x := x2) kX8_place_c0.2.2.1 rfl ?_
  refine kz_stv (M := kt_M319) (x := x2) [(0, .ref (w_adr E.2.1 7 0)), (3, .int x3), (4, va_rf (x1))] kX8_place_c0.2.2.2.1 (Nat.le_of_ble_eq_true rfl) ⟨⟨rfl, rfl, .inl rfl⟩, ⟨⟨rfl, rfl, .inl rfl⟩, ⟨⟨rfl, rfl, .inr (w_cat (x1))⟩, trivial⟩⟩⟩ rfl ?_
  exact kz_weak [(0, .ref (w_adr E.2.1 7 0)), (3, .int x3), (4, va_rf (x1)), (5, va_rf (x2))] ⟨rfl, ⟨rfl, ⟨rfl, ⟨rfl, trivial⟩⟩⟩⟩ rfl h
def zL_X8_begin_p66 (E : zE) (L : Nat) (Q : kx_Rs → wS → Prop) (x1 : Option Nat) (x2 : Int32) (x3 : Int32) (w : wS) : Prop := kzE E L kt_M300 66 [(0, .ref (w_adr E.2.1 7 0)), (1, va_rf (x1)), (2, .int x2), (3, .int x3)] [] w Q
def zL_X8_begin_p32 (E : zE) (L : Nat) (Q : kx_Rs → wS → Prop) (x1 : Option Nat) (x2 : Int32) (w : wS) : Prop := kzE E L kt_M300 32 [(0, .ref (w_adr E.2.1 7 0)), (1, va_rf (x1)), (2, .int x2)] [] w Q
def zb_X8_begin_p148 (E : zE) (L : Nat) (Q : kx_Rs → wS → Prop) (x1 : Option Nat) (w : wS) : Prop := (∃ p1, x1 = some p1 ∧ w_l (ws_i w 7 0 10 ((w_i w 7 0 10) + 1)) E.2.1 15 p1 ∧ (kx_inb (w_i w 7 0 10) (w_n (ws_i w 7 0 10 ((w_i w 7 0 10) + 1)) 7 0 9) = true ∧ Q (.inl none) (ws_r (ws_i w 7 0 10 ((w_i w 7 0 10) + 1)) 7 0 9 (w_i w 7 0 10).toNatClampNeg (some p1))))
theorem zt_X8_begin_p148 {E : zE} {L : Nat} {Q : kx_Rs → wS → Prop} {x1 : Option Nat} {w : wS} (hL : 60 ≤ L) (h : zb_X8_begin_p148 E L Q x1 w) : kzE E L kt_M300 148 [(0, .ref (w_adr E.2.1 7 0)), (1, va_rf (x1))] [] w Q := by
  unfold zb_X8_begin_p148 at h
  refine kz_aload_n (M := kt_M300) kX8_begin_c10.1 rfl ?_
  refine kz_gfa (M := kt_M300) (c := 7) (o := 0) kX8_begin_c10.2.1 wf_X8_27 (.inl rfl) ?_
  refine kz_aload_n (M := kt_M300) kX8_begin_c10.2.2.1 rfl ?_
  refine kz_dup (M := kt_M300) kX8_begin_c10.2.2.2.1 rfl ?_
  refine kz_gfi (M := kt_M300) (c := 7) (o := 0) kX8_begin_c10.2.2.2.2.1 wf_X8_51 (.inl rfl) ?_
  refine kz_dup_x1 (M := kt_M300) kX8_begin_c10.2.2.2.2.2.1 ⟨rfl, rfl⟩ ?_
  refine kz_ic (M := kt_M300) 1 kX8_begin_c10.2.2.2.2.2.2.1 rfl ?_
  refine kz_iadd (M := kt_M300) kX8_begin_c10.2.2.2.2.2.2.2.1 ?_
  refine kz_pfi (M := kt_M300) (c := 7) (o := 0) kX8_begin_c11.1 wq_X8_51 (.inl rfl) ?_
  refine kz_aload_nv (M := kt_M300) (x := x1) kX8_begin_c11.2.1 rfl ?_
  obtain ⟨p1, hxp1, hlp1, h⟩ := h
  refine kz_nz0 (x := x1) hxp1 ?_
  refine kz_aasto (M := kt_M300) (C1 := "") (τ := 2) (ci := 15) (c := 7) (o := 0) (k := 9) (a := (w_d w 7 0 9)) (v := p1) kX8_begin_c11.2.2.1 ow_7_0_9 rfl rfl rfl rfl (by exact hlp1) h (fun h => ?_)
  exact kz_ret (M := kt_M300) kX8_begin_c11.2.2.2.1 rfl h
def zb_X8_begin_p66 (E : zE) (L : Nat) (Q : kx_Rs → wS → Prop) (x1 : Option Nat) (x2 : Int32) (x3 : Int32) (w : wS) : Prop := (if x2 ≤ x3 then (∃ p1, x1 = some p1 ∧ w_l w E.2.1 15 p1 ∧ (if ¬ w_i w 7 0 10 = (Int32.ofNat (w_n w 7 0 9)) then zb_X8_begin_p148 E L Q x1 (ws_i (ws_i w 15 p1 29 (w_i w 7 0 7)) 7 0 7 ((w_i w 7 0 7) + x2)) else ((¬ ((2 * (w_i w 7 0 10))) < 0 ∧ ((2 * (w_i w 7 0 10))).toNatClampNeg * 4 ≤ 536870912 ∧ 1 ≤ w_C (ws_i (ws_i w 15 p1 29 (w_i w 7 0 7)) 7 0 7 ((w_i w 7 0 7) + x2)) ∧ ((2 * (w_i w 7 0 10))).toNatClampNeg ≤ w_S (ws_i (ws_i w 15 p1 29 (w_i w 7 0 7)) 7 0 7 ((w_i w 7 0 7) + x2))) ∧ ((w_o (ws_new (ws_i (ws_i w 15 p1 29 (w_i w 7 0 7)) 7 0 7 ((w_i w 7 0 7) + x2)) 6 ((2 * (w_i w 7 0 10))).toNatClampNeg) (w_z (ws_i (ws_i w 15 p1 29 (w_i w 7 0 7)) 7 0 7 ((w_i w 7 0 7) + x2))) = some (99, (w_z (ws_i (ws_i w 15 p1 29 (w_i w 7 0 7)) 7 0 7 ((w_i w 7 0 7) + x2))), 0) ∧ w_t (ws_new (ws_i (ws_i w 15 p1 29 (w_i w 7 0 7)) 7 0 7 ((w_i w 7 0 7) + x2)) 6 ((2 * (w_i w 7 0 10))).toNatClampNeg) (w_z (ws_i (ws_i w 15 p1 29 (w_i w 7 0 7)) 7 0 7 ((w_i w 7 0 7) + x2))) = 6) ∧ (((¬ (0 : Int32) < 0 ∧ ¬ (0 : Int32) < 0 ∧ ¬ (w_i (ws_new (ws_i (ws_i w 15 p1 29 (w_i w 7 0 7)) 7 0 7 ((w_i w 7 0 7) + x2)) 6 ((2 * (w_i w 7 0 10))).toNatClampNeg) 7 0 10) < 0) ∧ (0 : Int32).toNatClampNeg + (w_i (ws_new (ws_i (ws_i w 15 p1 29 (w_i w 7 0 7)) 7 0 7 ((w_i w 7 0 7) + x2)) 6 ((2 * (w_i w 7 0 10))).toNatClampNeg) 7 0 10).toNatClampNeg ≤ w_n (ws_new (ws_i (ws_i w 15 p1 29 (w_i w 7 0 7)) 7 0 7 ((w_i w 7 0 7) + x2)) 6 ((2 * (w_i w 7 0 10))).toNatClampNeg) 7 0 9 ∧ (0 : Int32).toNatClampNeg + (w_i (ws_new (ws_i (ws_i w 15 p1 29 (w_i w 7 0 7)) 7 0 7 ((w_i w 7 0 7) + x2)) 6 ((2 * (w_i w 7 0 10))).toNatClampNeg) 7 0 10).toNatClampNeg ≤ w_n (ws_new (ws_i (ws_i w 15 p1 29 (w_i w 7 0 7)) 7 0 7 ((w_i w 7 0 7) + x2)) 6 ((2 * (w_i w 7 0 10))).toNatClampNeg) 99 (w_z (ws_i (ws_i w 15 p1 29 (w_i w 7 0 7)) 7 0 7 ((w_i w 7 0 7) + x2))) 0 ∧ ∀ i, i < (w_i (ws_new (ws_i (ws_i w 15 p1 29 (w_i w 7 0 7)) 7 0 7 ((w_i w 7 0 7) + x2)) 6 ((2 * (w_i w 7 0 10))).toNatClampNeg) 7 0 10).toNatClampNeg → ∀ y, w_r (ws_new (ws_i (ws_i w 15 p1 29 (w_i w 7 0 7)) 7 0 7 ((w_i w 7 0 7) + x2)) 6 ((2 * (w_i w 7 0 10))).toNatClampNeg) 7 0 9 ((0 : Int32).toNatClampNeg + i) = some y → w_l (ws_new (ws_i (ws_i w 15 p1 29 (w_i w 7 0 7)) 7 0 7 ((w_i w 7 0 7) + x2)) 6 ((2 * (w_i w 7 0 10))).toNatClampNeg) E.2.1 15 y) ∧ ((w_o (ws_R (ws_new (ws_i (ws_i w 15 p1 29 (w_i w 7 0 7)) 7 0 7 ((w_i w 7 0 7) + x2)) 6 ((2 * (w_i w 7 0 10))).toNatClampNeg) 99 (w_z (ws_i (ws_i w 15 p1 29 (w_i w 7 0 7)) 7 0 7 ((w_i w 7 0 7) + x2))) 0 (va_cpy (w_r (ws_new (ws_i (ws_i w 15 p1 29 (w_i w 7 0 7)) 7 0 7 ((w_i w 7 0 7) + x2)) 6 ((2 * (w_i w 7 0 10))).toNatClampNeg) 7 0 9) (w_r (ws_new (ws_i (ws_i w 15 p1 29 (w_i w 7 0 7)) 7 0 7 ((w_i w 7 0 7) + x2)) 6 ((2 * (w_i w 7 0 10))).toNatClampNeg) 99 (w_z (ws_i (ws_i w 15 p1 29 (w_i w 7 0 7)) 7 0 7 ((w_i w 7 0 7) + x2))) 0) (0 : Int32).toNatClampNeg (0 : Int32).toNatClampNeg (w_i (ws_new (ws_i (ws_i w 15 p1 29 (w_i w 7 0 7)) 7 0 7 ((w_i w 7 0 7) + x2)) 6 ((2 * (w_i w 7 0 10))).toNatClampNeg) 7 0 10).toNatClampNeg)) (w_z (ws_i (ws_i w 15 p1 29 (w_i w 7 0 7)) 7 0 7 ((w_i w 7 0 7) + x2))) = some (99, (w_z (ws_i (ws_i w 15 p1 29 (w_i w 7 0 7)) 7 0 7 ((w_i w 7 0 7) + x2))), 0) ∧ w_t (ws_R (ws_new (ws_i (ws_i w 15 p1 29 (w_i w 7 0 7)) 7 0 7 ((w_i w 7 0 7) + x2)) 6 ((2 * (w_i w 7 0 10))).toNatClampNeg) 99 (w_z (ws_i (ws_i w 15 p1 29 (w_i w 7 0 7)) 7 0 7 ((w_i w 7 0 7) + x2))) 0 (va_cpy (w_r (ws_new (ws_i (ws_i w 15 p1 29 (w_i w 7 0 7)) 7 0 7 ((w_i w 7 0 7) + x2)) 6 ((2 * (w_i w 7 0 10))).toNatClampNeg) 7 0 9) (w_r (ws_new (ws_i (ws_i w 15 p1 29 (w_i w 7 0 7)) 7 0 7 ((w_i w 7 0 7) + x2)) 6 ((2 * (w_i w 7 0 10))).toNatClampNeg) 99 (w_z (ws_i (ws_i w 15 p1 29 (w_i w 7 0 7)) 7 0 7 ((w_i w 7 0 7) + x2))) 0) (0 : Int32).toNatClampNeg (0 : Int32).toNatClampNeg (w_i (ws_new (ws_i (ws_i w 15 p1 29 (w_i w 7 0 7)) 7 0 7 ((w_i w 7 0 7) + x2)) 6 ((2 * (w_i w 7 0 10))).toNatClampNeg) 7 0 10).toNatClampNeg)) (w_z (ws_i (ws_i w 15 p1 29 (w_i w 7 0 7)) 7 0 7 ((w_i w 7 0 7) + x2))) = 6) ∧ zb_X8_begin_p148 E L Q x1 (ws_put (ws_R (ws_new (ws_i (ws_i w 15 p1 29 (w_i w 7 0 7)) 7 0 7 ((w_i w 7 0 7) + x2)) 6 ((2 * (w_i w 7 0 10))).toNatClampNeg) 99 (w_z (ws_i (ws_i w 15 p1 29 (w_i w 7 0 7)) 7 0 7 ((w_i w 7 0 7) + x2))) 0 (va_cpy (w_r (ws_new (ws_i (ws_i w 15 p1 29 (w_i w 7 0 7)) 7 0 7 ((w_i w 7 0 7) + x2)) 6 ((2 * (w_i w 7 0 10))).toNatClampNeg) 7 0 9) (w_r (ws_new (ws_i (ws_i w 15 p1 29 (w_i w 7 0 7)) 7 0 7 ((w_i w 7 0 7) + x2)) 6 ((2 * (w_i w 7 0 10))).toNatClampNeg) 99 (w_z (ws_i (ws_i w 15 p1 29 (w_i w 7 0 7)) 7 0 7 ((w_i w 7 0 7) + x2))) 0) (0 : Int32).toNatClampNeg (0 : Int32).toNatClampNeg (w_i (ws_new (ws_i (ws_i w 15 p1 29 (w_i w 7 0 7)) 7 0 7 ((w_i w 7 0 7) + x2)) 6 ((2 * (w_i w 7 0 10))).toNatClampNeg) 7 0 10).toNatClampNeg)) 7 0 9 (w_z (ws_i (ws_i w 15 p1 29 (w_i w 7 0 7)) 7 0 7 ((w_i w 7 0 7) + x2)))))))))) else (kx_inb ((w_i w 7 0 7) + x3) (w_n w 7 0 5) = true ∧ zL_X8_begin_p66 E L Q x1 x2 (x3 + 1) (ws_a w 7 0 5 (((w_i w 7 0 7) + x3)).toNatClampNeg 0)))
theorem zt_X8_begin_p66 {E : zE} {L : Nat} {Q : kx_Rs → wS → Prop} {x1 : Option Nat} {x2 : Int32} {x3 : Int32} {w : wS} (hL : 60 ≤ L) (h : zb_X8_begin_p66 E L Q x1 x2 x3 w) : kzE E L kt_M300 66 [(0, .ref (w_adr E.2.1 7 0)), (1, va_rf (x1)), (2, .int x2), (3, .int x3)] [] w Q := by
  unfold zb_X8_begin_p66 at h
  refine kz_iload_n (M := kt_M300) kX8_begin_c4.2.2.1 rfl ?_
  refine kz_iload_n (M := kt_M300) kX8_begin_c4.2.2.2.1 rfl ?_
  refine kz_icmp_ge (M := kt_M300) kX8_begin_c4.2.2.2.2.1 (t := 89) rfl h (fun h => ?_) (fun h => ?_)
  · skip
    refine kz_aload_nv (M := kt_M300) (x := x1) kX8_begin_c5.2.2.2.2.2.2.2.1 rfl ?_
    refine kz_aload_n (M := kt_M300) kX8_begin_c6.1 rfl ?_
    refine kz_gfi (M := kt_M300) (c := 7) (o := 0) kX8_begin_c6.2.1 wf_X8_45 (.inl rfl) ?_
    obtain ⟨p1, hxp1, hlp1, h⟩ := h
    refine kz_nz1 (x := x1) hxp1 ?_
    refine kz_pfi (M := kt_M300) (c := 15) (o := p1) kX8_begin_c6.2.2.1 wq_X8_141 (.inr (by exact hlp1)) ?_
    refine kz_aload_n (M := kt_M300) kX8_begin_c6.2.2.2.1 rfl ?_
    refine kz_dup (M := kt_M300) kX8_begin_c6.2.2.2.2.1 rfl ?_
    refine kz_gfiR (M := kt_M300) (c := 7) (o := 0) (w_i w 7 0 7) kX8_begin_c6.2.2.2.2.2.1 wf_X8_45 (.inl rfl) (rd_i_i rfl) ?_
    refine kz_iload_n (M := kt_M300) kX8_begin_c6.2.2.2.2.2.2.1 rfl ?_
    refine kz_iadd (M := kt_M300) kX8_begin_c6.2.2.2.2.2.2.2.1 ?_
    refine kz_pfi (M := kt_M300) (c := 7) (o := 0) kX8_begin_c7.1 wq_X8_45 (.inl rfl) ?_
    refine kz_aload_n (M := kt_M300) kX8_begin_c7.2.1 rfl ?_
    refine kz_gfiR (M := kt_M300) (c := 7) (o := 0) (w_i w 7 0 10) kX8_begin_c7.2.2.1 wf_X8_51 (.inl rfl) ((rd_i_i rfl).trans (rd_i_i rfl)) ?_
    refine kz_aload_n (M := kt_M300) kX8_begin_c7.2.2.2.1 rfl ?_
    refine kz_gfa (M := kt_M300) (c := 7) (o := 0) kX8_begin_c7.2.2.2.2.1 wf_X8_27 (.inl rfl) ?_
    refine kz_alen (M := kt_M300) (c := 7) (o := 0) (k := 9) (a := (w_d (ws_i (ws_i w 15 p1 29 (w_i w 7 0 7)) 7 0 7 ((w_i w 7 0 7) + x2)) 7 0 9)) (τ := 6) kX8_begin_c7.2.2.2.2.2.1 ow_7_0_9 oa_7_0_9 (Nat.le_of_ble_eq_true rfl) ?_
    refine kz_icmp_ne (M := kt_M300) kX8_begin_c7.2.2.2.2.2.2.1 (t := 148) rfl h (fun h => ?_) (fun h => ?_)
    · skip
      exact kz_weak [(0, .ref (w_adr E.2.1 7 0)), (1, va_rf (x1))] ⟨rfl, ⟨rfl, trivial⟩⟩ rfl (zt_X8_begin_p148 hL  h)
    · skip
      refine kz_ic (M := kt_M300) 2 kX8_begin_c7.2.2.2.2.2.2.2.1 rfl ?_
      refine kz_aload_n (M := kt_M300) kX8_begin_c8.1 rfl ?_
      refine kz_gfiR (M := kt_M300) (c := 7) (o := 0) (w_i w 7 0 10) kX8_begin_c8.2.1 wf_X8_51 (.inl rfl) ((rd_i_i rfl).trans (rd_i_i rfl)) ?_
      refine kz_imul (M := kt_M300) kX8_begin_c8.2.2.1 ?_
      refine kz_newr (M := kt_M300) (τ := 2) (C := "MeetingHouse$Symbol") kX8_begin_c8.2.2.2.1 zkl_X8_9 zft_6 ot_6 zao_6 h (fun h => ?_)
      refine kz_sta_n (M := kt_M300) [(0, .ref (w_adr E.2.1 7 0)), (1, va_rf (x1))] kX8_begin_c8.2.2.2.2.1 (Nat.le_of_ble_eq_true rfl) ⟨⟨rfl, rfl, .inl rfl⟩, ⟨⟨rfl, rfl, .inl rfl⟩, trivial⟩⟩ rfl ?_
      refine kz_aload_n (M := kt_M300) kX8_begin_c8.2.2.2.2.2.1 rfl ?_
      refine kz_gfa (M := kt_M300) (c := 7) (o := 0) kX8_begin_c8.2.2.2.2.2.2.1 wf_X8_27 (.inl rfl) ?_
      refine kz_ic (M := kt_M300) 0 kX8_begin_c8.2.2.2.2.2.2.2.1 rfl ?_
      refine kz_aload_n (M := kt_M300) kX8_begin_c9.1 rfl ?_
      refine kz_ic (M := kt_M300) 0 kX8_begin_c9.2.1 rfl ?_
      refine kz_aload_n (M := kt_M300) kX8_begin_c9.2.2.1 rfl ?_
      refine kz_gfi (M := kt_M300) (c := 7) (o := 0) kX8_begin_c9.2.2.2.1 wf_X8_51 (.inl rfl) ?_
      obtain ⟨h0, h⟩ := h
      refine kz_cpyr (M := kt_M300) (τ := 2) (ci := 15) (c0 := 7) (o0 := 0) (k0 := 9) (c := 99) (o := (w_z (ws_i (ws_i w 15 p1 29 (w_i w 7 0 7)) 7 0 7 ((w_i w 7 0 7) + x2)))) (k := 0) (a0 := (w_d (ws_new (ws_i (ws_i w 15 p1 29 (w_i w 7 0 7)) 7 0 7 ((w_i w 7 0 7) + x2)) 6 ((2 * (w_i w 7 0 10))).toNatClampNeg) 7 0 9)) (a := (w_z (ws_i (ws_i w 15 p1 29 (w_i w 7 0 7)) 7 0 7 ((w_i w 7 0 7) + x2)))) kX8_begin_c9.2.2.2.2.1 (zac_X8_161) rfl rfl rfl rfl rfl ow_7_0_9 oa_7_0_9 (.inl ⟨rfl, rfl, h0.1, h0.2⟩) rfl (Nat.le_trans (by simp [kx_cat, w_cat, zac_w, z_ci, z_cr, z_cl, z_cn]) hL) h (fun h => ?_)
      refine kz_aload_n (M := kt_M300) kX8_begin_c9.2.2.2.2.2.1 rfl ?_
      refine kz_aload_n (M := kt_M300) kX8_begin_c9.2.2.2.2.2.2.1 rfl ?_
      refine kz_pfa (M := kt_M300) (c := 7) (o := 0) (τ := 6) kX8_begin_c9.2.2.2.2.2.2.2.1 wq_X8_27 (.inl rfl) rfl h (fun h => ?_)
      exact kz_weak [(0, .ref (w_adr E.2.1 7 0)), (1, va_rf (x1))] ⟨rfl, ⟨rfl, trivial⟩⟩ rfl (zt_X8_begin_p148 hL  h)
  · skip
    refine kz_aload_n (M := kt_M300) kX8_begin_c4.2.2.2.2.2.1 rfl ?_
    refine kz_gfa (M := kt_M300) (c := 7) (o := 0) kX8_begin_c4.2.2.2.2.2.2.1 wf_X8_21 (.inl rfl) ?_
    refine kz_aload_n (M := kt_M300) kX8_begin_c4.2.2.2.2.2.2.2.1 rfl ?_
    refine kz_gfi (M := kt_M300) (c := 7) (o := 0) kX8_begin_c5.1 wf_X8_45 (.inl rfl) ?_
    refine kz_iload_n (M := kt_M300) kX8_begin_c5.2.1 rfl ?_
    refine kz_iadd (M := kt_M300) kX8_begin_c5.2.2.1 ?_
    refine kz_ic (M := kt_M300) 0 kX8_begin_c5.2.2.2.1 rfl ?_
    refine kz_iast (M := kt_M300) (c := 7) (o := 0) (k := 5) (a := (w_d w 7 0 5)) kX8_begin_c5.2.2.2.2.1 ow_7_0_5 oa_7_0_5 ot_0 h (fun h => ?_)
    refine kz_inc (M := kt_M300) [(0, .ref (w_adr E.2.1 7 0)), (1, va_rf (x1)), (2, .int x2)] kX8_begin_c5.2.2.2.2.2.1 rfl (Nat.le_of_ble_eq_true rfl) ⟨⟨rfl, rfl, .inl rfl⟩, ⟨⟨rfl, rfl, .inl rfl⟩, ⟨⟨rfl, rfl, .inr rfl⟩, trivial⟩⟩⟩ rfl ?_
    refine kz_goto (M := kt_M300) kX8_begin_c5.2.2.2.2.2.2.1 (t := 66) rfl ?_
    exact kz_weak [(0, .ref (w_adr E.2.1 7 0)), (1, va_rf (x1)), (2, .int x2), (3, .int (x3 + 1))] ⟨rfl, ⟨rfl, ⟨rfl, ⟨rfl, trivial⟩⟩⟩⟩ rfl h
def zb_X8_begin_p32 (E : zE) (L : Nat) (Q : kx_Rs → wS → Prop) (x1 : Option Nat) (x2 : Int32) (w : wS) : Prop := (if ((w_i w 7 0 7) + x2) ≤ (Int32.ofNat (w_n w 7 0 5)) then zL_X8_begin_p66 E L Q x1 x2 0 w else zw E (L - 22) kt_M313 [.ref (w_d w 7 0 5), .int (w_i w 7 0 7)] w (wkr (fun v2 w1 => wle w w1 → (∃ a3, v2 = some a3 ∧ (w_o w1 a3 = some (99, a3, 0) ∧ w_t w1 a3 = 0) ∧ zL_X8_begin_p32 E L Q x1 x2 (ws_put w1 7 0 5 a3))) (fun e w => Q (.inr e) w)))
theorem zt_X8_begin_p32 {E : zE} {L : Nat} {Q : kx_Rs → wS → Prop} {x1 : Option Nat} {x2 : Int32} {w : wS} (hL : 60 ≤ L) (h : zb_X8_begin_p32 E L Q x1 x2 w) : kzE E L kt_M300 32 [(0, .ref (w_adr E.2.1 7 0)), (1, va_rf (x1)), (2, .int x2)] [] w Q := by
  unfold zb_X8_begin_p32 at h
  refine kz_aload_n (M := kt_M300) kX8_begin_c2.1 rfl ?_
  refine kz_gfi (M := kt_M300) (c := 7) (o := 0) kX8_begin_c2.2.1 wf_X8_45 (.inl rfl) ?_
  refine kz_iload_n (M := kt_M300) kX8_begin_c2.2.2.1 rfl ?_
  refine kz_iadd (M := kt_M300) kX8_begin_c2.2.2.2.1 ?_
  refine kz_aload_n (M := kt_M300) kX8_begin_c2.2.2.2.2.1 rfl ?_
  refine kz_gfa (M := kt_M300) (c := 7) (o := 0) kX8_begin_c2.2.2.2.2.2.1 wf_X8_21 (.inl rfl) ?_
  refine kz_alen (M := kt_M300) (c := 7) (o := 0) (k := 5) (a := (w_d w 7 0 5)) (τ := 0) kX8_begin_c2.2.2.2.2.2.2.1 ow_7_0_5 oa_7_0_5 (Nat.le_of_ble_eq_true rfl) ?_
  refine kz_icmp_le (M := kt_M300) kX8_begin_c2.2.2.2.2.2.2.2.1 (t := 64) rfl h (fun h => ?_) (fun h => ?_)
  · skip
    refine kz_ic (M := kt_M300) 0 kX8_begin_c4.1 rfl ?_
    refine kz_sti_n (M := kt_M300) [(0, .ref (w_adr E.2.1 7 0)), (1, va_rf (x1)), (2, .int x2)] kX8_begin_c4.2.1 (Nat.le_of_ble_eq_true rfl) ⟨⟨rfl, rfl, .inl rfl⟩, ⟨⟨rfl, rfl, .inl rfl⟩, ⟨⟨rfl, rfl, .inr rfl⟩, trivial⟩⟩⟩ rfl ?_
    exact kz_weak [(0, .ref (w_adr E.2.1 7 0)), (1, va_rf (x1)), (2, .int x2), (3, .int 0)] ⟨rfl, ⟨rfl, ⟨rfl, ⟨rfl, trivial⟩⟩⟩⟩ rfl h
  · skip
    refine kz_aload_n (M := kt_M300) kX8_begin_c3.1 rfl ?_
    refine kz_aload_n (M := kt_M300) kX8_begin_c3.2.1 rfl ?_
    refine kz_gfa (M := kt_M300) (c := 7) (o := 0) kX8_begin_c3.2.2.1 wf_X8_21 (.inl rfl) ?_
    refine kz_aload_n (M := kt_M300) kX8_begin_c3.2.2.2.1 rfl ?_
    refine kz_gfi (M := kt_M300) (c := 7) (o := 0) kX8_begin_c3.2.2.2.2.1 wf_X8_45 (.inl rfl) ?_
    refine kz_csr (M := kt_M300) (As := [.ref (w_d w 7 0 5), .int (w_i w 7 0 7)]) (rest := [.ref (w_adr E.2.1 7 0)]) kX8_begin_c3.2.2.2.2.2.1 wl_X8_167 wMs_313 rfl (Nat.le_trans (Nat.le_of_ble_eq_true rfl) hL) (Nat.le_of_ble_eq_true rfl) (Nat.le_of_ble_eq_true rfl) h (fun v2 w1 hle h => ?_) (fun _ _ _ h => kzx_no rfl h)
    have h := h hle
    obtain ⟨a3, hx, h⟩ := h
    refine kz_nz0 (M := kt_M300) (x := v2) hx ?_
    refine kz_pfa (M := kt_M300) (c := 7) (o := 0) (τ := 0) kX8_begin_c3.2.2.2.2.2.2.1 wq_X8_21 (.inl rfl) rfl h (fun h => ?_)
    refine kz_goto (M := kt_M300) kX8_begin_c3.2.2.2.2.2.2.2.1 (t := 32) rfl ?_
    exact kz_weak [(0, .ref (w_adr E.2.1 7 0)), (1, va_rf (x1)), (2, .int x2)] ⟨rfl, ⟨rfl, ⟨rfl, trivial⟩⟩⟩ rfl h
def zb_X8_begin_p30 (E : zE) (L : Nat) (Q : kx_Rs → wS → Prop) (x1 : Option Nat) (y0 : Int32) (y1 : Int32) (w : wS) : Prop := zL_X8_begin_p32 E L Q x1 (y1 + y0) w
theorem zt_X8_begin_p30 {E : zE} {L : Nat} {Q : kx_Rs → wS → Prop} {x1 : Option Nat} {y0 : Int32} {y1 : Int32} {w : wS} (hL : 60 ≤ L) (h : zb_X8_begin_p30 E L Q x1 y0 y1 w) : kzE E L kt_M300 30 [(0, .ref (w_adr E.2.1 7 0)), (1, va_rf (x1))] [.int y0, .int y1] w Q := by
  unfold zb_X8_begin_p30 at h
  refine kz_iadd (M := kt_M300) kX8_begin_c1.2.2.2.2.2.2.1 ?_
  refine kz_sti_n (M := kt_M300) [(0, .ref (w_adr E.2.1 7 0)), (1, va_rf (x1))] kX8_begin_c1.2.2.2.2.2.2.2.1 (Nat.le_of_ble_eq_true rfl) ⟨⟨rfl, rfl, .inl rfl⟩, ⟨⟨rfl, rfl, .inr (w_cat (x1))⟩, trivial⟩⟩ rfl ?_
  exact kz_weak [(0, .ref (w_adr E.2.1 7 0)), (1, va_rf (x1)), (2, .int (y1 + y0))] ⟨rfl, ⟨rfl, ⟨rfl, trivial⟩⟩⟩ rfl h
def zb_X8_begin_p0 (E : zE) (L : Nat) (Q : kx_Rs → wS → Prop) (x1 : Option Nat) (w : wS) : Prop := (∃ p1, x1 = some p1 ∧ w_l w E.2.1 15 p1 ∧ (if ¬ w_i w 15 p1 9 = 0 then (if ¬ w_i w 15 p1 6 = (-1) then zb_X8_begin_p30 E L Q x1 (w_i w 15 p1 6) 2 w else zb_X8_begin_p30 E L Q x1 200 2 w) else zb_X8_begin_p30 E L Q x1 0 2 w))
theorem zt_X8_begin_p0 {E : zE} {L : Nat} {Q : kx_Rs → wS → Prop} {x1 : Option Nat} {w : wS} (hL : 60 ≤ L) (h : zb_X8_begin_p0 E L Q x1 w) : kzE E L kt_M300 0 [(0, .ref (w_adr E.2.1 7 0)), (1, va_rf (x1))] [] w Q := by
  unfold zb_X8_begin_p0 at h
  refine kz_ic (M := kt_M300) 2 kX8_begin_c0.1 rfl ?_
  refine kz_aload_nv (M := kt_M300) (x := x1) kX8_begin_c0.2.1 rfl ?_
  obtain ⟨p1, hxp1, hlp1, h⟩ := h
  refine kz_nz0 (x := x1) hxp1 ?_
  refine kz_gfi (M := kt_M300) (c := 15) (o := p1) kX8_begin_c0.2.2.1 wf_X8_366 (.inr (by exact hlp1)) ?_
  refine kz_if_ne (M := kt_M300) kX8_begin_c0.2.2.2.1 (t := 12) rfl h (fun h => ?_) (fun h => ?_)
  · skip
    refine kz_aload_nv (M := kt_M300) (x := x1) kX8_begin_c0.2.2.2.2.2.2.1 rfl ?_
    refine kz_nz0 (x := x1) hxp1 ?_
    refine kz_gfi (M := kt_M300) (c := 15) (o := p1) kX8_begin_c0.2.2.2.2.2.2.2.1 wf_X8_361 (.inr (by exact hlp1)) ?_
    refine kz_ic (M := kt_M300) (-1) kX8_begin_c1.1 rfl ?_
    refine kz_icmp_ne (M := kt_M300) kX8_begin_c1.2.1 (t := 26) rfl h (fun h => ?_) (fun h => ?_)
    · skip
      refine kz_aload_nv (M := kt_M300) (x := x1) kX8_begin_c1.2.2.2.2.1 rfl ?_
      refine kz_nz0 (x := x1) hxp1 ?_
      refine kz_gfi (M := kt_M300) (c := 15) (o := p1) kX8_begin_c1.2.2.2.2.2.1 wf_X8_361 (.inr (by exact hlp1)) ?_
      exact kz_weak [(0, .ref (w_adr E.2.1 7 0)), (1, va_rf (x1))] ⟨rfl, ⟨rfl, trivial⟩⟩ rfl (zt_X8_begin_p30 hL  h)
    · skip
      refine kz_si (M := kt_M300) 200 kX8_begin_c1.2.2.1 rfl ?_
      refine kz_goto (M := kt_M300) kX8_begin_c1.2.2.2.1 (t := 30) rfl ?_
      exact kz_weak [(0, .ref (w_adr E.2.1 7 0)), (1, va_rf (x1))] ⟨rfl, ⟨rfl, trivial⟩⟩ rfl (zt_X8_begin_p30 hL  h)
  · skip
    refine kz_ic (M := kt_M300) 0 kX8_begin_c0.2.2.2.2.1 rfl ?_
    refine kz_goto (M := kt_M300) kX8_begin_c0.2.2.2.2.2.1 (t := 30) rfl ?_
    exact kz_weak [(0, .ref (w_adr E.2.1 7 0)), (1, va_rf (x1))] ⟨rfl, ⟨rfl, trivial⟩⟩ rfl (zt_X8_begin_p30 hL  h)
def zb_X8_grown_p0 (E : zE) (L : Nat) (Q : kx_Rs → wS → Prop) (c0 o0 k0 : Nat) (x1 : Int32) (w : wS) : Prop := ((¬ ((2 * (Int32.ofNat (w_n w c0 o0 k0)))) < 0 ∧ ((2 * (Int32.ofNat (w_n w c0 o0 k0)))).toNatClampNeg * 4 ≤ 536870912 ∧ 1 ≤ w_C w ∧ ((2 * (Int32.ofNat (w_n w c0 o0 k0)))).toNatClampNeg ≤ w_S w) ∧ (w_own (ws_new w 0 ((2 * (Int32.ofNat (w_n w c0 o0 k0)))).toNatClampNeg) wG E.2.1 0 c0 o0 k0 ∧ ((w_o (ws_new w 0 ((2 * (Int32.ofNat (w_n w c0 o0 k0)))).toNatClampNeg) (w_z w) = some (99, (w_z w), 0) ∧ w_t (ws_new w 0 ((2 * (Int32.ofNat (w_n w c0 o0 k0)))).toNatClampNeg) (w_z w) = 0) ∧ (((¬ (0 : Int32) < 0 ∧ ¬ (0 : Int32) < 0 ∧ ¬ (x1) < 0) ∧ (0 : Int32).toNatClampNeg + (x1).toNatClampNeg ≤ w_n (ws_new w 0 ((2 * (Int32.ofNat (w_n w c0 o0 k0)))).toNatClampNeg) c0 o0 k0 ∧ (0 : Int32).toNatClampNeg + (x1).toNatClampNeg ≤ w_n (ws_new w 0 ((2 * (Int32.ofNat (w_n w c0 o0 k0)))).toNatClampNeg) 99 (w_z w) 0 ∧ ∀ i, i < (x1).toNatClampNeg → fits .int (.int (w_a (ws_new w 0 ((2 * (Int32.ofNat (w_n w c0 o0 k0)))).toNatClampNeg) c0 o0 k0 ((0 : Int32).toNatClampNeg + i))) = true) ∧ Q (.inl (some (.ref (w_z w)))) (ws_A (ws_new w 0 ((2 * (Int32.ofNat (w_n w c0 o0 k0)))).toNatClampNeg) 99 (w_z w) 0 (va_cpy (w_a (ws_new w 0 ((2 * (Int32.ofNat (w_n w c0 o0 k0)))).toNatClampNeg) c0 o0 k0) (w_a (ws_new w 0 ((2 * (Int32.ofNat (w_n w c0 o0 k0)))).toNatClampNeg) 99 (w_z w) 0) (0 : Int32).toNatClampNeg (0 : Int32).toNatClampNeg (x1).toNatClampNeg))))))
theorem zt_X8_grown_p0 {E : zE} {L : Nat} {Q : kx_Rs → wS → Prop} {c0 o0 k0 : Nat} {x1 : Int32} {w : wS} (hL : 60 ≤ L) (ho0 : w_own w wG E.2.1 0 c0 o0 k0) (h : zb_X8_grown_p0 E L Q c0 o0 k0 x1 w) : kzE E L kt_M313 0 [(0, .ref (w_aa wG E.2.1 w c0 o0 k0)), (1, .int x1)] [] w Q := by
  unfold zb_X8_grown_p0 at h
  refine kz_ic (M := kt_M313) 2 kX8_grown_c0.1 rfl ?_
  refine kz_aload_n (M := kt_M313) kX8_grown_c0.2.1 rfl ?_
  refine kz_alen (M := kt_M313) (c := c0) (o := o0) (k := k0) (a := (w_aa wG E.2.1 w c0 o0 k0)) (τ := 0) kX8_grown_c0.2.2.1 ho0 rfl (Nat.le_of_ble_eq_true rfl) ?_
  refine kz_imul (M := kt_M313) kX8_grown_c0.2.2.2.1 ?_
  refine kz_newi (M := kt_M313) kX8_grown_c0.2.2.2.2.1 ot_f0 ot_0 ot_ai h (fun h => ?_)
  obtain ⟨ho0, h⟩ := h
  refine kz_sta_n (M := kt_M313) [(0, .ref (w_aa wG E.2.1 (ws_new w 0 ((2 * (Int32.ofNat (w_n w c0 o0 k0)))).toNatClampNeg) c0 o0 k0)), (1, .int x1)] kX8_grown_c0.2.2.2.2.2.1 (Nat.le_of_ble_eq_true rfl) ⟨⟨rfl, rfl, .inl rfl⟩, ⟨⟨rfl, rfl, .inr rfl⟩, trivial⟩⟩ rfl ?_
  refine kz_aload_n (M := kt_M313) kX8_grown_c0.2.2.2.2.2.2.1 rfl ?_
  refine kz_ic (M := kt_M313) 0 kX8_grown_c0.2.2.2.2.2.2.2.1 rfl ?_
  refine kz_aload_n (M := kt_M313) kX8_grown_c1.1 rfl ?_
  refine kz_ic (M := kt_M313) 0 kX8_grown_c1.2.1 rfl ?_
  refine kz_iload_n (M := kt_M313) kX8_grown_c1.2.2.1 rfl ?_
  obtain ⟨h0, h⟩ := h
  refine kz_cpyi (M := kt_M313) (τ := 0) (ty := .int) (c0 := c0) (o0 := o0) (k0 := k0) (c := 99) (o := (w_z w)) (k := 0) (a0 := (w_aa wG E.2.1 (ws_new w 0 ((2 * (Int32.ofNat (w_n w c0 o0 k0)))).toNatClampNeg) c0 o0 k0)) (a := (w_z w)) kX8_grown_c1.2.2.2.1 (zac_X8_161) (by decide) rfl rfl ho0 rfl (.inl ⟨rfl, rfl, h0.1, h0.2⟩) rfl (Nat.le_trans (by simp [kx_cat, w_cat, zac_w, z_ci, z_cr, z_cl, z_cn]) hL) h (fun h => ?_)
  refine kz_aload_n (M := kt_M313) kX8_grown_c1.2.2.2.2.1 rfl ?_
  exact kz_areta (M := kt_M313) kX8_grown_c1.2.2.2.2.2.1 rfl h
def zb_X8_isKnown_p0 (E : zE) (L : Nat) (Q : kx_Rs → wS → Prop) (x1 : Option Nat) (w : wS) : Prop := zw E (L - 23) kt_M316 [.ref (w_adr E.2.1 7 0), va_rf (x1)] (ws_i w 7 0 16 0) (wk1 (fun v2 w1 => wle (ws_i w 7 0 16 0) w1 → ((v2 = 0 ∨ v2 = 1) ∧ Q (.inl (some (.int v2))) w1)) (fun e w => Q (.inr e) w))
theorem zt_X8_isKnown_p0 {E : zE} {L : Nat} {Q : kx_Rs → wS → Prop} {x1 : Option Nat} {w : wS} (hL : 23 ≤ L) (h : zb_X8_isKnown_p0 E L Q x1 w) : kzE E L kt_M315 0 [(0, .ref (w_adr E.2.1 7 0)), (1, va_rf (x1))] [] w Q := by
  unfold zb_X8_isKnown_p0 at h
  refine kz_aload_n (M := kt_M315) kX8_isKnown_c0.1 rfl ?_
  refine kz_ic (M := kt_M315) 0 kX8_isKnown_c0.2.1 rfl ?_
  refine kz_pfi (M := kt_M315) (c := 7) (o := 0) kX8_isKnown_c0.2.2.1 wq_X8_351 (.inl rfl) ?_
  refine kz_aload_n (M := kt_M315) kX8_isKnown_c0.2.2.2.1 rfl ?_
  refine kz_aload_nv (M := kt_M315) (x := x1) kX8_isKnown_c0.2.2.2.2.1 rfl ?_
  refine kz_cv1 (M := kt_M315) (c := 7) (o := 0) (As := [va_rf (x1)]) (rest := []) kX8_isKnown_c0.2.2.2.2.2.1 wl_X8_372 wMv_316 rfl (.inl rfl) rfl (Nat.le_trans (Nat.le_of_ble_eq_true rfl) hL) (by simp [lg_sl, w_cat, z_ci, z_cr, z_cl, z_cn, kt_M316]) (Nat.le_of_ble_eq_true rfl) h (fun v2 w1 hle h => ?_) (fun _ _ _ h => kzx_no rfl h)
  have h := h hle
  exact kz_iretz (M := kt_M315) kX8_isKnown_c0.2.2.2.2.2.2.1 rfl h.1 h.2
def zL_X8_known_p182 (E : zE) (L : Nat) (Q : kx_Rs → wS → Prop) (x2 : Option Nat) (x3 : Int32) (w : wS) : Prop := kzE E L kt_M316 182 [(0, .ref (w_adr E.2.1 7 0)), (2, va_rf (x2)), (3, .int x3)] [] w Q
def zL_X8_known_p128 (E : zE) (L : Nat) (Q : kx_Rs → wS → Prop) (x2 : Option Nat) (w : wS) : Prop := kzE E L kt_M316 128 [(0, .ref (w_adr E.2.1 7 0)), (2, va_rf (x2))] [] w Q
def zb_X8_known_p182 (E : zE) (L : Nat) (Q : kx_Rs → wS → Prop) (x2 : Option Nat) (x3 : Int32) (w : wS) : Prop := (if w_i w 7 0 16 ≤ x3 then (∃ p1, x2 = some p1 ∧ w_l (ws_i w 7 0 16 ((w_i w 7 0 16) + 1)) E.2.1 15 p1 ∧ (kx_inb (w_i w 7 0 16) (w_n (ws_i w 7 0 16 ((w_i w 7 0 16) + 1)) 7 0 15) = true ∧ Q (.inl (some (.int 1))) (ws_r (ws_i w 7 0 16 ((w_i w 7 0 16) + 1)) 7 0 15 (w_i w 7 0 16).toNatClampNeg (some p1)))) else (kx_inb x3 (w_n w 7 0 15) = true ∧ (if ¬ w_r w 7 0 15 (x3).toNatClampNeg = x2 then zL_X8_known_p182 E L Q x2 (x3 + 1) w else Q (.inl (some (.int 1))) w)))
theorem zt_X8_known_p182 {E : zE} {L : Nat} {Q : kx_Rs → wS → Prop} {x2 : Option Nat} {x3 : Int32} {w : wS} (hL : 23 ≤ L) (h : zb_X8_known_p182 E L Q x2 x3 w) : kzE E L kt_M316 182 [(0, .ref (w_adr E.2.1 7 0)), (2, va_rf (x2)), (3, .int x3)] [] w Q := by
  unfold zb_X8_known_p182 at h
  refine kz_iload_n (M := kt_M316) kX8_known_c9.2.2.1 rfl ?_
  refine kz_aload_n (M := kt_M316) kX8_known_c9.2.2.2.1 rfl ?_
  refine kz_gfi (M := kt_M316) (c := 7) (o := 0) kX8_known_c9.2.2.2.2.1 wf_X8_351 (.inl rfl) ?_
  refine kz_icmp_ge (M := kt_M316) kX8_known_c9.2.2.2.2.2.1 (t := 208) rfl h (fun h => ?_) (fun h => ?_)
  · skip
    refine kz_aload_n (M := kt_M316) kX8_known_c11.1 rfl ?_
    refine kz_gfc (M := kt_M316) (x := 2807) (c := 7) (o := 0) kX8_known_c11.2.1 wf_X8_30 (.inl rfl) ?_
    refine kz_aload_n (M := kt_M316) kX8_known_c11.2.2.1 rfl ?_
    refine kz_dup (M := kt_M316) kX8_known_c11.2.2.2.1 rfl ?_
    refine kz_gfi (M := kt_M316) (c := 7) (o := 0) kX8_known_c11.2.2.2.2.1 wf_X8_351 (.inl rfl) ?_
    refine kz_dup_x1 (M := kt_M316) kX8_known_c11.2.2.2.2.2.1 ⟨rfl, rfl⟩ ?_
    refine kz_ic (M := kt_M316) 1 kX8_known_c11.2.2.2.2.2.2.1 rfl ?_
    refine kz_iadd (M := kt_M316) kX8_known_c11.2.2.2.2.2.2.2.1 ?_
    refine kz_pfi (M := kt_M316) (c := 7) (o := 0) kX8_known_c12.1 wq_X8_351 (.inl rfl) ?_
    refine kz_aload_nv (M := kt_M316) (x := x2) kX8_known_c12.2.1 rfl ?_
    obtain ⟨p1, hxp1, hlp1, h⟩ := h
    refine kz_nz0 (x := x2) hxp1 ?_
    refine kz_aasto (M := kt_M316) (C1 := "") (τ := 2) (ci := 15) (c := 7) (o := 0) (k := 15) (a := (E.2.1 2807)) (v := p1) kX8_known_c12.2.2.1 ow_7_0_15 oa_7_0_15 rfl rfl rfl (by exact hlp1) h (fun h => ?_)
    refine kz_ic (M := kt_M316) 1 kX8_known_c12.2.2.2.1 rfl ?_
    exact kz_iretz (M := kt_M316) kX8_known_c12.2.2.2.2.1 rfl (by decide) h
  · skip
    refine kz_aload_n (M := kt_M316) kX8_known_c9.2.2.2.2.2.2.1 rfl ?_
    refine kz_gfc (M := kt_M316) (x := 2807) (c := 7) (o := 0) kX8_known_c9.2.2.2.2.2.2.2.1 wf_X8_30 (.inl rfl) ?_
    refine kz_iload_n (M := kt_M316) kX8_known_c10.1 rfl ?_
    refine kz_aald (M := kt_M316) (τ := 2) (c := 7) (o := 0) (k := 15) (a := (E.2.1 2807)) kX8_known_c10.2.1 ow_7_0_15 oa_7_0_15 ot_6 rfl h (fun h => ?_)
    refine kz_aload_nv (M := kt_M316) (x := x2) kX8_known_c10.2.2.1 rfl ?_
    refine kz_acmp_ne (M := kt_M316) (x := w_r w 7 0 15 (x3).toNatClampNeg) (y := x2) kX8_known_c10.2.2.2.1 (t := 202) rfl h (fun h => ?_) (fun h => ?_)
    · skip
      refine kz_inc (M := kt_M316) [(0, .ref (w_adr E.2.1 7 0)), (2, va_rf (x2))] kX8_known_c10.2.2.2.2.2.2.1 rfl (Nat.le_of_ble_eq_true rfl) ⟨⟨rfl, rfl, .inl rfl⟩, ⟨⟨rfl, rfl, .inr (w_cat (x2))⟩, trivial⟩⟩ rfl ?_
      refine kz_goto (M := kt_M316) kX8_known_c10.2.2.2.2.2.2.2.1 (t := 182) rfl ?_
      exact kz_weak [(0, .ref (w_adr E.2.1 7 0)), (2, va_rf (x2)), (3, .int (x3 + 1))] ⟨rfl, ⟨rfl, ⟨rfl, trivial⟩⟩⟩ rfl h
    · skip
      refine kz_ic (M := kt_M316) 1 kX8_known_c10.2.2.2.2.1 rfl ?_
      exact kz_iretz (M := kt_M316) kX8_known_c10.2.2.2.2.2.1 rfl (by decide) h
def zb_X8_known_p178 (E : zE) (L : Nat) (Q : kx_Rs → wS → Prop) (w : wS) : Prop := Q (.inl (some (.int 0))) w
theorem zt_X8_known_p178 {E : zE} {L : Nat} {Q : kx_Rs → wS → Prop} {w : wS} (hL : 23 ≤ L) (h : zb_X8_known_p178 E L Q  w) : kzE E L kt_M316 178 [(0, .ref (w_adr E.2.1 7 0))] [] w Q := by
  unfold zb_X8_known_p178 at h
  refine kz_ic (M := kt_M316) 0 kX8_known_c8.2.2.2.2.2.2.1 rfl ?_
  exact kz_iretz (M := kt_M316) kX8_known_c8.2.2.2.2.2.2.2.1 rfl (by decide) h
def zb_X8_known_p128 (E : zE) (L : Nat) (Q : kx_Rs → wS → Prop) (x2 : Option Nat) (w : wS) : Prop := (if x2 = none then Q (.inl (some (.int 1))) w else zw E (L - 23) kt_M316 [.ref (w_adr E.2.1 7 0), va_rf (x2)] w (wk1 (fun v2 w1 => wle w w1 → (if ¬ v2 = 0 then (∃ p3, x2 = some p3 ∧ w_l w1 E.2.1 14 p3 ∧ zL_X8_known_p128 E L Q (w_p w1 14 p3 7) w1) else Q (.inl (some (.int 0))) w1)) (fun e w => Q (.inr e) w)))
theorem zt_X8_known_p128 {E : zE} {L : Nat} {Q : kx_Rs → wS → Prop} {x2 : Option Nat} {w : wS} (hL : 23 ≤ L) (h : zb_X8_known_p128 E L Q x2 w) : kzE E L kt_M316 128 [(0, .ref (w_adr E.2.1 7 0)), (2, va_rf (x2))] [] w Q := by
  unfold zb_X8_known_p128 at h
  refine kz_aload_nv (M := kt_M316) (x := x2) kX8_known_c5.2.2.2.2.1 rfl ?_
  refine kz_ifnull (M := kt_M316) (x := x2) kX8_known_c5.2.2.2.2.2.1 (t := 150) rfl h (fun h => ?_) (fun h => ?_)
  · skip
    refine kz_ic (M := kt_M316) 1 kX8_known_c7.1 rfl ?_
    exact kz_iretz (M := kt_M316) kX8_known_c7.2.1 rfl (by decide) h
  · skip
    refine kz_aload_n (M := kt_M316) kX8_known_c5.2.2.2.2.2.2.1 rfl ?_
    refine kz_aload_nv (M := kt_M316) (x := x2) kX8_known_c5.2.2.2.2.2.2.2.1 rfl ?_
    refine kz_cv1 (M := kt_M316) (c := 7) (o := 0) (As := [va_rf (x2)]) (rest := []) kX8_known_c6.1 wl_X8_372 wMv_316 rfl (.inl rfl) rfl (Nat.le_trans (Nat.le_of_ble_eq_true rfl) hL) (by simp [lg_sl, w_cat, z_ci, z_cr, z_cl, z_cn, kt_M316]) (Nat.le_of_ble_eq_true rfl) h (fun v2 w1 hle h => ?_) (fun _ _ _ h => kzx_no rfl h)
    have h := h hle
    refine kz_if_ne (M := kt_M316) kX8_known_c6.2.1 (t := 142) rfl h (fun h => ?_) (fun h => ?_)
    · skip
      refine kz_aload_nv (M := kt_M316) (x := x2) kX8_known_c6.2.2.2.2.1 rfl ?_
      obtain ⟨p3, hxp3, hlp3, h⟩ := h
      refine kz_nz0 (x := x2) hxp3 ?_
      refine kz_gfp (M := kt_M316) (c := 14) (o := p3) kX8_known_c6.2.2.2.2.2.1 wf_X8_67 (.inr (by exact hlp3)) ?_
      refine kz_stv_n (M := kt_M316) (x := w_p w1 14 p3 7) [(0, .ref (w_adr E.2.1 7 0))] kX8_known_c6.2.2.2.2.2.2.1 (Nat.le_of_ble_eq_true rfl) ⟨⟨rfl, rfl, .inl rfl⟩, trivial⟩ rfl ?_
      refine kz_goto (M := kt_M316) kX8_known_c6.2.2.2.2.2.2.2.1 (t := 128) rfl ?_
      exact kz_weak [(0, .ref (w_adr E.2.1 7 0)), (2, va_rf (w_p w1 14 p3 7))] ⟨rfl, ⟨rfl, trivial⟩⟩ rfl h
    · skip
      refine kz_ic (M := kt_M316) 0 kX8_known_c6.2.2.1 rfl ?_
      exact kz_iretz (M := kt_M316) kX8_known_c6.2.2.2.1 rfl (by decide) h
def zb_X8_known_p122 (E : zE) (L : Nat) (Q : kx_Rs → wS → Prop) (y0 : Int32) (w : wS) : Prop := ((y0 = 0 ∨ y0 = 1) ∧ Q (.inl (some (.int y0))) w)
theorem zt_X8_known_p122 {E : zE} {L : Nat} {Q : kx_Rs → wS → Prop} {y0 : Int32} {w : wS} (hL : 23 ≤ L) (h : zb_X8_known_p122 E L Q y0 w) : kzE E L kt_M316 122 [(0, .ref (w_adr E.2.1 7 0))] [.int y0] w Q := by
  unfold zb_X8_known_p122 at h
  exact kz_iretz (M := kt_M316) kX8_known_c5.1 rfl h.1 h.2
def zb_X8_known_p121 (E : zE) (L : Nat) (Q : kx_Rs → wS → Prop) (w : wS) : Prop := zb_X8_known_p122 E L Q 0 w
theorem zt_X8_known_p121 {E : zE} {L : Nat} {Q : kx_Rs → wS → Prop} {w : wS} (hL : 23 ≤ L) (h : zb_X8_known_p121 E L Q  w) : kzE E L kt_M316 121 [(0, .ref (w_adr E.2.1 7 0))] [] w Q := by
  unfold zb_X8_known_p121 at h
  refine kz_ic (M := kt_M316) 0 kX8_known_c4.2.2.2.2.2.2.2.1 rfl ?_
  exact kz_weak [(0, .ref (w_adr E.2.1 7 0))] ⟨rfl, trivial⟩ rfl (zt_X8_known_p122 hL  h)
def zb_X8_known_p94 (E : zE) (L : Nat) (Q : kx_Rs → wS → Prop) (y0 : Int32) (w : wS) : Prop := ((y0 = 0 ∨ y0 = 1) ∧ Q (.inl (some (.int y0))) w)
theorem zt_X8_known_p94 {E : zE} {L : Nat} {Q : kx_Rs → wS → Prop} {y0 : Int32} {w : wS} (hL : 23 ≤ L) (h : zb_X8_known_p94 E L Q y0 w) : kzE E L kt_M316 94 [(0, .ref (w_adr E.2.1 7 0))] [.int y0] w Q := by
  unfold zb_X8_known_p94 at h
  exact kz_iretz (M := kt_M316) kX8_known_c3.2.2.1 rfl h.1 h.2
def zb_X8_known_p93 (E : zE) (L : Nat) (Q : kx_Rs → wS → Prop) (w : wS) : Prop := zb_X8_known_p94 E L Q 0 w
theorem zt_X8_known_p93 {E : zE} {L : Nat} {Q : kx_Rs → wS → Prop} {w : wS} (hL : 23 ≤ L) (h : zb_X8_known_p93 E L Q  w) : kzE E L kt_M316 93 [(0, .ref (w_adr E.2.1 7 0))] [] w Q := by
  unfold zb_X8_known_p93 at h
  refine kz_ic (M := kt_M316) 0 kX8_known_c3.2.1 rfl ?_
  exact kz_weak [(0, .ref (w_adr E.2.1 7 0))] ⟨rfl, trivial⟩ rfl (zt_X8_known_p94 hL  h)
def zb_X8_known_p0 (E : zE) (L : Nat) (Q : kx_Rs → wS → Prop) (x1 : Option Nat) (w : wS) : Prop := (∃ p1, x1 = some p1 ∧ w_l w E.2.1 14 p1 ∧ (if w_i w 14 p1 21 = 0 then (∃ i2, zO E "MeetingHouse$Kind" (w_p w 14 p1 0) i2 ∧ (if (kw_on i2) = 37 then zw E (L - 23) kt_M316 [.ref (w_adr E.2.1 7 0), va_rf (w_p w 14 p1 3)] w (wk1 (fun v4 w3 => wle w w3 → ((v4 = 0 ∨ v4 = 1) ∧ Q (.inl (some (.int v4))) w3)) (fun e w => Q (.inr e) w)) else (if (kw_on i2) = 39 then (if ¬ (w_p w 14 p1 3) = none then zb_X8_known_p178 E L Q w else (∃ p5, w_p w 14 p1 16 = some p5 ∧ w_l w E.2.1 15 p5 ∧ (if w_i w 15 p5 13 = 0 then zb_X8_known_p178 E L Q w else (if ¬ w_i w 15 p5 24 = 0 then zL_X8_known_p182 E L Q (w_p w 14 p1 16) 0 w else zb_X8_known_p178 E L Q w)))) else (if (kw_on i2) = 41 then (if w_i w 14 p1 8 = 27 then zb_X8_known_p93 E L Q w else zw E (L - 23) kt_M316 [.ref (w_adr E.2.1 7 0), va_rf (w_p w 14 p1 3)] w (wk1 (fun v7 w6 => wle w w6 → (if v7 = 0 then zb_X8_known_p93 E L Q w6 else zb_X8_known_p94 E L Q 1 w6)) (fun e w => Q (.inr e) w))) else (if (kw_on i2) = 42 then zw E (L - 23) kt_M316 [.ref (w_adr E.2.1 7 0), va_rf (w_p w 14 p1 3)] w (wk1 (fun v9 w8 => wle w w8 → (if v9 = 0 then zb_X8_known_p121 E L Q w8 else zw E (L - 23) kt_M316 [.ref (w_adr E.2.1 7 0), va_rf (w_p w8 14 p1 4)] w8 (wk1 (fun v11 w10 => wle w8 w10 → (if v11 = 0 then zb_X8_known_p121 E L Q w10 else zb_X8_known_p122 E L Q 1 w10)) (fun e w => Q (.inr e) w)))) (fun e w => Q (.inr e) w)) else (if (kw_on i2) = 43 then zL_X8_known_p128 E L Q (w_p w 14 p1 3) w else Q (.inl (some (.int 0))) w)))))) else Q (.inl (some (.int 1))) w))
theorem zt_X8_known_p0 {E : zE} {L : Nat} {Q : kx_Rs → wS → Prop} {x1 : Option Nat} {w : wS} (hL : 23 ≤ L) (h : zb_X8_known_p0 E L Q x1 w) : kzE E L kt_M316 0 [(0, .ref (w_adr E.2.1 7 0)), (1, va_rf (x1))] [] w Q := by
  unfold zb_X8_known_p0 at h
  refine kz_aload_nv (M := kt_M316) (x := x1) kX8_known_c0.1 rfl ?_
  obtain ⟨p1, hxp1, hlp1, h⟩ := h
  refine kz_nz0 (x := x1) hxp1 ?_
  refine kz_gfi (M := kt_M316) (c := 14) (o := p1) kX8_known_c0.2.1 wf_X8_375 (.inr (by exact hlp1)) ?_
  refine kz_if_eq (M := kt_M316) kX8_known_c0.2.2.1 (t := 9) rfl h (fun h => ?_) (fun h => ?_)
  · skip
    refine kz_aload_nv (M := kt_M316) (x := x1) kX8_known_c0.2.2.2.2.2.1 rfl ?_
    refine kz_nz0 (x := x1) hxp1 ?_
    refine kz_gfp (M := kt_M316) (c := 14) (o := p1) kX8_known_c0.2.2.2.2.2.2.1 wf_X8_76 (.inr (by exact hlp1)) ?_
    obtain ⟨i2, ho, h⟩ := h
    refine kz_ord (M := kt_M316) (x := w_p w 14 p1 0) (i := i2) (C := "MeetingHouse$Kind") kX8_known_c0.2.2.2.2.2.2.2.1 zo_l_X8 zo_m_X8 zo_s_Kind zo_u_X8 (Nat.le_trans (Nat.le_of_ble_eq_true rfl) hL) (Nat.le_of_ble_eq_true rfl) ho ?_
    refine kz_tsw (M := kt_M316) [(37, 60), (39, 152), (41, 69), (42, 95), (43, 123)] [_, _, _, _, _] 227 dX8_known_p16 (by decide +kernel) h ⟨fun h => ?_, fun h => ?_, fun h => ?_, fun h => ?_, fun h => ?_, trivial⟩ (fun h => ?_)
    · skip
      refine kz_aload_n (M := kt_M316) kX8_known_c1.2.1 rfl ?_
      refine kz_aload_nv (M := kt_M316) (x := x1) kX8_known_c1.2.2.1 rfl ?_
      refine kz_nz0 (x := x1) hxp1 ?_
      refine kz_gfp (M := kt_M316) (c := 14) (o := p1) kX8_known_c1.2.2.2.1 wf_X8_58 (.inr (by exact hlp1)) ?_
      refine kz_cv1 (M := kt_M316) (c := 7) (o := 0) (As := [va_rf (w_p w 14 p1 3)]) (rest := []) kX8_known_c1.2.2.2.2.1 wl_X8_372 wMv_316 rfl (.inl rfl) rfl (Nat.le_trans (Nat.le_of_ble_eq_true rfl) hL) (by simp [lg_sl, w_cat, z_ci, z_cr, z_cl, z_cn, kt_M316]) (Nat.le_of_ble_eq_true rfl) h (fun v4 w3 hle h => ?_) (fun _ _ _ h => kzx_no rfl h)
      have h := h hle
      have hlp1 := w_l_le hlp1 hle
      exact kz_iretz (M := kt_M316) kX8_known_c1.2.2.2.2.2.1 rfl h.1 h.2
    · skip
      refine kz_aload_nv (M := kt_M316) (x := x1) kX8_known_c7.2.2.1 rfl ?_
      refine kz_nz0 (x := x1) hxp1 ?_
      refine kz_gfp (M := kt_M316) (c := 14) (o := p1) kX8_known_c7.2.2.2.1 wf_X8_131 (.inr (by exact hlp1)) ?_
      refine kz_stv_n (M := kt_M316) (x := w_p w 14 p1 16) [(0, .ref (w_adr E.2.1 7 0)), (1, va_rf (x1))] kX8_known_c7.2.2.2.2.1 (Nat.le_of_ble_eq_true rfl) ⟨⟨rfl, rfl, .inl rfl⟩, ⟨⟨rfl, rfl, .inr (w_cat (x1))⟩, trivial⟩⟩ rfl ?_
      refine kz_aload_nv (M := kt_M316) (x := x1) kX8_known_c7.2.2.2.2.2.1 rfl ?_
      refine kz_nz0 (x := x1) hxp1 ?_
      refine kz_gfp (M := kt_M316) (c := 14) (o := p1) kX8_known_c7.2.2.2.2.2.2.1 wf_X8_58 (.inr (by exact hlp1)) ?_
      refine kz_ifnonnull (M := kt_M316) (x := w_p w 14 p1 3) kX8_known_c7.2.2.2.2.2.2.2.1 (t := 178) rfl h (fun h => ?_) (fun h => ?_)
      · skip
        exact kz_weak [(0, .ref (w_adr E.2.1 7 0))] ⟨rfl, trivial⟩ rfl (zt_X8_known_p178 hL  h)
      · skip
        refine kz_aload_nv (M := kt_M316) (x := w_p w 14 p1 16) kX8_known_c8.1 rfl ?_
        obtain ⟨p5, hxp5, hlp5, h⟩ := h
        refine kz_nz0 (x := w_p w 14 p1 16) hxp5 ?_
        refine kz_gfi (M := kt_M316) (c := 15) (o := p5) kX8_known_c8.2.1 wf_X8_376 (.inr (by exact hlp5)) ?_
        refine kz_if_eq (M := kt_M316) kX8_known_c8.2.2.1 (t := 178) rfl h (fun h => ?_) (fun h => ?_)
        · skip
          exact kz_weak [(0, .ref (w_adr E.2.1 7 0))] ⟨rfl, trivial⟩ rfl (zt_X8_known_p178 hL  h)
        · skip
          refine kz_aload_nv (M := kt_M316) (x := w_p w 14 p1 16) kX8_known_c8.2.2.2.1 rfl ?_
          refine kz_nz0 (x := w_p w 14 p1 16) hxp5 ?_
          refine kz_gfi (M := kt_M316) (c := 15) (o := p5) kX8_known_c8.2.2.2.2.1 wf_X8_275 (.inr (by exact hlp5)) ?_
          refine kz_if_ne (M := kt_M316) kX8_known_c8.2.2.2.2.2.1 (t := 180) rfl h (fun h => ?_) (fun h => ?_)
          · skip
            refine kz_ic (M := kt_M316) 0 kX8_known_c9.1 rfl ?_
            refine kz_sti_n (M := kt_M316) [(0, .ref (w_adr E.2.1 7 0)), (2, va_rf (w_p w 14 p1 16))] kX8_known_c9.2.1 (Nat.le_of_ble_eq_true rfl) ⟨⟨rfl, rfl, .inl rfl⟩, ⟨⟨rfl, rfl, .inr (w_cat (w_p w 14 p1 16))⟩, trivial⟩⟩ rfl ?_
            exact kz_weak [(0, .ref (w_adr E.2.1 7 0)), (2, va_rf (w_p w 14 p1 16)), (3, .int 0)] ⟨rfl, ⟨rfl, ⟨rfl, trivial⟩⟩⟩ rfl h
          · skip
            exact kz_weak [(0, .ref (w_adr E.2.1 7 0))] ⟨rfl, trivial⟩ rfl (zt_X8_known_p178 hL  h)
    · skip
      refine kz_aload_nv (M := kt_M316) (x := x1) kX8_known_c1.2.2.2.2.2.2.1 rfl ?_
      refine kz_nz0 (x := x1) hxp1 ?_
      refine kz_gfi (M := kt_M316) (c := 14) (o := p1) kX8_known_c1.2.2.2.2.2.2.2.1 wf_X8_332 (.inr (by exact hlp1)) ?_
      refine kz_bi (M := kt_M316) 27 kX8_known_c2.1 rfl ?_
      refine kz_icmp_eq (M := kt_M316) kX8_known_c2.2.1 (t := 93) rfl h (fun h => ?_) (fun h => ?_)
      · skip
        exact kz_weak [(0, .ref (w_adr E.2.1 7 0))] ⟨rfl, trivial⟩ rfl (zt_X8_known_p93 hL  h)
      · skip
        refine kz_aload_n (M := kt_M316) kX8_known_c2.2.2.1 rfl ?_
        refine kz_aload_nv (M := kt_M316) (x := x1) kX8_known_c2.2.2.2.1 rfl ?_
        refine kz_nz0 (x := x1) hxp1 ?_
        refine kz_gfp (M := kt_M316) (c := 14) (o := p1) kX8_known_c2.2.2.2.2.1 wf_X8_58 (.inr (by exact hlp1)) ?_
        refine kz_cv1 (M := kt_M316) (c := 7) (o := 0) (As := [va_rf (w_p w 14 p1 3)]) (rest := []) kX8_known_c2.2.2.2.2.2.1 wl_X8_372 wMv_316 rfl (.inl rfl) rfl (Nat.le_trans (Nat.le_of_ble_eq_true rfl) hL) (by simp [lg_sl, w_cat, z_ci, z_cr, z_cl, z_cn, kt_M316]) (Nat.le_of_ble_eq_true rfl) h (fun v7 w6 hle h => ?_) (fun _ _ _ h => kzx_no rfl h)
        have h := h hle
        have hlp1 := w_l_le hlp1 hle
        refine kz_if_eq (M := kt_M316) kX8_known_c2.2.2.2.2.2.2.1 (t := 93) rfl h (fun h => ?_) (fun h => ?_)
        · skip
          exact kz_weak [(0, .ref (w_adr E.2.1 7 0))] ⟨rfl, trivial⟩ rfl (zt_X8_known_p93 hL  h)
        · skip
          refine kz_ic (M := kt_M316) 1 kX8_known_c2.2.2.2.2.2.2.2.1 rfl ?_
          refine kz_goto (M := kt_M316) kX8_known_c3.1 (t := 94) rfl ?_
          exact kz_weak [(0, .ref (w_adr E.2.1 7 0))] ⟨rfl, trivial⟩ rfl (zt_X8_known_p94 hL  h)
    · skip
      refine kz_aload_n (M := kt_M316) kX8_known_c3.2.2.2.1 rfl ?_
      refine kz_aload_nv (M := kt_M316) (x := x1) kX8_known_c3.2.2.2.2.1 rfl ?_
      refine kz_nz0 (x := x1) hxp1 ?_
      refine kz_gfp (M := kt_M316) (c := 14) (o := p1) kX8_known_c3.2.2.2.2.2.1 wf_X8_58 (.inr (by exact hlp1)) ?_
      refine kz_cv1 (M := kt_M316) (c := 7) (o := 0) (As := [va_rf (w_p w 14 p1 3)]) (rest := []) kX8_known_c3.2.2.2.2.2.2.1 wl_X8_372 wMv_316 rfl (.inl rfl) rfl (Nat.le_trans (Nat.le_of_ble_eq_true rfl) hL) (by simp [lg_sl, w_cat, z_ci, z_cr, z_cl, z_cn, kt_M316]) (Nat.le_of_ble_eq_true rfl) h (fun v9 w8 hle h => ?_) (fun _ _ _ h => kzx_no rfl h)
      have h := h hle
      have hlp1 := w_l_le hlp1 hle
      refine kz_if_eq (M := kt_M316) kX8_known_c3.2.2.2.2.2.2.2.1 (t := 121) rfl h (fun h => ?_) (fun h => ?_)
      · skip
        exact kz_weak [(0, .ref (w_adr E.2.1 7 0))] ⟨rfl, trivial⟩ rfl (zt_X8_known_p121 hL  h)
      · skip
        refine kz_aload_n (M := kt_M316) kX8_known_c4.1 rfl ?_
        refine kz_aload_nv (M := kt_M316) (x := x1) kX8_known_c4.2.1 rfl ?_
        refine kz_nz0 (x := x1) hxp1 ?_
        refine kz_gfp (M := kt_M316) (c := 14) (o := p1) kX8_known_c4.2.2.1 wf_X8_70 (.inr (by exact hlp1)) ?_
        refine kz_cv1 (M := kt_M316) (c := 7) (o := 0) (As := [va_rf (w_p w8 14 p1 4)]) (rest := []) kX8_known_c4.2.2.2.1 wl_X8_372 wMv_316 rfl (.inl rfl) rfl (Nat.le_trans (Nat.le_of_ble_eq_true rfl) hL) (by simp [lg_sl, w_cat, z_ci, z_cr, z_cl, z_cn, kt_M316]) (Nat.le_of_ble_eq_true rfl) h (fun v11 w10 hle h => ?_) (fun _ _ _ h => kzx_no rfl h)
        have h := h hle
        have hlp1 := w_l_le hlp1 hle
        refine kz_if_eq (M := kt_M316) kX8_known_c4.2.2.2.2.1 (t := 121) rfl h (fun h => ?_) (fun h => ?_)
        · skip
          exact kz_weak [(0, .ref (w_adr E.2.1 7 0))] ⟨rfl, trivial⟩ rfl (zt_X8_known_p121 hL  h)
        · skip
          refine kz_ic (M := kt_M316) 1 kX8_known_c4.2.2.2.2.2.1 rfl ?_
          refine kz_goto (M := kt_M316) kX8_known_c4.2.2.2.2.2.2.1 (t := 122) rfl ?_
          exact kz_weak [(0, .ref (w_adr E.2.1 7 0))] ⟨rfl, trivial⟩ rfl (zt_X8_known_p122 hL  h)
    · skip
      refine kz_aload_nv (M := kt_M316) (x := x1) kX8_known_c5.2.1 rfl ?_
      refine kz_nz0 (x := x1) hxp1 ?_
      refine kz_gfp (M := kt_M316) (c := 14) (o := p1) kX8_known_c5.2.2.1 wf_X8_58 (.inr (by exact hlp1)) ?_
      refine kz_stv_n (M := kt_M316) (x := w_p w 14 p1 3) [(0, .ref (w_adr E.2.1 7 0))] kX8_known_c5.2.2.2.1 (Nat.le_of_ble_eq_true rfl) ⟨⟨rfl, rfl, .inl rfl⟩, trivial⟩ rfl ?_
      exact kz_weak [(0, .ref (w_adr E.2.1 7 0)), (2, va_rf (w_p w 14 p1 3))] ⟨rfl, ⟨rfl, trivial⟩⟩ rfl h
    · skip
      refine kz_ic (M := kt_M316) 0 kX8_known_c12.2.2.2.2.2.1 rfl ?_
      exact kz_iretz (M := kt_M316) kX8_known_c12.2.2.2.2.2.2.1 rfl (by decide) h
  · skip
    refine kz_ic (M := kt_M316) 1 kX8_known_c0.2.2.2.1 rfl ?_
    exact kz_iretz (M := kt_M316) kX8_known_c0.2.2.2.2.1 rfl (by decide) h
def zb_X8_use_p207 (E : zE) (L : Nat) (Q : kx_Rs → wS → Prop) (x3 : Int32) (x4 : Int32) (x6 : Int32) (w : wS) : Prop := zw E (L - 22) kt_M326 [.ref (w_adr E.2.1 7 0), .int x4, .int x3] w (wk0 (fun w1 => wle w w1 → zw E (L - 22) kt_M326 [.ref (w_adr E.2.1 7 0), .int x6, .int x3] w1 (wk0 (fun w3 => wle w1 w3 → Q (.inl none) w3) (fun e w => Q (.inr e) w))) (fun e w => Q (.inr e) w))
theorem zt_X8_use_p207 {E : zE} {L : Nat} {Q : kx_Rs → wS → Prop} {x3 : Int32} {x4 : Int32} {x6 : Int32} {w : wS} (hL : 22 ≤ L) (h : zb_X8_use_p207 E L Q x3 x4 x6 w) : kzE E L kt_M330 207 [(0, .ref (w_adr E.2.1 7 0)), (3, .int x3), (4, .int x4), (6, .int x6)] [] w Q := by
  unfold zb_X8_use_p207 at h
  refine kz_aload_n (M := kt_M330) kX8_use_c13.2.2.2.2.2.2.1 rfl ?_
  refine kz_iload (M := kt_M330) kX8_use_c13.2.2.2.2.2.2.2.1 rfl ?_
  refine kz_iload_n (M := kt_M330) kX8_use_c14.1 rfl ?_
  refine kz_cv0 (M := kt_M330) (c := 7) (o := 0) (As := [.int x4, .int x3]) (rest := []) kX8_use_c14.2.1 wl_X8_369 wMv_326 rfl (.inl rfl) rfl (Nat.le_trans (Nat.le_of_ble_eq_true rfl) hL) (Nat.le_of_ble_eq_true rfl) (Nat.le_of_ble_eq_true rfl) h (fun w1 hle h => ?_) (fun _ _ _ h => kzx_no rfl h)
  have h := h hle
  refine kz_aload_n (M := kt_M330) kX8_use_c14.2.2.1 rfl ?_
  refine kz_iload (M := kt_M330) kX8_use_c14.2.2.2.1 rfl ?_
  refine kz_iload_n (M := kt_M330) kX8_use_c14.2.2.2.2.1 rfl ?_
  refine kz_cv0 (M := kt_M330) (c := 7) (o := 0) (As := [.int x6, .int x3]) (rest := []) kX8_use_c14.2.2.2.2.2.1 wl_X8_369 wMv_326 rfl (.inl rfl) rfl (Nat.le_trans (Nat.le_of_ble_eq_true rfl) hL) (Nat.le_of_ble_eq_true rfl) (Nat.le_of_ble_eq_true rfl) h (fun w3 hle h => ?_) (fun _ _ _ h => kzx_no rfl h)
  have h := h hle
  exact kz_ret (M := kt_M330) kX8_use_c14.2.2.2.2.2.2.1 rfl h
def zb_X8_use_p182 (E : zE) (L : Nat) (Q : kx_Rs → wS → Prop) (x3 : Int32) (x4 : Int32) (x6 : Int32) (x8 : Int32) (w : wS) : Prop := (if ¬ x3 = 4 then zb_X8_use_p207 E L Q x3 x4 x6 w else (if (x8 &&& 4) = 0 then zb_X8_use_p207 E L Q x3 x4 x6 w else zw E (L - 22) kt_M56 [.ref (w_adr E.2.1 2 0), .int 15, .int (w_i w 7 0 13)] w (wk0 (fun w1 => wle w w1 → zb_X8_use_p207 E L Q x3 x4 x6 w1) (fun e w => Q (.inr e) w))))
theorem zt_X8_use_p182 {E : zE} {L : Nat} {Q : kx_Rs → wS → Prop} {x3 : Int32} {x4 : Int32} {x6 : Int32} {x8 : Int32} {w : wS} (hL : 22 ≤ L) (h : zb_X8_use_p182 E L Q x3 x4 x6 x8 w) : kzE E L kt_M330 182 [(0, .ref (w_adr E.2.1 7 0)), (3, .int x3), (4, .int x4), (6, .int x6), (8, .int x8)] [] w Q := by
  unfold zb_X8_use_p182 at h
  refine kz_iload_n (M := kt_M330) kX8_use_c12.2.1 rfl ?_
  refine kz_ic (M := kt_M330) 4 kX8_use_c12.2.2.1 rfl ?_
  refine kz_icmp_ne (M := kt_M330) kX8_use_c12.2.2.2.1 (t := 207) rfl h (fun h => ?_) (fun h => ?_)
  · skip
    exact kz_weak [(0, .ref (w_adr E.2.1 7 0)), (3, .int x3), (4, .int x4), (6, .int x6)] ⟨rfl, ⟨rfl, ⟨rfl, ⟨rfl, trivial⟩⟩⟩⟩ rfl (zt_X8_use_p207 hL  h)
  · skip
    refine kz_iload (M := kt_M330) kX8_use_c12.2.2.2.2.1 rfl ?_
    refine kz_ic (M := kt_M330) 4 kX8_use_c12.2.2.2.2.2.1 rfl ?_
    refine kz_iand (M := kt_M330) kX8_use_c12.2.2.2.2.2.2.1 ?_
    refine kz_if_eq (M := kt_M330) kX8_use_c12.2.2.2.2.2.2.2.1 (t := 207) rfl h (fun h => ?_) (fun h => ?_)
    · skip
      exact kz_weak [(0, .ref (w_adr E.2.1 7 0)), (3, .int x3), (4, .int x4), (6, .int x6)] ⟨rfl, ⟨rfl, ⟨rfl, ⟨rfl, trivial⟩⟩⟩⟩ rfl (zt_X8_use_p207 hL  h)
    · skip
      refine kz_aload_n (M := kt_M330) kX8_use_c13.1 rfl ?_
      refine kz_gfc (M := kt_M330) (x := 8) (c := 7) (o := 0) kX8_use_c13.2.1 wf_X8_33 (.inl rfl) ?_
      refine kz_bi (M := kt_M330) 15 kX8_use_c13.2.2.1 rfl ?_
      refine kz_aload_n (M := kt_M330) kX8_use_c13.2.2.2.1 rfl ?_
      refine kz_gfi (M := kt_M330) (c := 7) (o := 0) kX8_use_c13.2.2.2.2.1 wf_X8_116 (.inl rfl) ?_
      refine kz_cv0 (M := kt_M330) (c := 2) (o := 0) (As := [.int 15, .int (w_i w 7 0 13)]) (rest := []) kX8_use_c13.2.2.2.2.2.1 wl_X8_196 wMv_56 rfl (.inl rfl) rfl (Nat.le_trans (Nat.le_of_ble_eq_true rfl) hL) (Nat.le_of_ble_eq_true rfl) (Nat.le_of_ble_eq_true rfl) h (fun w1 hle h => ?_) (fun _ _ _ h => kzx_no rfl h)
      have h := h hle
      exact kz_weak [(0, .ref (w_adr E.2.1 7 0)), (3, .int x3), (4, .int x4), (6, .int x6)] ⟨rfl, ⟨rfl, ⟨rfl, ⟨rfl, trivial⟩⟩⟩⟩ rfl (zt_X8_use_p207 hL  h)
def zb_X8_use_p155 (E : zE) (L : Nat) (Q : kx_Rs → wS → Prop) (x3 : Int32) (x4 : Int32) (x6 : Int32) (x8 : Int32) (w : wS) : Prop := (if ¬ x3 = 8 then zb_X8_use_p182 E L Q x3 x4 x6 x8 w else (if (x8 &&& 8) = 0 then zb_X8_use_p182 E L Q x3 x4 x6 x8 w else zw E (L - 22) kt_M56 [.ref (w_adr E.2.1 2 0), .int 14, .int (w_i w 7 0 13)] w (wk0 (fun w1 => wle w w1 → zb_X8_use_p182 E L Q x3 x4 x6 x8 w1) (fun e w => Q (.inr e) w))))
theorem zt_X8_use_p155 {E : zE} {L : Nat} {Q : kx_Rs → wS → Prop} {x3 : Int32} {x4 : Int32} {x6 : Int32} {x8 : Int32} {w : wS} (hL : 22 ≤ L) (h : zb_X8_use_p155 E L Q x3 x4 x6 x8 w) : kzE E L kt_M330 155 [(0, .ref (w_adr E.2.1 7 0)), (3, .int x3), (4, .int x4), (6, .int x6), (8, .int x8)] [] w Q := by
  unfold zb_X8_use_p155 at h
  refine kz_iload_n (M := kt_M330) kX8_use_c10.2.2.2.2.1 rfl ?_
  refine kz_bi (M := kt_M330) 8 kX8_use_c10.2.2.2.2.2.1 rfl ?_
  refine kz_icmp_ne (M := kt_M330) kX8_use_c10.2.2.2.2.2.2.1 (t := 182) rfl h (fun h => ?_) (fun h => ?_)
  · skip
    exact kz_weak [(0, .ref (w_adr E.2.1 7 0)), (3, .int x3), (4, .int x4), (6, .int x6), (8, .int x8)] ⟨rfl, ⟨rfl, ⟨rfl, ⟨rfl, ⟨rfl, trivial⟩⟩⟩⟩⟩ rfl (zt_X8_use_p182 hL  h)
  · skip
    refine kz_iload (M := kt_M330) kX8_use_c10.2.2.2.2.2.2.2.1 rfl ?_
    refine kz_bi (M := kt_M330) 8 kX8_use_c11.1 rfl ?_
    refine kz_iand (M := kt_M330) kX8_use_c11.2.1 ?_
    refine kz_if_eq (M := kt_M330) kX8_use_c11.2.2.1 (t := 182) rfl h (fun h => ?_) (fun h => ?_)
    · skip
      exact kz_weak [(0, .ref (w_adr E.2.1 7 0)), (3, .int x3), (4, .int x4), (6, .int x6), (8, .int x8)] ⟨rfl, ⟨rfl, ⟨rfl, ⟨rfl, ⟨rfl, trivial⟩⟩⟩⟩⟩ rfl (zt_X8_use_p182 hL  h)
    · skip
      refine kz_aload_n (M := kt_M330) kX8_use_c11.2.2.2.1 rfl ?_
      refine kz_gfc (M := kt_M330) (x := 8) (c := 7) (o := 0) kX8_use_c11.2.2.2.2.1 wf_X8_33 (.inl rfl) ?_
      refine kz_bi (M := kt_M330) 14 kX8_use_c11.2.2.2.2.2.1 rfl ?_
      refine kz_aload_n (M := kt_M330) kX8_use_c11.2.2.2.2.2.2.1 rfl ?_
      refine kz_gfi (M := kt_M330) (c := 7) (o := 0) kX8_use_c11.2.2.2.2.2.2.2.1 wf_X8_116 (.inl rfl) ?_
      refine kz_cv0 (M := kt_M330) (c := 2) (o := 0) (As := [.int 14, .int (w_i w 7 0 13)]) (rest := []) kX8_use_c12.1 wl_X8_196 wMv_56 rfl (.inl rfl) rfl (Nat.le_trans (Nat.le_of_ble_eq_true rfl) hL) (Nat.le_of_ble_eq_true rfl) (Nat.le_of_ble_eq_true rfl) h (fun w1 hle h => ?_) (fun _ _ _ h => kzx_no rfl h)
      have h := h hle
      exact kz_weak [(0, .ref (w_adr E.2.1 7 0)), (3, .int x3), (4, .int x4), (6, .int x6), (8, .int x8)] ⟨rfl, ⟨rfl, ⟨rfl, ⟨rfl, ⟨rfl, trivial⟩⟩⟩⟩⟩ rfl (zt_X8_use_p182 hL  h)
def zb_X8_use_p142 (E : zE) (L : Nat) (Q : kx_Rs → wS → Prop) (x3 : Int32) (x4 : Int32) (x6 : Int32) (x8 : Int32) (w : wS) : Prop := zw E (L - 22) kt_M56 [.ref (w_adr E.2.1 2 0), .int 13, .int (w_i w 7 0 13)] w (wk0 (fun w1 => wle w w1 → zb_X8_use_p155 E L Q x3 x4 x6 x8 w1) (fun e w => Q (.inr e) w))
theorem zt_X8_use_p142 {E : zE} {L : Nat} {Q : kx_Rs → wS → Prop} {x3 : Int32} {x4 : Int32} {x6 : Int32} {x8 : Int32} {w : wS} (hL : 22 ≤ L) (h : zb_X8_use_p142 E L Q x3 x4 x6 x8 w) : kzE E L kt_M330 142 [(0, .ref (w_adr E.2.1 7 0)), (3, .int x3), (4, .int x4), (6, .int x6), (8, .int x8)] [] w Q := by
  unfold zb_X8_use_p142 at h
  refine kz_aload_n (M := kt_M330) kX8_use_c9.2.2.2.2.2.2.1 rfl ?_
  refine kz_gfc (M := kt_M330) (x := 8) (c := 7) (o := 0) kX8_use_c9.2.2.2.2.2.2.2.1 wf_X8_33 (.inl rfl) ?_
  refine kz_bi (M := kt_M330) 13 kX8_use_c10.1 rfl ?_
  refine kz_aload_n (M := kt_M330) kX8_use_c10.2.1 rfl ?_
  refine kz_gfi (M := kt_M330) (c := 7) (o := 0) kX8_use_c10.2.2.1 wf_X8_116 (.inl rfl) ?_
  refine kz_cv0 (M := kt_M330) (c := 2) (o := 0) (As := [.int 13, .int (w_i w 7 0 13)]) (rest := []) kX8_use_c10.2.2.2.1 wl_X8_196 wMv_56 rfl (.inl rfl) rfl (Nat.le_trans (Nat.le_of_ble_eq_true rfl) hL) (Nat.le_of_ble_eq_true rfl) (Nat.le_of_ble_eq_true rfl) h (fun w1 hle h => ?_) (fun _ _ _ h => kzx_no rfl h)
  have h := h hle
  exact kz_weak [(0, .ref (w_adr E.2.1 7 0)), (3, .int x3), (4, .int x4), (6, .int x6), (8, .int x8)] ⟨rfl, ⟨rfl, ⟨rfl, ⟨rfl, ⟨rfl, trivial⟩⟩⟩⟩⟩ rfl (zt_X8_use_p155 hL  h)
def zb_X8_use_p130 (E : zE) (L : Nat) (Q : kx_Rs → wS → Prop) (x3 : Int32) (x4 : Int32) (x6 : Int32) (x8 : Int32) (w : wS) : Prop := (if ¬ x3 = 1 then zb_X8_use_p155 E L Q x3 x4 x6 x8 w else (if (x8 &&& 2) = 0 then zb_X8_use_p155 E L Q x3 x4 x6 x8 w else zb_X8_use_p142 E L Q x3 x4 x6 x8 w))
theorem zt_X8_use_p130 {E : zE} {L : Nat} {Q : kx_Rs → wS → Prop} {x3 : Int32} {x4 : Int32} {x6 : Int32} {x8 : Int32} {w : wS} (hL : 22 ≤ L) (h : zb_X8_use_p130 E L Q x3 x4 x6 x8 w) : kzE E L kt_M330 130 [(0, .ref (w_adr E.2.1 7 0)), (3, .int x3), (4, .int x4), (6, .int x6), (8, .int x8)] [] w Q := by
  unfold zb_X8_use_p130 at h
  refine kz_iload_n (M := kt_M330) kX8_use_c8.2.2.2.2.2.2.2.1 rfl ?_
  refine kz_ic (M := kt_M330) 1 kX8_use_c9.1 rfl ?_
  refine kz_icmp_ne (M := kt_M330) kX8_use_c9.2.1 (t := 155) rfl h (fun h => ?_) (fun h => ?_)
  · skip
    exact kz_weak [(0, .ref (w_adr E.2.1 7 0)), (3, .int x3), (4, .int x4), (6, .int x6), (8, .int x8)] ⟨rfl, ⟨rfl, ⟨rfl, ⟨rfl, ⟨rfl, trivial⟩⟩⟩⟩⟩ rfl (zt_X8_use_p155 hL  h)
  · skip
    refine kz_iload (M := kt_M330) kX8_use_c9.2.2.1 rfl ?_
    refine kz_ic (M := kt_M330) 2 kX8_use_c9.2.2.2.1 rfl ?_
    refine kz_iand (M := kt_M330) kX8_use_c9.2.2.2.2.1 ?_
    refine kz_if_eq (M := kt_M330) kX8_use_c9.2.2.2.2.2.1 (t := 155) rfl h (fun h => ?_) (fun h => ?_)
    · skip
      exact kz_weak [(0, .ref (w_adr E.2.1 7 0)), (3, .int x3), (4, .int x4), (6, .int x6), (8, .int x8)] ⟨rfl, ⟨rfl, ⟨rfl, ⟨rfl, ⟨rfl, trivial⟩⟩⟩⟩⟩ rfl (zt_X8_use_p155 hL  h)
    · skip
      exact kz_weak [(0, .ref (w_adr E.2.1 7 0)), (3, .int x3), (4, .int x4), (6, .int x6), (8, .int x8)] ⟨rfl, ⟨rfl, ⟨rfl, ⟨rfl, ⟨rfl, trivial⟩⟩⟩⟩⟩ rfl (zt_X8_use_p142 hL  h)
def zb_X8_use_p98 (E : zE) (L : Nat) (Q : kx_Rs → wS → Prop) (x3 : Int32) (x4 : Int32) (x6 : Int32) (y0 : Int32) (w : wS) : Prop := ((y0 = 0 ∨ y0 = 1) ∧ zb_X8_use_p207 E L Q x3 x4 x6 (ws_i w 7 0 19 y0))
theorem zt_X8_use_p98 {E : zE} {L : Nat} {Q : kx_Rs → wS → Prop} {x3 : Int32} {x4 : Int32} {x6 : Int32} {y0 : Int32} {w : wS} (hL : 22 ≤ L) (h : zb_X8_use_p98 E L Q x3 x4 x6 y0 w) : kzE E L kt_M330 98 [(0, .ref (w_adr E.2.1 7 0)), (3, .int x3), (4, .int x4), (6, .int x6)] [.int y0, .ref (w_adr E.2.1 7 0)] w Q := by
  unfold zb_X8_use_p98 at h
  obtain ⟨h0, h⟩ := h
  refine kz_pfz (M := kt_M330) (c := 7) (o := 0) kX8_use_c6.2.2.2.2.2.2.2.1 wq_X8_238 (.inl rfl) h0 ?_
  refine kz_goto (M := kt_M330) kX8_use_c7.1 (t := 207) rfl ?_
  exact kz_weak [(0, .ref (w_adr E.2.1 7 0)), (3, .int x3), (4, .int x4), (6, .int x6)] ⟨rfl, ⟨rfl, ⟨rfl, ⟨rfl, trivial⟩⟩⟩⟩ rfl (zt_X8_use_p207 hL  h)
def zb_X8_use_p93 (E : zE) (L : Nat) (Q : kx_Rs → wS → Prop) (x3 : Int32) (x4 : Int32) (x6 : Int32) (w : wS) : Prop := zb_X8_use_p98 E L Q x3 x4 x6 1 w
theorem zt_X8_use_p93 {E : zE} {L : Nat} {Q : kx_Rs → wS → Prop} {x3 : Int32} {x4 : Int32} {x6 : Int32} {w : wS} (hL : 22 ≤ L) (h : zb_X8_use_p93 E L Q x3 x4 x6 w) : kzE E L kt_M330 93 [(0, .ref (w_adr E.2.1 7 0)), (3, .int x3), (4, .int x4), (6, .int x6)] [.ref (w_adr E.2.1 7 0)] w Q := by
  unfold zb_X8_use_p93 at h
  refine kz_ic (M := kt_M330) 1 kX8_use_c6.2.2.2.2.1 rfl ?_
  refine kz_goto (M := kt_M330) kX8_use_c6.2.2.2.2.2.1 (t := 98) rfl ?_
  exact kz_weak [(0, .ref (w_adr E.2.1 7 0)), (3, .int x3), (4, .int x4), (6, .int x6)] ⟨rfl, ⟨rfl, ⟨rfl, ⟨rfl, trivial⟩⟩⟩⟩ rfl (zt_X8_use_p98 hL  h)
def zb_X8_use_p64 (E : zE) (L : Nat) (Q : kx_Rs → wS → Prop) (x3 : Int32) (x4 : Int32) (x6 : Int32) (y0 : Int32) (w : wS) : Prop := (if ¬ x3 = 32 then (if w_i w 7 0 11 = 0 then zb_X8_use_p207 E L Q x3 x4 x6 (ws_i w 7 0 20 1) else (if ¬ x3 = 2 then zb_X8_use_p130 E L Q x3 x4 x6 (y0 >>> (8 &&& 31)) (ws_i w 7 0 20 1) else (if ¬ ((y0 >>> (8 &&& 31)) &&& 3) = 0 then zb_X8_use_p142 E L Q x3 x4 x6 (y0 >>> (8 &&& 31)) (ws_i w 7 0 20 1) else zb_X8_use_p130 E L Q x3 x4 x6 (y0 >>> (8 &&& 31)) (ws_i w 7 0 20 1)))) else (if ¬ w_i w 7 0 19 = 0 then zb_X8_use_p93 E L Q x3 x4 x6 (ws_i w 7 0 20 1) else (if (y0 &&& 16) = 0 then zb_X8_use_p98 E L Q x3 x4 x6 0 (ws_i w 7 0 20 1) else zb_X8_use_p93 E L Q x3 x4 x6 (ws_i w 7 0 20 1))))
theorem zt_X8_use_p64 {E : zE} {L : Nat} {Q : kx_Rs → wS → Prop} {x3 : Int32} {x4 : Int32} {x6 : Int32} {y0 : Int32} {w : wS} (hL : 22 ≤ L) (h : zb_X8_use_p64 E L Q x3 x4 x6 y0 w) : kzE E L kt_M330 64 [(0, .ref (w_adr E.2.1 7 0)), (3, .int x3), (4, .int x4), (6, .int x6)] [.int y0] w Q := by
  unfold zb_X8_use_p64 at h
  refine kz_sti (M := kt_M330) [(0, .ref (w_adr E.2.1 7 0)), (3, .int x3), (4, .int x4), (6, .int x6)] kX8_use_c4.2.2.2.2.2.1 (Nat.le_of_ble_eq_true rfl) ⟨⟨rfl, rfl, .inl rfl⟩, ⟨⟨rfl, rfl, .inl rfl⟩, ⟨⟨rfl, rfl, .inl rfl⟩, ⟨⟨rfl, rfl, .inr rfl⟩, trivial⟩⟩⟩⟩ rfl ?_
  refine kz_aload_n (M := kt_M330) kX8_use_c4.2.2.2.2.2.2.1 rfl ?_
  refine kz_ic (M := kt_M330) 1 kX8_use_c4.2.2.2.2.2.2.2.1 rfl ?_
  refine kz_pfz (M := kt_M330) (c := 7) (o := 0) kX8_use_c5.1 wq_X8_241 (.inl rfl) (by decide) ?_
  refine kz_iload_n (M := kt_M330) kX8_use_c5.2.1 rfl ?_
  refine kz_bi (M := kt_M330) 32 kX8_use_c5.2.2.1 rfl ?_
  refine kz_icmp_ne (M := kt_M330) kX8_use_c5.2.2.2.1 (t := 104) rfl h (fun h => ?_) (fun h => ?_)
  · skip
    refine kz_aload_n (M := kt_M330) kX8_use_c7.2.1 rfl ?_
    refine kz_gfiR (M := kt_M330) (c := 7) (o := 0) (w_i w 7 0 11) kX8_use_c7.2.2.1 wf_X8_102 (.inl rfl) (rd_i_i rfl) ?_
    refine kz_if_eq (M := kt_M330) kX8_use_c7.2.2.2.1 (t := 207) rfl h (fun h => ?_) (fun h => ?_)
    · skip
      exact kz_weak [(0, .ref (w_adr E.2.1 7 0)), (3, .int x3), (4, .int x4), (6, .int x6)] ⟨rfl, ⟨rfl, ⟨rfl, ⟨rfl, trivial⟩⟩⟩⟩ rfl (zt_X8_use_p207 hL  h)
    · skip
      refine kz_iload (M := kt_M330) kX8_use_c7.2.2.2.2.1 rfl ?_
      refine kz_bi (M := kt_M330) 8 kX8_use_c7.2.2.2.2.2.1 rfl ?_
      refine kz_ishr (M := kt_M330) kX8_use_c7.2.2.2.2.2.2.1 ?_
      refine kz_sti (M := kt_M330) [(0, .ref (w_adr E.2.1 7 0)), (3, .int x3), (4, .int x4), (6, .int x6)] kX8_use_c7.2.2.2.2.2.2.2.1 (Nat.le_of_ble_eq_true rfl) ⟨⟨rfl, rfl, .inl rfl⟩, ⟨⟨rfl, rfl, .inl rfl⟩, ⟨⟨rfl, rfl, .inl rfl⟩, ⟨⟨rfl, rfl, .inl rfl⟩, trivial⟩⟩⟩⟩ rfl ?_
      refine kz_iload_n (M := kt_M330) kX8_use_c8.1 rfl ?_
      refine kz_ic (M := kt_M330) 2 kX8_use_c8.2.1 rfl ?_
      refine kz_icmp_ne (M := kt_M330) kX8_use_c8.2.2.1 (t := 130) rfl h (fun h => ?_) (fun h => ?_)
      · skip
        exact kz_weak [(0, .ref (w_adr E.2.1 7 0)), (3, .int x3), (4, .int x4), (6, .int x6), (8, .int (y0 >>> (8 &&& 31)))] ⟨rfl, ⟨rfl, ⟨rfl, ⟨rfl, ⟨rfl, trivial⟩⟩⟩⟩⟩ rfl (zt_X8_use_p130 hL  h)
      · skip
        refine kz_iload (M := kt_M330) kX8_use_c8.2.2.2.1 rfl ?_
        refine kz_ic (M := kt_M330) 3 kX8_use_c8.2.2.2.2.1 rfl ?_
        refine kz_iand (M := kt_M330) kX8_use_c8.2.2.2.2.2.1 ?_
        refine kz_if_ne (M := kt_M330) kX8_use_c8.2.2.2.2.2.2.1 (t := 142) rfl h (fun h => ?_) (fun h => ?_)
        · skip
          exact kz_weak [(0, .ref (w_adr E.2.1 7 0)), (3, .int x3), (4, .int x4), (6, .int x6), (8, .int (y0 >>> (8 &&& 31)))] ⟨rfl, ⟨rfl, ⟨rfl, ⟨rfl, ⟨rfl, trivial⟩⟩⟩⟩⟩ rfl (zt_X8_use_p142 hL  h)
        · skip
          exact kz_weak [(0, .ref (w_adr E.2.1 7 0)), (3, .int x3), (4, .int x4), (6, .int x6), (8, .int (y0 >>> (8 &&& 31)))] ⟨rfl, ⟨rfl, ⟨rfl, ⟨rfl, ⟨rfl, trivial⟩⟩⟩⟩⟩ rfl (zt_X8_use_p130 hL  h)
  · skip
    refine kz_aload_n (M := kt_M330) kX8_use_c5.2.2.2.2.1 rfl ?_
    refine kz_aload_n (M := kt_M330) kX8_use_c5.2.2.2.2.2.1 rfl ?_
    refine kz_gfiR (M := kt_M330) (c := 7) (o := 0) (w_i w 7 0 19) kX8_use_c5.2.2.2.2.2.2.1 wf_X8_238 (.inl rfl) (rd_i_i rfl) ?_
    refine kz_if_ne (M := kt_M330) kX8_use_c5.2.2.2.2.2.2.2.1 (t := 93) rfl h (fun h => ?_) (fun h => ?_)
    · skip
      exact kz_weak [(0, .ref (w_adr E.2.1 7 0)), (3, .int x3), (4, .int x4), (6, .int x6)] ⟨rfl, ⟨rfl, ⟨rfl, ⟨rfl, trivial⟩⟩⟩⟩ rfl (zt_X8_use_p93 hL  h)
    · skip
      refine kz_iload (M := kt_M330) kX8_use_c6.1 rfl ?_
      refine kz_bi (M := kt_M330) 16 kX8_use_c6.2.1 rfl ?_
      refine kz_iand (M := kt_M330) kX8_use_c6.2.2.1 ?_
      refine kz_if_eq (M := kt_M330) kX8_use_c6.2.2.2.1 (t := 97) rfl h (fun h => ?_) (fun h => ?_)
      · skip
        refine kz_ic (M := kt_M330) 0 kX8_use_c6.2.2.2.2.2.2.1 rfl ?_
        exact kz_weak [(0, .ref (w_adr E.2.1 7 0)), (3, .int x3), (4, .int x4), (6, .int x6)] ⟨rfl, ⟨rfl, ⟨rfl, ⟨rfl, trivial⟩⟩⟩⟩ rfl (zt_X8_use_p98 hL  h)
      · skip
        exact kz_weak [(0, .ref (w_adr E.2.1 7 0)), (3, .int x3), (4, .int x4), (6, .int x6)] ⟨rfl, ⟨rfl, ⟨rfl, ⟨rfl, trivial⟩⟩⟩⟩ rfl (zt_X8_use_p93 hL  h)
def zb_X8_use_p32 (E : zE) (L : Nat) (Q : kx_Rs → wS → Prop) (x2 : Int32) (x3 : Int32) (x4 : Int32) (x5 : Int32) (y0 : Int32) (w : wS) : Prop := (if ¬ x2 = (-1) then (kx_inb x5 (w_n w 7 0 5) = true ∧ (kx_inb y0 (w_n w 7 0 5) = true ∧ zb_X8_use_p64 E L Q x3 x4 y0 ((w_a w 7 0 5 (x5).toNatClampNeg) ||| (w_a w 7 0 5 (y0).toNatClampNeg)) w)) else (kx_inb x4 (w_n w 7 0 5) = true ∧ zb_X8_use_p64 E L Q x3 x4 y0 (w_a w 7 0 5 (x4).toNatClampNeg) w))
theorem zt_X8_use_p32 {E : zE} {L : Nat} {Q : kx_Rs → wS → Prop} {x2 : Int32} {x3 : Int32} {x4 : Int32} {x5 : Int32} {y0 : Int32} {w : wS} (hL : 22 ≤ L) (h : zb_X8_use_p32 E L Q x2 x3 x4 x5 y0 w) : kzE E L kt_M330 32 [(0, .ref (w_adr E.2.1 7 0)), (2, .int x2), (3, .int x3), (4, .int x4), (5, .int x5)] [.int y0] w Q := by
  unfold zb_X8_use_p32 at h
  refine kz_sti (M := kt_M330) [(0, .ref (w_adr E.2.1 7 0)), (2, .int x2), (3, .int x3), (4, .int x4), (5, .int x5)] kX8_use_c2.2.2.2.1 (Nat.le_of_ble_eq_true rfl) ⟨⟨rfl, rfl, .inl rfl⟩, ⟨⟨rfl, rfl, .inl rfl⟩, ⟨⟨rfl, rfl, .inl rfl⟩, ⟨⟨rfl, rfl, .inl rfl⟩, ⟨⟨rfl, rfl, .inr rfl⟩, trivial⟩⟩⟩⟩⟩ rfl ?_
  refine kz_iload_n (M := kt_M330) kX8_use_c2.2.2.2.2.1 rfl ?_
  refine kz_ic (M := kt_M330) (-1) kX8_use_c2.2.2.2.2.2.1 rfl ?_
  refine kz_icmp_ne (M := kt_M330) kX8_use_c2.2.2.2.2.2.2.1 (t := 49) rfl h (fun h => ?_) (fun h => ?_)
  · skip
    refine kz_aload_n (M := kt_M330) kX8_use_c3.2.2.2.2.1 rfl ?_
    refine kz_gfa (M := kt_M330) (c := 7) (o := 0) kX8_use_c3.2.2.2.2.2.1 wf_X8_21 (.inl rfl) ?_
    refine kz_iload (M := kt_M330) kX8_use_c3.2.2.2.2.2.2.1 rfl ?_
    refine kz_iald (M := kt_M330) (c := 7) (o := 0) (k := 5) (a := (w_d w 7 0 5)) kX8_use_c3.2.2.2.2.2.2.2.1 ow_7_0_5 oa_7_0_5 ot_0 h (fun h => ?_)
    refine kz_aload_n (M := kt_M330) kX8_use_c4.1 rfl ?_
    refine kz_gfa (M := kt_M330) (c := 7) (o := 0) kX8_use_c4.2.1 wf_X8_21 (.inl rfl) ?_
    refine kz_iload (M := kt_M330) kX8_use_c4.2.2.1 rfl ?_
    refine kz_iald (M := kt_M330) (c := 7) (o := 0) (k := 5) (a := (w_d w 7 0 5)) kX8_use_c4.2.2.2.1 ow_7_0_5 oa_7_0_5 ot_0 h (fun h => ?_)
    refine kz_ior (M := kt_M330) kX8_use_c4.2.2.2.2.1 ?_
    exact kz_weak [(0, .ref (w_adr E.2.1 7 0)), (3, .int x3), (4, .int x4), (6, .int y0)] ⟨rfl, ⟨rfl, ⟨rfl, ⟨rfl, trivial⟩⟩⟩⟩ rfl (zt_X8_use_p64 hL  h)
  · skip
    refine kz_aload_n (M := kt_M330) kX8_use_c2.2.2.2.2.2.2.2.1 rfl ?_
    refine kz_gfa (M := kt_M330) (c := 7) (o := 0) kX8_use_c3.1 wf_X8_21 (.inl rfl) ?_
    refine kz_iload (M := kt_M330) kX8_use_c3.2.1 rfl ?_
    refine kz_iald (M := kt_M330) (c := 7) (o := 0) (k := 5) (a := (w_d w 7 0 5)) kX8_use_c3.2.2.1 ow_7_0_5 oa_7_0_5 ot_0 h (fun h => ?_)
    refine kz_goto (M := kt_M330) kX8_use_c3.2.2.2.1 (t := 64) rfl ?_
    exact kz_weak [(0, .ref (w_adr E.2.1 7 0)), (3, .int x3), (4, .int x4), (6, .int y0)] ⟨rfl, ⟨rfl, ⟨rfl, ⟨rfl, trivial⟩⟩⟩⟩ rfl (zt_X8_use_p64 hL  h)
def zb_X8_use_p0 (E : zE) (L : Nat) (Q : kx_Rs → wS → Prop) (x1 : Option Nat) (x2 : Int32) (x3 : Int32) (w : wS) : Prop := (∃ p1, x1 = some p1 ∧ w_l w E.2.1 15 p1 ∧ (if ¬ x2 = (-1) then zb_X8_use_p32 E L Q x2 x3 (w_i w 15 p1 29) ((w_i w 15 p1 29) + 1) (((w_i w 15 p1 29) + 2) + x2) w else zb_X8_use_p32 E L Q x2 x3 (w_i w 15 p1 29) ((w_i w 15 p1 29) + 1) ((w_i w 15 p1 29) + 1) w))
theorem zt_X8_use_p0 {E : zE} {L : Nat} {Q : kx_Rs → wS → Prop} {x1 : Option Nat} {x2 : Int32} {x3 : Int32} {w : wS} (hL : 22 ≤ L) (h : zb_X8_use_p0 E L Q x1 x2 x3 w) : kzE E L kt_M330 0 [(0, .ref (w_adr E.2.1 7 0)), (1, va_rf (x1)), (2, .int x2), (3, .int x3)] [] w Q := by
  unfold zb_X8_use_p0 at h
  refine kz_aload_nv (M := kt_M330) (x := x1) kX8_use_c0.1 rfl ?_
  obtain ⟨p1, hxp1, hlp1, h⟩ := h
  refine kz_nz0 (x := x1) hxp1 ?_
  refine kz_gfi (M := kt_M330) (c := 15) (o := p1) kX8_use_c0.2.1 wf_X8_141 (.inr (by exact hlp1)) ?_
  refine kz_sti (M := kt_M330) [(0, .ref (w_adr E.2.1 7 0)), (1, va_rf (x1)), (2, .int x2), (3, .int x3)] kX8_use_c0.2.2.1 (Nat.le_of_ble_eq_true rfl) ⟨⟨rfl, rfl, .inl rfl⟩, ⟨⟨rfl, rfl, .inl rfl⟩, ⟨⟨rfl, rfl, .inl rfl⟩, ⟨⟨rfl, rfl, .inr rfl⟩, trivial⟩⟩⟩⟩ rfl ?_
  refine kz_aload_nv (M := kt_M330) (x := x1) kX8_use_c0.2.2.2.1 rfl ?_
  refine kz_nz0 (x := x1) hxp1 ?_
  refine kz_gfi (M := kt_M330) (c := 15) (o := p1) kX8_use_c0.2.2.2.2.1 wf_X8_141 (.inr (by exact hlp1)) ?_
  refine kz_ic (M := kt_M330) 1 kX8_use_c0.2.2.2.2.2.1 rfl ?_
  refine kz_iadd (M := kt_M330) kX8_use_c0.2.2.2.2.2.2.1 ?_
  refine kz_sti (M := kt_M330) [(0, .ref (w_adr E.2.1 7 0)), (1, va_rf (x1)), (2, .int x2), (3, .int x3), (4, .int (w_i w 15 p1 29))] kX8_use_c0.2.2.2.2.2.2.2.1 (Nat.le_of_ble_eq_true rfl) ⟨⟨rfl, rfl, .inl rfl⟩, ⟨⟨rfl, rfl, .inl rfl⟩, ⟨⟨rfl, rfl, .inl rfl⟩, ⟨⟨rfl, rfl, .inl rfl⟩, ⟨⟨rfl, rfl, .inr rfl⟩, trivial⟩⟩⟩⟩⟩ rfl ?_
  refine kz_iload_n (M := kt_M330) kX8_use_c1.1 rfl ?_
  refine kz_ic (M := kt_M330) (-1) kX8_use_c1.2.1 rfl ?_
  refine kz_icmp_ne (M := kt_M330) kX8_use_c1.2.2.1 (t := 24) rfl h (fun h => ?_) (fun h => ?_)
  · skip
    refine kz_aload_nv (M := kt_M330) (x := x1) kX8_use_c1.2.2.2.2.2.1 rfl ?_
    refine kz_nz0 (x := x1) hxp1 ?_
    refine kz_gfi (M := kt_M330) (c := 15) (o := p1) kX8_use_c1.2.2.2.2.2.2.1 wf_X8_141 (.inr (by exact hlp1)) ?_
    refine kz_ic (M := kt_M330) 2 kX8_use_c1.2.2.2.2.2.2.2.1 rfl ?_
    refine kz_iadd (M := kt_M330) kX8_use_c2.1 ?_
    refine kz_iload_n (M := kt_M330) kX8_use_c2.2.1 rfl ?_
    refine kz_iadd (M := kt_M330) kX8_use_c2.2.2.1 ?_
    exact kz_weak [(0, .ref (w_adr E.2.1 7 0)), (2, .int x2), (3, .int x3), (4, .int (w_i w 15 p1 29)), (5, .int ((w_i w 15 p1 29) + 1))] ⟨rfl, ⟨rfl, ⟨rfl, ⟨rfl, ⟨rfl, trivial⟩⟩⟩⟩⟩ rfl (zt_X8_use_p32 hL  h)
  · skip
    refine kz_iload (M := kt_M330) kX8_use_c1.2.2.2.1 rfl ?_
    refine kz_goto (M := kt_M330) kX8_use_c1.2.2.2.2.1 (t := 32) rfl ?_
    exact kz_weak [(0, .ref (w_adr E.2.1 7 0)), (2, .int x2), (3, .int x3), (4, .int (w_i w 15 p1 29)), (5, .int ((w_i w 15 p1 29) + 1))] ⟨rfl, ⟨rfl, ⟨rfl, ⟨rfl, ⟨rfl, trivial⟩⟩⟩⟩⟩ rfl (zt_X8_use_p32 hL  h)
def zb_X8_set_p67 (E : zE) (L : Nat) (Q : kx_Rs → wS → Prop) (x1 : Int32) (x2 : Int32) (w : wS) : Prop := (kx_inb x1 (w_n w 7 0 5) = true ∧ (kx_inb x1 (w_n w 7 0 5) = true ∧ Q (.inl none) (ws_a w 7 0 5 (x1).toNatClampNeg ((w_a w 7 0 5 (x1).toNatClampNeg) ||| x2))))
theorem zt_X8_set_p67 {E : zE} {L : Nat} {Q : kx_Rs → wS → Prop} {x1 : Int32} {x2 : Int32} {w : wS} (hL : 22 ≤ L) (h : zb_X8_set_p67 E L Q x1 x2 w) : kzE E L kt_M326 67 [(0, .ref (w_adr E.2.1 7 0)), (1, .int x1), (2, .int x2)] [] w Q := by
  unfold zb_X8_set_p67 at h
  refine kz_aload_n (M := kt_M326) kX8_set_c4.2.2.2.2.1 rfl ?_
  refine kz_gfa (M := kt_M326) (c := 7) (o := 0) kX8_set_c4.2.2.2.2.2.1 wf_X8_21 (.inl rfl) ?_
  refine kz_iload_n (M := kt_M326) kX8_set_c4.2.2.2.2.2.2.1 rfl ?_
  refine kz_dup2 (M := kt_M326) kX8_set_c4.2.2.2.2.2.2.2.1 ⟨rfl, rfl⟩ ?_
  refine kz_iald (M := kt_M326) (c := 7) (o := 0) (k := 5) (a := (w_d w 7 0 5)) kX8_set_c5.1 ow_7_0_5 oa_7_0_5 ot_0 h (fun h => ?_)
  refine kz_iload_n (M := kt_M326) kX8_set_c5.2.1 rfl ?_
  refine kz_ior (M := kt_M326) kX8_set_c5.2.2.1 ?_
  refine kz_iast (M := kt_M326) (c := 7) (o := 0) (k := 5) (a := (w_d w 7 0 5)) kX8_set_c5.2.2.2.1 ow_7_0_5 oa_7_0_5 ot_0 h (fun h => ?_)
  exact kz_ret (M := kt_M326) kX8_set_c5.2.2.2.2.1 rfl h
def zb_X8_set_p50 (E : zE) (L : Nat) (Q : kx_Rs → wS → Prop) (x1 : Int32) (x2 : Int32) (w : wS) : Prop := (kx_inb (w_i w 7 0 8) (w_n w 7 0 6) = true ∧ zb_X8_set_p67 E L Q x1 x2 (ws_a (ws_i w 7 0 8 ((w_i w 7 0 8) + 1)) 7 0 6 (w_i w 7 0 8).toNatClampNeg x1))
theorem zt_X8_set_p50 {E : zE} {L : Nat} {Q : kx_Rs → wS → Prop} {x1 : Int32} {x2 : Int32} {w : wS} (hL : 22 ≤ L) (h : zb_X8_set_p50 E L Q x1 x2 w) : kzE E L kt_M326 50 [(0, .ref (w_adr E.2.1 7 0)), (1, .int x1), (2, .int x2)] [] w Q := by
  unfold zb_X8_set_p50 at h
  refine kz_aload_n (M := kt_M326) kX8_set_c3.2.1 rfl ?_
  refine kz_gfa (M := kt_M326) (c := 7) (o := 0) kX8_set_c3.2.2.1 wf_X8_24 (.inl rfl) ?_
  refine kz_aload_n (M := kt_M326) kX8_set_c3.2.2.2.1 rfl ?_
  refine kz_dup (M := kt_M326) kX8_set_c3.2.2.2.2.1 rfl ?_
  refine kz_gfi (M := kt_M326) (c := 7) (o := 0) kX8_set_c3.2.2.2.2.2.1 wf_X8_48 (.inl rfl) ?_
  refine kz_dup_x1 (M := kt_M326) kX8_set_c3.2.2.2.2.2.2.1 ⟨rfl, rfl⟩ ?_
  refine kz_ic (M := kt_M326) 1 kX8_set_c3.2.2.2.2.2.2.2.1 rfl ?_
  refine kz_iadd (M := kt_M326) kX8_set_c4.1 ?_
  refine kz_pfi (M := kt_M326) (c := 7) (o := 0) kX8_set_c4.2.1 wq_X8_48 (.inl rfl) ?_
  refine kz_iload_n (M := kt_M326) kX8_set_c4.2.2.1 rfl ?_
  refine kz_iastR (M := kt_M326) (n := w_n w 7 0 6) (c := 7) (o := 0) (k := 6) (a := (w_d w 7 0 6)) kX8_set_c4.2.2.2.1 ow_7_0_6 rfl ot_0 rd_n_i h (fun h => ?_)
  exact kz_weak [(0, .ref (w_adr E.2.1 7 0)), (1, .int x1), (2, .int x2)] ⟨rfl, ⟨rfl, ⟨rfl, trivial⟩⟩⟩ rfl (zt_X8_set_p67 hL  h)
def zb_X8_set_p19 (E : zE) (L : Nat) (Q : kx_Rs → wS → Prop) (x1 : Int32) (x2 : Int32) (y0 : Int32) (y1 : Int32) (w : wS) : Prop := (if ¬ (y1 &&& y0) = 0 then zb_X8_set_p67 E L Q x1 x2 w else (if ¬ w_i w 7 0 8 = (Int32.ofNat (w_n w 7 0 6)) then zb_X8_set_p50 E L Q x1 x2 w else zw E (L - 22) kt_M313 [.ref (w_d w 7 0 6), .int (w_i w 7 0 8)] w (wkr (fun v2 w1 => wle w w1 → (∃ a3, v2 = some a3 ∧ (w_o w1 a3 = some (99, a3, 0) ∧ w_t w1 a3 = 0) ∧ zb_X8_set_p50 E L Q x1 x2 (ws_put w1 7 0 6 a3))) (fun e w => Q (.inr e) w))))
theorem zt_X8_set_p19 {E : zE} {L : Nat} {Q : kx_Rs → wS → Prop} {x1 : Int32} {x2 : Int32} {y0 : Int32} {y1 : Int32} {w : wS} (hL : 22 ≤ L) (h : zb_X8_set_p19 E L Q x1 x2 y0 y1 w) : kzE E L kt_M326 19 [(0, .ref (w_adr E.2.1 7 0)), (1, .int x1), (2, .int x2)] [.int y0, .int y1] w Q := by
  unfold zb_X8_set_p19 at h
  refine kz_iand (M := kt_M326) kX8_set_c1.2.2.1 ?_
  refine kz_if_ne (M := kt_M326) kX8_set_c1.2.2.2.1 (t := 67) rfl h (fun h => ?_) (fun h => ?_)
  · skip
    exact kz_weak [(0, .ref (w_adr E.2.1 7 0)), (1, .int x1), (2, .int x2)] ⟨rfl, ⟨rfl, ⟨rfl, trivial⟩⟩⟩ rfl (zt_X8_set_p67 hL  h)
  · skip
    refine kz_aload_n (M := kt_M326) kX8_set_c1.2.2.2.2.1 rfl ?_
    refine kz_gfi (M := kt_M326) (c := 7) (o := 0) kX8_set_c1.2.2.2.2.2.1 wf_X8_48 (.inl rfl) ?_
    refine kz_aload_n (M := kt_M326) kX8_set_c1.2.2.2.2.2.2.1 rfl ?_
    refine kz_gfa (M := kt_M326) (c := 7) (o := 0) kX8_set_c1.2.2.2.2.2.2.2.1 wf_X8_24 (.inl rfl) ?_
    refine kz_alen (M := kt_M326) (c := 7) (o := 0) (k := 6) (a := (w_d w 7 0 6)) (τ := 0) kX8_set_c2.1 ow_7_0_6 oa_7_0_6 (Nat.le_of_ble_eq_true rfl) ?_
    refine kz_icmp_ne (M := kt_M326) kX8_set_c2.2.1 (t := 50) rfl h (fun h => ?_) (fun h => ?_)
    · skip
      exact kz_weak [(0, .ref (w_adr E.2.1 7 0)), (1, .int x1), (2, .int x2)] ⟨rfl, ⟨rfl, ⟨rfl, trivial⟩⟩⟩ rfl (zt_X8_set_p50 hL  h)
    · skip
      refine kz_aload_n (M := kt_M326) kX8_set_c2.2.2.1 rfl ?_
      refine kz_aload_n (M := kt_M326) kX8_set_c2.2.2.2.1 rfl ?_
      refine kz_gfa (M := kt_M326) (c := 7) (o := 0) kX8_set_c2.2.2.2.2.1 wf_X8_24 (.inl rfl) ?_
      refine kz_aload_n (M := kt_M326) kX8_set_c2.2.2.2.2.2.1 rfl ?_
      refine kz_gfi (M := kt_M326) (c := 7) (o := 0) kX8_set_c2.2.2.2.2.2.2.1 wf_X8_48 (.inl rfl) ?_
      refine kz_csr (M := kt_M326) (As := [.ref (w_d w 7 0 6), .int (w_i w 7 0 8)]) (rest := [.ref (w_adr E.2.1 7 0)]) kX8_set_c2.2.2.2.2.2.2.2.1 wl_X8_167 wMs_313 rfl (Nat.le_trans (Nat.le_of_ble_eq_true rfl) hL) (Nat.le_of_ble_eq_true rfl) (Nat.le_of_ble_eq_true rfl) h (fun v2 w1 hle h => ?_) (fun _ _ _ h => kzx_no rfl h)
      have h := h hle
      obtain ⟨a3, hx, h⟩ := h
      refine kz_nz0 (M := kt_M326) (x := v2) hx ?_
      refine kz_pfa (M := kt_M326) (c := 7) (o := 0) (τ := 0) kX8_set_c3.1 wq_X8_24 (.inl rfl) rfl h (fun h => ?_)
      exact kz_weak [(0, .ref (w_adr E.2.1 7 0)), (1, .int x1), (2, .int x2)] ⟨rfl, ⟨rfl, ⟨rfl, trivial⟩⟩⟩ rfl (zt_X8_set_p50 hL  h)
def zb_X8_set_p0 (E : zE) (L : Nat) (Q : kx_Rs → wS → Prop) (x1 : Int32) (x2 : Int32) (w : wS) : Prop := (kx_inb x1 (w_n w 7 0 5) = true ∧ (if ¬ x2 = 32 then zb_X8_set_p19 E L Q x1 x2 15 (w_a w 7 0 5 (x1).toNatClampNeg) w else zb_X8_set_p19 E L Q x1 x2 32 (w_a w 7 0 5 (x1).toNatClampNeg) w))
theorem zt_X8_set_p0 {E : zE} {L : Nat} {Q : kx_Rs → wS → Prop} {x1 : Int32} {x2 : Int32} {w : wS} (hL : 22 ≤ L) (h : zb_X8_set_p0 E L Q x1 x2 w) : kzE E L kt_M326 0 [(0, .ref (w_adr E.2.1 7 0)), (1, .int x1), (2, .int x2)] [] w Q := by
  unfold zb_X8_set_p0 at h
  refine kz_aload_n (M := kt_M326) kX8_set_c0.1 rfl ?_
  refine kz_gfa (M := kt_M326) (c := 7) (o := 0) kX8_set_c0.2.1 wf_X8_21 (.inl rfl) ?_
  refine kz_iload_n (M := kt_M326) kX8_set_c0.2.2.1 rfl ?_
  refine kz_iald (M := kt_M326) (c := 7) (o := 0) (k := 5) (a := (w_d w 7 0 5)) kX8_set_c0.2.2.2.1 ow_7_0_5 oa_7_0_5 ot_0 h (fun h => ?_)
  refine kz_iload_n (M := kt_M326) kX8_set_c0.2.2.2.2.1 rfl ?_
  refine kz_bi (M := kt_M326) 32 kX8_set_c0.2.2.2.2.2.1 rfl ?_
  refine kz_icmp_ne (M := kt_M326) kX8_set_c0.2.2.2.2.2.2.1 (t := 17) rfl h (fun h => ?_) (fun h => ?_)
  · skip
    refine kz_bi (M := kt_M326) 15 kX8_set_c1.2.1 rfl ?_
    exact kz_weak [(0, .ref (w_adr E.2.1 7 0)), (1, .int x1), (2, .int x2)] ⟨rfl, ⟨rfl, ⟨rfl, trivial⟩⟩⟩ rfl (zt_X8_set_p19 hL  h)
  · skip
    refine kz_bi (M := kt_M326) 32 kX8_set_c0.2.2.2.2.2.2.2.1 rfl ?_
    refine kz_goto (M := kt_M326) kX8_set_c1.1 (t := 19) rfl ?_
    exact kz_weak [(0, .ref (w_adr E.2.1 7 0)), (1, .int x1), (2, .int x2)] ⟨rfl, ⟨rfl, ⟨rfl, trivial⟩⟩⟩ rfl (zt_X8_set_p19 hL  h)
def zL_X8_value_p283 (E : zE) (L : Nat) (Q : kx_Rs → wS → Prop) (x1 : Option Nat) (x2 : Int32) (x3 : Option Nat) (w : wS) : Prop := kzE E L kt_M331 283 [(0, .ref (w_adr E.2.1 7 0)), (1, va_rf (x1)), (2, .int x2), (3, va_rf (x3))] [] w Q
def zb_X8_value_p312 (E : zE) (L : Nat) (Q : kx_Rs → wS → Prop) (x1 : Option Nat) (x3 : Option Nat) (y0 : Int32) (w : wS) : Prop := (∃ p1, x3 = some p1 ∧ w_l w E.2.1 14 p1 ∧ zL_X8_value_p283 E L Q x1 y0 (w_p w 14 p1 7) w)
theorem zt_X8_value_p312 {E : zE} {L : Nat} {Q : kx_Rs → wS → Prop} {x1 : Option Nat} {x3 : Option Nat} {y0 : Int32} {w : wS} (hL : 24 ≤ L) (h : zb_X8_value_p312 E L Q x1 x3 y0 w) : kzE E L kt_M331 312 [(0, .ref (w_adr E.2.1 7 0)), (1, va_rf (x1)), (3, va_rf (x3))] [.int y0] w Q := by
  unfold zb_X8_value_p312 at h
  refine kz_sti_n (M := kt_M331) [(0, .ref (w_adr E.2.1 7 0)), (1, va_rf (x1)), (3, va_rf (x3))] kX8_value_c18.2.1 (Nat.le_of_ble_eq_true rfl) ⟨⟨rfl, rfl, .inl rfl⟩, ⟨⟨rfl, rfl, .inr (w_cat (x1))⟩, ⟨⟨rfl, rfl, .inl rfl⟩, trivial⟩⟩⟩ rfl ?_
  refine kz_aload_nv (M := kt_M331) (x := x3) kX8_value_c18.2.2.1 rfl ?_
  obtain ⟨p1, hxp1, hlp1, h⟩ := h
  refine kz_nz0 (x := x3) hxp1 ?_
  refine kz_gfp (M := kt_M331) (c := 14) (o := p1) kX8_value_c18.2.2.2.1 wf_X8_67 (.inr (by exact hlp1)) ?_
  refine kz_stv_n (M := kt_M331) (x := w_p w 14 p1 7) [(0, .ref (w_adr E.2.1 7 0)), (1, va_rf (x1)), (2, .int y0)] kX8_value_c18.2.2.2.2.1 (Nat.le_of_ble_eq_true rfl) ⟨⟨rfl, rfl, .inl rfl⟩, ⟨⟨rfl, rfl, .inl rfl⟩, ⟨⟨rfl, rfl, .inr rfl⟩, trivial⟩⟩⟩ rfl ?_
  refine kz_goto (M := kt_M331) kX8_value_c18.2.2.2.2.2.1 (t := 283) rfl ?_
  exact kz_weak [(0, .ref (w_adr E.2.1 7 0)), (1, va_rf (x1)), (2, .int y0), (3, va_rf (w_p w 14 p1 7))] ⟨rfl, ⟨rfl, ⟨rfl, ⟨rfl, trivial⟩⟩⟩⟩ rfl h
def zb_X8_value_p283 (E : zE) (L : Nat) (Q : kx_Rs → wS → Prop) (x1 : Option Nat) (x2 : Int32) (x3 : Option Nat) (w : wS) : Prop := (if x3 = none then Q (.inl (some (.int x2))) w else (∃ p1, x1 = some p1 ∧ w_l w E.2.1 14 p1 ∧ (if ¬ w_i w 14 p1 8 = 2 then zw E (L - 23) kt_M331 [.ref (w_adr E.2.1 7 0), va_rf (x3)] w (wk1 (fun v3 w2 => wle w w2 → zb_X8_value_p312 E L Q x1 x3 (x2 ||| v3) w2) (fun e w => Q (.inr e) w)) else zw E (L - 23) kt_M331 [.ref (w_adr E.2.1 7 0), va_rf (x3)] w (wk1 (fun v5 w4 => wle w w4 → zb_X8_value_p312 E L Q x1 x3 (x2 &&& v5) w4) (fun e w => Q (.inr e) w)))))
theorem zt_X8_value_p283 {E : zE} {L : Nat} {Q : kx_Rs → wS → Prop} {x1 : Option Nat} {x2 : Int32} {x3 : Option Nat} {w : wS} (hL : 24 ≤ L) (h : zb_X8_value_p283 E L Q x1 x2 x3 w) : kzE E L kt_M331 283 [(0, .ref (w_adr E.2.1 7 0)), (1, va_rf (x1)), (2, .int x2), (3, va_rf (x3))] [] w Q := by
  unfold zb_X8_value_p283 at h
  refine kz_aload_nv (M := kt_M331) (x := x3) kX8_value_c16.1 rfl ?_
  refine kz_ifnull (M := kt_M331) (x := x3) kX8_value_c16.2.1 (t := 321) rfl h (fun h => ?_) (fun h => ?_)
  · skip
    refine kz_iload_n (M := kt_M331) kX8_value_c18.2.2.2.2.2.2.1 rfl ?_
    exact kz_iret (M := kt_M331) kX8_value_c18.2.2.2.2.2.2.2.1 rfl rfl h
  · skip
    refine kz_aload_nv (M := kt_M331) (x := x1) kX8_value_c16.2.2.1 rfl ?_
    obtain ⟨p1, hxp1, hlp1, h⟩ := h
    refine kz_nz0 (x := x1) hxp1 ?_
    refine kz_gfi (M := kt_M331) (c := 14) (o := p1) kX8_value_c16.2.2.2.1 wf_X8_332 (.inr (by exact hlp1)) ?_
    refine kz_ic (M := kt_M331) 2 kX8_value_c16.2.2.2.2.1 rfl ?_
    refine kz_icmp_ne (M := kt_M331) kX8_value_c16.2.2.2.2.2.1 (t := 305) rfl h (fun h => ?_) (fun h => ?_)
    · skip
      refine kz_iload_n (M := kt_M331) kX8_value_c17.2.2.2.2.1 rfl ?_
      refine kz_aload_n (M := kt_M331) kX8_value_c17.2.2.2.2.2.1 rfl ?_
      refine kz_aload_nv (M := kt_M331) (x := x3) kX8_value_c17.2.2.2.2.2.2.1 rfl ?_
      refine kz_cv1 (M := kt_M331) (c := 7) (o := 0) (As := [va_rf (x3)]) (rest := [.int x2]) kX8_value_c17.2.2.2.2.2.2.2.1 wl_X8_357 wMv_331 rfl (.inl rfl) rfl (Nat.le_trans (Nat.le_of_ble_eq_true rfl) hL) (by simp [lg_sl, w_cat, z_ci, z_cr, z_cl, z_cn, kt_M331]) (Nat.le_of_ble_eq_true rfl) h (fun v3 w2 hle h => ?_) (fun _ _ _ h => kzx_no rfl h)
      have h := h hle
      have hlp1 := w_l_le hlp1 hle
      refine kz_ior (M := kt_M331) kX8_value_c18.1 ?_
      exact kz_weak [(0, .ref (w_adr E.2.1 7 0)), (1, va_rf (x1)), (3, va_rf (x3))] ⟨rfl, ⟨rfl, ⟨rfl, trivial⟩⟩⟩ rfl (zt_X8_value_p312 hL  h)
    · skip
      refine kz_iload_n (M := kt_M331) kX8_value_c16.2.2.2.2.2.2.1 rfl ?_
      refine kz_aload_n (M := kt_M331) kX8_value_c16.2.2.2.2.2.2.2.1 rfl ?_
      refine kz_aload_nv (M := kt_M331) (x := x3) kX8_value_c17.1 rfl ?_
      refine kz_cv1 (M := kt_M331) (c := 7) (o := 0) (As := [va_rf (x3)]) (rest := [.int x2]) kX8_value_c17.2.1 wl_X8_357 wMv_331 rfl (.inl rfl) rfl (Nat.le_trans (Nat.le_of_ble_eq_true rfl) hL) (by simp [lg_sl, w_cat, z_ci, z_cr, z_cl, z_cn, kt_M331]) (Nat.le_of_ble_eq_true rfl) h (fun v5 w4 hle h => ?_) (fun _ _ _ h => kzx_no rfl h)
      have h := h hle
      have hlp1 := w_l_le hlp1 hle
      refine kz_iand (M := kt_M331) kX8_value_c17.2.2.1 ?_
      refine kz_goto (M := kt_M331) kX8_value_c17.2.2.2.1 (t := 312) rfl ?_
      exact kz_weak [(0, .ref (w_adr E.2.1 7 0)), (1, va_rf (x1)), (3, va_rf (x3))] ⟨rfl, ⟨rfl, ⟨rfl, trivial⟩⟩⟩ rfl (zt_X8_value_p312 hL  h)
def zb_X8_value_p277 (E : zE) (L : Nat) (Q : kx_Rs → wS → Prop) (x1 : Option Nat) (y0 : Int32) (w : wS) : Prop := (∃ p1, x1 = some p1 ∧ w_l w E.2.1 14 p1 ∧ zL_X8_value_p283 E L Q x1 y0 (w_p w 14 p1 3) w)
theorem zt_X8_value_p277 {E : zE} {L : Nat} {Q : kx_Rs → wS → Prop} {x1 : Option Nat} {y0 : Int32} {w : wS} (hL : 24 ≤ L) (h : zb_X8_value_p277 E L Q x1 y0 w) : kzE E L kt_M331 277 [(0, .ref (w_adr E.2.1 7 0)), (1, va_rf (x1))] [.int y0] w Q := by
  unfold zb_X8_value_p277 at h
  refine kz_sti_n (M := kt_M331) [(0, .ref (w_adr E.2.1 7 0)), (1, va_rf (x1))] kX8_value_c15.2.2.2.2.1 (Nat.le_of_ble_eq_true rfl) ⟨⟨rfl, rfl, .inl rfl⟩, ⟨⟨rfl, rfl, .inr (w_cat (x1))⟩, trivial⟩⟩ rfl ?_
  refine kz_aload_nv (M := kt_M331) (x := x1) kX8_value_c15.2.2.2.2.2.1 rfl ?_
  obtain ⟨p1, hxp1, hlp1, h⟩ := h
  refine kz_nz0 (x := x1) hxp1 ?_
  refine kz_gfp (M := kt_M331) (c := 14) (o := p1) kX8_value_c15.2.2.2.2.2.2.1 wf_X8_58 (.inr (by exact hlp1)) ?_
  refine kz_stv_n (M := kt_M331) (x := w_p w 14 p1 3) [(0, .ref (w_adr E.2.1 7 0)), (1, va_rf (x1)), (2, .int y0)] kX8_value_c15.2.2.2.2.2.2.2.1 (Nat.le_of_ble_eq_true rfl) ⟨⟨rfl, rfl, .inl rfl⟩, ⟨⟨rfl, rfl, .inl rfl⟩, ⟨⟨rfl, rfl, .inr rfl⟩, trivial⟩⟩⟩ rfl ?_
  exact kz_weak [(0, .ref (w_adr E.2.1 7 0)), (1, va_rf (x1)), (2, .int y0), (3, va_rf (w_p w 14 p1 3))] ⟨rfl, ⟨rfl, ⟨rfl, ⟨rfl, trivial⟩⟩⟩⟩ rfl h
def zb_X8_value_p263 (E : zE) (L : Nat) (Q : kx_Rs → wS → Prop) (y0 : Int32) (w : wS) : Prop := Q (.inl (some (.int y0))) w
theorem zt_X8_value_p263 {E : zE} {L : Nat} {Q : kx_Rs → wS → Prop} {y0 : Int32} {w : wS} (hL : 24 ≤ L) (h : zb_X8_value_p263 E L Q y0 w) : kzE E L kt_M331 263 [(0, .ref (w_adr E.2.1 7 0))] [.int y0] w Q := by
  unfold zb_X8_value_p263 at h
  exact kz_iret (M := kt_M331) kX8_value_c14.2.2.2.2.1 rfl rfl h
def zb_X8_value_p240 (E : zE) (L : Nat) (Q : kx_Rs → wS → Prop) (x1 : Option Nat) (x2 : Int32) (x3 : Int32) (y0 : Int32) (w : wS) : Prop := ((y0 = 0 ∨ y0 = 1) ∧ (if y0 = 0 then (∃ p1, x1 = some p1 ∧ w_l (ws_i w 7 0 17 y0) E.2.1 14 p1 ∧ zw E (L - 22) kt_M217 [.int (w_i w 14 p1 8), .int x2, .int x3] (ws_i w 7 0 17 y0) (wk1 (fun v3 w2 => wle (ws_i w 7 0 17 y0) w2 → zb_X8_value_p263 E L Q v3 w2) (fun e w => Q (.inr e) w))) else zb_X8_value_p263 E L Q 0 (ws_i w 7 0 17 y0)))
theorem zt_X8_value_p240 {E : zE} {L : Nat} {Q : kx_Rs → wS → Prop} {x1 : Option Nat} {x2 : Int32} {x3 : Int32} {y0 : Int32} {w : wS} (hL : 24 ≤ L) (h : zb_X8_value_p240 E L Q x1 x2 x3 y0 w) : kzE E L kt_M331 240 [(0, .ref (w_adr E.2.1 7 0)), (1, va_rf (x1)), (2, .int x2), (3, .int x3)] [.int y0, .ref (w_adr E.2.1 7 0)] w Q := by
  unfold zb_X8_value_p240 at h
  obtain ⟨h0, h⟩ := h
  refine kz_pfz (M := kt_M331) (c := 7) (o := 0) kX8_value_c13.2.1 wq_X8_354 (.inl rfl) h0 ?_
  refine kz_aload_n (M := kt_M331) kX8_value_c13.2.2.1 rfl ?_
  refine kz_gfiR (M := kt_M331) (c := 7) (o := 0) y0 kX8_value_c13.2.2.2.1 wf_X8_354 (.inl rfl) rd_i_e ?_
  refine kz_if_eq (M := kt_M331) kX8_value_c13.2.2.2.2.1 (t := 254) rfl h (fun h => ?_) (fun h => ?_)
  · skip
    refine kz_aload_nv (M := kt_M331) (x := x1) kX8_value_c13.2.2.2.2.2.2.2.1 rfl ?_
    obtain ⟨p1, hxp1, hlp1, h⟩ := h
    refine kz_nz0 (x := x1) hxp1 ?_
    refine kz_gfiR (M := kt_M331) (c := 14) (o := p1) (w_i w 14 p1 8) kX8_value_c14.1 wf_X8_332 (.inr (by exact hlp1)) (rd_i_i rfl) ?_
    refine kz_iload_n (M := kt_M331) kX8_value_c14.2.1 rfl ?_
    refine kz_iload_n (M := kt_M331) kX8_value_c14.2.2.1 rfl ?_
    refine kz_cs1 (M := kt_M331) (As := [.int (w_i w 14 p1 8), .int x2, .int x3]) (rest := []) kX8_value_c14.2.2.2.1 wl_X8_387 wMs_217 rfl (Nat.le_trans (Nat.le_of_ble_eq_true rfl) hL) (Nat.le_of_ble_eq_true rfl) (Nat.le_of_ble_eq_true rfl) h (fun v3 w2 hle h => ?_) (fun _ _ _ h => kzx_no rfl h)
    have h := h hle
    have hlp1 := w_l_le hlp1 hle
    exact kz_weak [(0, .ref (w_adr E.2.1 7 0))] ⟨rfl, trivial⟩ rfl (zt_X8_value_p263 hL  h)
  · skip
    refine kz_ic (M := kt_M331) 0 kX8_value_c13.2.2.2.2.2.1 rfl ?_
    refine kz_goto (M := kt_M331) kX8_value_c13.2.2.2.2.2.2.1 (t := 263) rfl ?_
    exact kz_weak [(0, .ref (w_adr E.2.1 7 0))] ⟨rfl, trivial⟩ rfl (zt_X8_value_p263 hL  h)
def zb_X8_value_p235 (E : zE) (L : Nat) (Q : kx_Rs → wS → Prop) (x1 : Option Nat) (x2 : Int32) (x3 : Int32) (w : wS) : Prop := zb_X8_value_p240 E L Q x1 x2 x3 1 w
theorem zt_X8_value_p235 {E : zE} {L : Nat} {Q : kx_Rs → wS → Prop} {x1 : Option Nat} {x2 : Int32} {x3 : Int32} {w : wS} (hL : 24 ≤ L) (h : zb_X8_value_p235 E L Q x1 x2 x3 w) : kzE E L kt_M331 235 [(0, .ref (w_adr E.2.1 7 0)), (1, va_rf (x1)), (2, .int x2), (3, .int x3)] [.ref (w_adr E.2.1 7 0)] w Q := by
  unfold zb_X8_value_p235 at h
  refine kz_ic (M := kt_M331) 1 kX8_value_c12.2.2.2.2.2.2.1 rfl ?_
  refine kz_goto (M := kt_M331) kX8_value_c12.2.2.2.2.2.2.2.1 (t := 240) rfl ?_
  exact kz_weak [(0, .ref (w_adr E.2.1 7 0)), (1, va_rf (x1)), (2, .int x2), (3, .int x3)] ⟨rfl, ⟨rfl, ⟨rfl, ⟨rfl, trivial⟩⟩⟩⟩ rfl (zt_X8_value_p240 hL  h)
def zb_X8_value_p196 (E : zE) (L : Nat) (Q : kx_Rs → wS → Prop) (y0 : Int32) (w : wS) : Prop := Q (.inl (some (.int y0))) w
theorem zt_X8_value_p196 {E : zE} {L : Nat} {Q : kx_Rs → wS → Prop} {y0 : Int32} {w : wS} (hL : 24 ≤ L) (h : zb_X8_value_p196 E L Q y0 w) : kzE E L kt_M331 196 [(0, .ref (w_adr E.2.1 7 0))] [.int y0] w Q := by
  unfold zb_X8_value_p196 at h
  exact kz_iret (M := kt_M331) kX8_value_c10.2.1 rfl rfl h
def zb_X8_value_p161 (E : zE) (L : Nat) (Q : kx_Rs → wS → Prop) (x1 : Option Nat) (x2 : Int32) (y0 : Int32) (w : wS) : Prop := ((y0 = 0 ∨ y0 = 1) ∧ (∃ p1, x1 = some p1 ∧ w_l (ws_i w 7 0 17 y0) E.2.1 14 p1 ∧ (if ¬ w_i w 14 p1 8 = 17 then (if ¬ w_i w 14 p1 8 = 63 then zb_X8_value_p196 E L Q (-x2) (ws_i w 7 0 17 y0) else zb_X8_value_p196 E L Q (x2 ^^^ (-1)) (ws_i w 7 0 17 y0)) else zb_X8_value_p196 E L Q (1 - x2) (ws_i w 7 0 17 y0))))
theorem zt_X8_value_p161 {E : zE} {L : Nat} {Q : kx_Rs → wS → Prop} {x1 : Option Nat} {x2 : Int32} {y0 : Int32} {w : wS} (hL : 24 ≤ L) (h : zb_X8_value_p161 E L Q x1 x2 y0 w) : kzE E L kt_M331 161 [(0, .ref (w_adr E.2.1 7 0)), (1, va_rf (x1)), (2, .int x2)] [.int y0, .ref (w_adr E.2.1 7 0)] w Q := by
  unfold zb_X8_value_p161 at h
  obtain ⟨h0, h⟩ := h
  refine kz_pfz (M := kt_M331) (c := 7) (o := 0) kX8_value_c7.2.2.2.2.2.2.1 wq_X8_354 (.inl rfl) h0 ?_
  refine kz_aload_nv (M := kt_M331) (x := x1) kX8_value_c7.2.2.2.2.2.2.2.1 rfl ?_
  obtain ⟨p1, hxp1, hlp1, h⟩ := h
  refine kz_nz0 (x := x1) hxp1 ?_
  refine kz_gfiR (M := kt_M331) (c := 14) (o := p1) (w_i w 14 p1 8) kX8_value_c8.1 wf_X8_332 (.inr (by exact hlp1)) (rd_i_i rfl) ?_
  refine kz_bi (M := kt_M331) 17 kX8_value_c8.2.1 rfl ?_
  refine kz_icmp_ne (M := kt_M331) kX8_value_c8.2.2.1 (t := 179) rfl h (fun h => ?_) (fun h => ?_)
  · skip
    refine kz_aload_nv (M := kt_M331) (x := x1) kX8_value_c8.2.2.2.2.2.2.2.1 rfl ?_
    refine kz_nz0 (x := x1) hxp1 ?_
    refine kz_gfiR (M := kt_M331) (c := 14) (o := p1) (w_i w 14 p1 8) kX8_value_c9.1 wf_X8_332 (.inr (by exact hlp1)) (rd_i_i rfl) ?_
    refine kz_bi (M := kt_M331) 63 kX8_value_c9.2.1 rfl ?_
    refine kz_icmp_ne (M := kt_M331) kX8_value_c9.2.2.1 (t := 194) rfl h (fun h => ?_) (fun h => ?_)
    · skip
      refine kz_iload_n (M := kt_M331) kX8_value_c9.2.2.2.2.2.2.2.1 rfl ?_
      refine kz_ineg (M := kt_M331) kX8_value_c10.1 ?_
      exact kz_weak [(0, .ref (w_adr E.2.1 7 0))] ⟨rfl, trivial⟩ rfl (zt_X8_value_p196 hL  h)
    · skip
      refine kz_iload_n (M := kt_M331) kX8_value_c9.2.2.2.1 rfl ?_
      refine kz_ic (M := kt_M331) (-1) kX8_value_c9.2.2.2.2.1 rfl ?_
      refine kz_ixor (M := kt_M331) kX8_value_c9.2.2.2.2.2.1 ?_
      refine kz_goto (M := kt_M331) kX8_value_c9.2.2.2.2.2.2.1 (t := 196) rfl ?_
      exact kz_weak [(0, .ref (w_adr E.2.1 7 0))] ⟨rfl, trivial⟩ rfl (zt_X8_value_p196 hL  h)
  · skip
    refine kz_ic (M := kt_M331) 1 kX8_value_c8.2.2.2.1 rfl ?_
    refine kz_iload_n (M := kt_M331) kX8_value_c8.2.2.2.2.1 rfl ?_
    refine kz_isub (M := kt_M331) kX8_value_c8.2.2.2.2.2.1 ?_
    refine kz_goto (M := kt_M331) kX8_value_c8.2.2.2.2.2.2.1 (t := 196) rfl ?_
    exact kz_weak [(0, .ref (w_adr E.2.1 7 0))] ⟨rfl, trivial⟩ rfl (zt_X8_value_p196 hL  h)
def zb_X8_value_p160 (E : zE) (L : Nat) (Q : kx_Rs → wS → Prop) (x1 : Option Nat) (x2 : Int32) (w : wS) : Prop := zb_X8_value_p161 E L Q x1 x2 0 w
theorem zt_X8_value_p160 {E : zE} {L : Nat} {Q : kx_Rs → wS → Prop} {x1 : Option Nat} {x2 : Int32} {w : wS} (hL : 24 ≤ L) (h : zb_X8_value_p160 E L Q x1 x2 w) : kzE E L kt_M331 160 [(0, .ref (w_adr E.2.1 7 0)), (1, va_rf (x1)), (2, .int x2)] [.ref (w_adr E.2.1 7 0)] w Q := by
  unfold zb_X8_value_p160 at h
  refine kz_ic (M := kt_M331) 0 kX8_value_c7.2.2.2.2.2.1 rfl ?_
  exact kz_weak [(0, .ref (w_adr E.2.1 7 0)), (1, va_rf (x1)), (2, .int x2)] ⟨rfl, ⟨rfl, ⟨rfl, trivial⟩⟩⟩ rfl (zt_X8_value_p161 hL  h)
def zb_X8_value_p156 (E : zE) (L : Nat) (Q : kx_Rs → wS → Prop) (x1 : Option Nat) (x2 : Int32) (w : wS) : Prop := zb_X8_value_p161 E L Q x1 x2 1 w
theorem zt_X8_value_p156 {E : zE} {L : Nat} {Q : kx_Rs → wS → Prop} {x1 : Option Nat} {x2 : Int32} {w : wS} (hL : 24 ≤ L) (h : zb_X8_value_p156 E L Q x1 x2 w) : kzE E L kt_M331 156 [(0, .ref (w_adr E.2.1 7 0)), (1, va_rf (x1)), (2, .int x2)] [.ref (w_adr E.2.1 7 0)] w Q := by
  unfold zb_X8_value_p156 at h
  refine kz_ic (M := kt_M331) 1 kX8_value_c7.2.2.2.1 rfl ?_
  refine kz_goto (M := kt_M331) kX8_value_c7.2.2.2.2.1 (t := 161) rfl ?_
  exact kz_weak [(0, .ref (w_adr E.2.1 7 0)), (1, va_rf (x1)), (2, .int x2)] ⟨rfl, ⟨rfl, ⟨rfl, trivial⟩⟩⟩ rfl (zt_X8_value_p161 hL  h)
def zb_X8_value_p118 (E : zE) (L : Nat) (Q : kx_Rs → wS → Prop) (x2 : Int32) (y0 : Int32) (w : wS) : Prop := ((y0 = 0 ∨ y0 = 1) ∧ Q (.inl (some (.int x2))) (ws_i w 7 0 17 y0))
theorem zt_X8_value_p118 {E : zE} {L : Nat} {Q : kx_Rs → wS → Prop} {x2 : Int32} {y0 : Int32} {w : wS} (hL : 24 ≤ L) (h : zb_X8_value_p118 E L Q x2 y0 w) : kzE E L kt_M331 118 [(0, .ref (w_adr E.2.1 7 0)), (2, .int x2)] [.int y0, .ref (w_adr E.2.1 7 0)] w Q := by
  unfold zb_X8_value_p118 at h
  obtain ⟨h0, h⟩ := h
  refine kz_pfz (M := kt_M331) (c := 7) (o := 0) kX8_value_c5.1 wq_X8_354 (.inl rfl) h0 ?_
  refine kz_iload_n (M := kt_M331) kX8_value_c5.2.1 rfl ?_
  exact kz_iret (M := kt_M331) kX8_value_c5.2.2.1 rfl rfl h
def zb_X8_value_p117 (E : zE) (L : Nat) (Q : kx_Rs → wS → Prop) (x2 : Int32) (w : wS) : Prop := zb_X8_value_p118 E L Q x2 0 w
theorem zt_X8_value_p117 {E : zE} {L : Nat} {Q : kx_Rs → wS → Prop} {x2 : Int32} {w : wS} (hL : 24 ≤ L) (h : zb_X8_value_p117 E L Q x2 w) : kzE E L kt_M331 117 [(0, .ref (w_adr E.2.1 7 0)), (2, .int x2)] [.ref (w_adr E.2.1 7 0)] w Q := by
  unfold zb_X8_value_p117 at h
  refine kz_ic (M := kt_M331) 0 kX8_value_c4.2.2.2.2.2.2.2.1 rfl ?_
  exact kz_weak [(0, .ref (w_adr E.2.1 7 0)), (2, .int x2)] ⟨rfl, ⟨rfl, trivial⟩⟩ rfl (zt_X8_value_p118 hL  h)
def zb_X8_value_p113 (E : zE) (L : Nat) (Q : kx_Rs → wS → Prop) (x2 : Int32) (w : wS) : Prop := zb_X8_value_p118 E L Q x2 1 w
theorem zt_X8_value_p113 {E : zE} {L : Nat} {Q : kx_Rs → wS → Prop} {x2 : Int32} {w : wS} (hL : 24 ≤ L) (h : zb_X8_value_p113 E L Q x2 w) : kzE E L kt_M331 113 [(0, .ref (w_adr E.2.1 7 0)), (2, .int x2)] [.ref (w_adr E.2.1 7 0)] w Q := by
  unfold zb_X8_value_p113 at h
  refine kz_ic (M := kt_M331) 1 kX8_value_c4.2.2.2.2.2.1 rfl ?_
  refine kz_goto (M := kt_M331) kX8_value_c4.2.2.2.2.2.2.1 (t := 118) rfl ?_
  exact kz_weak [(0, .ref (w_adr E.2.1 7 0)), (2, .int x2)] ⟨rfl, ⟨rfl, trivial⟩⟩ rfl (zt_X8_value_p118 hL  h)
def zb_X8_value_p96 (E : zE) (L : Nat) (Q : kx_Rs → wS → Prop) (x1 : Option Nat) (x2 : Int32) (w : wS) : Prop := (∃ p1, x1 = some p1 ∧ w_l w E.2.1 14 p1 ∧ (if ¬ w_i w 14 p1 8 = 3 then zb_X8_value_p117 E L Q x2 w else (if x2 < 0 then zb_X8_value_p113 E L Q x2 w else (if x2 ≤ 1 then zb_X8_value_p117 E L Q x2 w else zb_X8_value_p113 E L Q x2 w))))
theorem zt_X8_value_p96 {E : zE} {L : Nat} {Q : kx_Rs → wS → Prop} {x1 : Option Nat} {x2 : Int32} {w : wS} (hL : 24 ≤ L) (h : zb_X8_value_p96 E L Q x1 x2 w) : kzE E L kt_M331 96 [(0, .ref (w_adr E.2.1 7 0)), (1, va_rf (x1)), (2, .int x2)] [.ref (w_adr E.2.1 7 0)] w Q := by
  unfold zb_X8_value_p96 at h
  refine kz_aload_nv (M := kt_M331) (x := x1) kX8_value_c3.2.2.2.2.1 rfl ?_
  obtain ⟨p1, hxp1, hlp1, h⟩ := h
  refine kz_nz0 (x := x1) hxp1 ?_
  refine kz_gfi (M := kt_M331) (c := 14) (o := p1) kX8_value_c3.2.2.2.2.2.1 wf_X8_332 (.inr (by exact hlp1)) ?_
  refine kz_ic (M := kt_M331) 3 kX8_value_c3.2.2.2.2.2.2.1 rfl ?_
  refine kz_icmp_ne (M := kt_M331) kX8_value_c3.2.2.2.2.2.2.2.1 (t := 117) rfl h (fun h => ?_) (fun h => ?_)
  · skip
    exact kz_weak [(0, .ref (w_adr E.2.1 7 0)), (2, .int x2)] ⟨rfl, ⟨rfl, trivial⟩⟩ rfl (zt_X8_value_p117 hL  h)
  · skip
    refine kz_iload_n (M := kt_M331) kX8_value_c4.1 rfl ?_
    refine kz_if_lt (M := kt_M331) kX8_value_c4.2.1 (t := 113) rfl h (fun h => ?_) (fun h => ?_)
    · skip
      exact kz_weak [(0, .ref (w_adr E.2.1 7 0)), (2, .int x2)] ⟨rfl, ⟨rfl, trivial⟩⟩ rfl (zt_X8_value_p113 hL  h)
    · skip
      refine kz_iload_n (M := kt_M331) kX8_value_c4.2.2.1 rfl ?_
      refine kz_ic (M := kt_M331) 1 kX8_value_c4.2.2.2.1 rfl ?_
      refine kz_icmp_le (M := kt_M331) kX8_value_c4.2.2.2.2.1 (t := 117) rfl h (fun h => ?_) (fun h => ?_)
      · skip
        exact kz_weak [(0, .ref (w_adr E.2.1 7 0)), (2, .int x2)] ⟨rfl, ⟨rfl, trivial⟩⟩ rfl (zt_X8_value_p117 hL  h)
      · skip
        exact kz_weak [(0, .ref (w_adr E.2.1 7 0)), (2, .int x2)] ⟨rfl, ⟨rfl, trivial⟩⟩ rfl (zt_X8_value_p113 hL  h)
def zb_X8_value_p0 (E : zE) (L : Nat) (Q : kx_Rs → wS → Prop) (x1 : Option Nat) (w : wS) : Prop := (∃ p1, x1 = some p1 ∧ w_l w E.2.1 14 p1 ∧ (if w_i w 14 p1 21 = 0 then (∃ i2, zO E "MeetingHouse$Kind" (w_p w 14 p1 0) i2 ∧ (if (kw_on i2) = 37 then zw E (L - 23) kt_M331 [.ref (w_adr E.2.1 7 0), va_rf (w_p w 14 p1 3)] w (wk1 (fun v4 w3 => wle w w3 → (if ¬ w_i w3 7 0 17 = 0 then zb_X8_value_p113 E L Q v4 w3 else (if ¬ w_i w3 14 p1 8 = 2 then zb_X8_value_p96 E L Q x1 v4 w3 else (if v4 < 0 then zb_X8_value_p113 E L Q v4 w3 else (if 255 < v4 then zb_X8_value_p113 E L Q v4 w3 else zb_X8_value_p96 E L Q x1 v4 w3))))) (fun e w => Q (.inr e) w)) else (if (kw_on i2) = 41 then zw E (L - 23) kt_M331 [.ref (w_adr E.2.1 7 0), va_rf (w_p w 14 p1 3)] w (wk1 (fun v6 w5 => wle w w5 → (if ¬ w_i w5 7 0 17 = 0 then zb_X8_value_p156 E L Q x1 v6 w5 else (if ¬ w_i w5 14 p1 8 = 54 then zb_X8_value_p160 E L Q x1 v6 w5 else (if ¬ v6 = (-2147483648) then zb_X8_value_p160 E L Q x1 v6 w5 else zb_X8_value_p156 E L Q x1 v6 w5)))) (fun e w => Q (.inr e) w)) else (if (kw_on i2) = 42 then zw E (L - 23) kt_M331 [.ref (w_adr E.2.1 7 0), va_rf (w_p w 14 p1 3)] w (wk1 (fun v8 w7 => wle w w7 → zw E (L - 23) kt_M331 [.ref (w_adr E.2.1 7 0), va_rf (w_p w7 14 p1 4)] w7 (wk1 (fun v10 w9 => wle w7 w9 → (if ¬ w_i w9 7 0 17 = 0 then zb_X8_value_p235 E L Q x1 v8 v10 w9 else zw E (L - 24) kt_M216 [.int (w_i w9 14 p1 8), .int v8, .int v10] w9 (wk1 (fun v12 w11 => wle w9 w11 → (if v12 = 0 then zb_X8_value_p240 E L Q x1 v8 v10 0 w11 else zb_X8_value_p235 E L Q x1 v8 v10 w11)) (fun e w => Q (.inr e) w)))) (fun e w => Q (.inr e) w))) (fun e w => Q (.inr e) w)) else (if (kw_on i2) = 43 then (if ¬ w_i w 14 p1 8 = 2 then zb_X8_value_p277 E L Q x1 0 w else zb_X8_value_p277 E L Q x1 1 w) else (∃ p13, w_p w 14 p1 16 = some p13 ∧ w_l w E.2.1 15 p13 ∧ Q (.inl (some (.int (w_i w 15 p13 25)))) w)))))) else Q (.inl (some (.int (w_i w 14 p1 19)))) w))
theorem zt_X8_value_p0 {E : zE} {L : Nat} {Q : kx_Rs → wS → Prop} {x1 : Option Nat} {w : wS} (hL : 24 ≤ L) (h : zb_X8_value_p0 E L Q x1 w) : kzE E L kt_M331 0 [(0, .ref (w_adr E.2.1 7 0)), (1, va_rf (x1))] [] w Q := by
  unfold zb_X8_value_p0 at h
  refine kz_aload_nv (M := kt_M331) (x := x1) kX8_value_c0.1 rfl ?_
  obtain ⟨p1, hxp1, hlp1, h⟩ := h
  refine kz_nz0 (x := x1) hxp1 ?_
  refine kz_gfi (M := kt_M331) (c := 14) (o := p1) kX8_value_c0.2.1 wf_X8_375 (.inr (by exact hlp1)) ?_
  refine kz_if_eq (M := kt_M331) kX8_value_c0.2.2.1 (t := 12) rfl h (fun h => ?_) (fun h => ?_)
  · skip
    refine kz_aload_nv (M := kt_M331) (x := x1) kX8_value_c0.2.2.2.2.2.2.1 rfl ?_
    refine kz_nz0 (x := x1) hxp1 ?_
    refine kz_gfp (M := kt_M331) (c := 14) (o := p1) kX8_value_c0.2.2.2.2.2.2.2.1 wf_X8_76 (.inr (by exact hlp1)) ?_
    obtain ⟨i2, ho, h⟩ := h
    refine kz_ord (M := kt_M331) (x := w_p w 14 p1 0) (i := i2) (C := "MeetingHouse$Kind") kX8_value_c1.1 zo_l_X8 zo_m_X8 zo_s_Kind zo_u_X8 (Nat.le_trans (Nat.le_of_ble_eq_true rfl) hL) (Nat.le_of_ble_eq_true rfl) ho ?_
    refine kz_tsw (M := kt_M331) [(37, 60), (41, 123), (42, 197), (43, 264)] [_, _, _, _] 323 dX8_value_p19 (by decide +kernel) h ⟨fun h => ?_, fun h => ?_, fun h => ?_, fun h => ?_, trivial⟩ (fun h => ?_)
    · skip
      refine kz_aload_n (M := kt_M331) kX8_value_c1.2.2.1 rfl ?_
      refine kz_aload_nv (M := kt_M331) (x := x1) kX8_value_c1.2.2.2.1 rfl ?_
      refine kz_nz0 (x := x1) hxp1 ?_
      refine kz_gfp (M := kt_M331) (c := 14) (o := p1) kX8_value_c1.2.2.2.2.1 wf_X8_58 (.inr (by exact hlp1)) ?_
      refine kz_cv1 (M := kt_M331) (c := 7) (o := 0) (As := [va_rf (w_p w 14 p1 3)]) (rest := []) kX8_value_c1.2.2.2.2.2.1 wl_X8_357 wMv_331 rfl (.inl rfl) rfl (Nat.le_trans (Nat.le_of_ble_eq_true rfl) hL) (by simp [lg_sl, w_cat, z_ci, z_cr, z_cl, z_cn, kt_M331]) (Nat.le_of_ble_eq_true rfl) h (fun v4 w3 hle h => ?_) (fun _ _ _ h => kzx_no rfl h)
      have h := h hle
      have hlp1 := w_l_le hlp1 hle
      refine kz_sti_n (M := kt_M331) [(0, .ref (w_adr E.2.1 7 0)), (1, va_rf (x1))] kX8_value_c1.2.2.2.2.2.2.1 (Nat.le_of_ble_eq_true rfl) ⟨⟨rfl, rfl, .inl rfl⟩, ⟨⟨rfl, rfl, .inr (w_cat (x1))⟩, trivial⟩⟩ rfl ?_
      refine kz_aload_n (M := kt_M331) kX8_value_c1.2.2.2.2.2.2.2.1 rfl ?_
      refine kz_aload_n (M := kt_M331) kX8_value_c2.1 rfl ?_
      refine kz_gfi (M := kt_M331) (c := 7) (o := 0) kX8_value_c2.2.1 wf_X8_354 (.inl rfl) ?_
      refine kz_if_ne (M := kt_M331) kX8_value_c2.2.2.1 (t := 113) rfl h (fun h => ?_) (fun h => ?_)
      · skip
        exact kz_weak [(0, .ref (w_adr E.2.1 7 0)), (2, .int v4)] ⟨rfl, ⟨rfl, trivial⟩⟩ rfl (zt_X8_value_p113 hL  h)
      · skip
        refine kz_aload_nv (M := kt_M331) (x := x1) kX8_value_c2.2.2.2.1 rfl ?_
        refine kz_nz0 (x := x1) hxp1 ?_
        refine kz_gfi (M := kt_M331) (c := 14) (o := p1) kX8_value_c2.2.2.2.2.1 wf_X8_332 (.inr (by exact hlp1)) ?_
        refine kz_ic (M := kt_M331) 2 kX8_value_c2.2.2.2.2.2.1 rfl ?_
        refine kz_icmp_ne (M := kt_M331) kX8_value_c2.2.2.2.2.2.2.1 (t := 96) rfl h (fun h => ?_) (fun h => ?_)
        · skip
          exact kz_weak [(0, .ref (w_adr E.2.1 7 0)), (1, va_rf (x1)), (2, .int v4)] ⟨rfl, ⟨rfl, ⟨rfl, trivial⟩⟩⟩ rfl (zt_X8_value_p96 hL  h)
        · skip
          refine kz_iload_n (M := kt_M331) kX8_value_c2.2.2.2.2.2.2.2.1 rfl ?_
          refine kz_if_lt (M := kt_M331) kX8_value_c3.1 (t := 113) rfl h (fun h => ?_) (fun h => ?_)
          · skip
            exact kz_weak [(0, .ref (w_adr E.2.1 7 0)), (2, .int v4)] ⟨rfl, ⟨rfl, trivial⟩⟩ rfl (zt_X8_value_p113 hL  h)
          · skip
            refine kz_iload_n (M := kt_M331) kX8_value_c3.2.1 rfl ?_
            refine kz_si (M := kt_M331) 255 kX8_value_c3.2.2.1 rfl ?_
            refine kz_icmp_gt (M := kt_M331) kX8_value_c3.2.2.2.1 (t := 113) rfl h (fun h => ?_) (fun h => ?_)
            · skip
              exact kz_weak [(0, .ref (w_adr E.2.1 7 0)), (2, .int v4)] ⟨rfl, ⟨rfl, trivial⟩⟩ rfl (zt_X8_value_p113 hL  h)
            · skip
              exact kz_weak [(0, .ref (w_adr E.2.1 7 0)), (1, va_rf (x1)), (2, .int v4)] ⟨rfl, ⟨rfl, ⟨rfl, trivial⟩⟩⟩ rfl (zt_X8_value_p96 hL  h)
    · skip
      refine kz_aload_n (M := kt_M331) kX8_value_c5.2.2.2.1 rfl ?_
      refine kz_aload_nv (M := kt_M331) (x := x1) kX8_value_c5.2.2.2.2.1 rfl ?_
      refine kz_nz0 (x := x1) hxp1 ?_
      refine kz_gfp (M := kt_M331) (c := 14) (o := p1) kX8_value_c5.2.2.2.2.2.1 wf_X8_58 (.inr (by exact hlp1)) ?_
      refine kz_cv1 (M := kt_M331) (c := 7) (o := 0) (As := [va_rf (w_p w 14 p1 3)]) (rest := []) kX8_value_c5.2.2.2.2.2.2.1 wl_X8_357 wMv_331 rfl (.inl rfl) rfl (Nat.le_trans (Nat.le_of_ble_eq_true rfl) hL) (by simp [lg_sl, w_cat, z_ci, z_cr, z_cl, z_cn, kt_M331]) (Nat.le_of_ble_eq_true rfl) h (fun v6 w5 hle h => ?_) (fun _ _ _ h => kzx_no rfl h)
      have h := h hle
      have hlp1 := w_l_le hlp1 hle
      refine kz_sti_n (M := kt_M331) [(0, .ref (w_adr E.2.1 7 0)), (1, va_rf (x1))] kX8_value_c5.2.2.2.2.2.2.2.1 (Nat.le_of_ble_eq_true rfl) ⟨⟨rfl, rfl, .inl rfl⟩, ⟨⟨rfl, rfl, .inr (w_cat (x1))⟩, trivial⟩⟩ rfl ?_
      refine kz_aload_n (M := kt_M331) kX8_value_c6.1 rfl ?_
      refine kz_aload_n (M := kt_M331) kX8_value_c6.2.1 rfl ?_
      refine kz_gfi (M := kt_M331) (c := 7) (o := 0) kX8_value_c6.2.2.1 wf_X8_354 (.inl rfl) ?_
      refine kz_if_ne (M := kt_M331) kX8_value_c6.2.2.2.1 (t := 156) rfl h (fun h => ?_) (fun h => ?_)
      · skip
        exact kz_weak [(0, .ref (w_adr E.2.1 7 0)), (1, va_rf (x1)), (2, .int v6)] ⟨rfl, ⟨rfl, ⟨rfl, trivial⟩⟩⟩ rfl (zt_X8_value_p156 hL  h)
      · skip
        refine kz_aload_nv (M := kt_M331) (x := x1) kX8_value_c6.2.2.2.2.1 rfl ?_
        refine kz_nz0 (x := x1) hxp1 ?_
        refine kz_gfi (M := kt_M331) (c := 14) (o := p1) kX8_value_c6.2.2.2.2.2.1 wf_X8_332 (.inr (by exact hlp1)) ?_
        refine kz_bi (M := kt_M331) 54 kX8_value_c6.2.2.2.2.2.2.1 rfl ?_
        refine kz_icmp_ne (M := kt_M331) kX8_value_c6.2.2.2.2.2.2.2.1 (t := 160) rfl h (fun h => ?_) (fun h => ?_)
        · skip
          exact kz_weak [(0, .ref (w_adr E.2.1 7 0)), (1, va_rf (x1)), (2, .int v6)] ⟨rfl, ⟨rfl, ⟨rfl, trivial⟩⟩⟩ rfl (zt_X8_value_p160 hL  h)
        · skip
          refine kz_iload_n (M := kt_M331) kX8_value_c7.1 rfl ?_
          refine kz_ldcw (M := kt_M331) (x := (-2147483648)) kX8_value_c7.2.1 (zc_X8_380) ?_
          refine kz_icmp_ne (M := kt_M331) kX8_value_c7.2.2.1 (t := 160) rfl h (fun h => ?_) (fun h => ?_)
          · skip
            exact kz_weak [(0, .ref (w_adr E.2.1 7 0)), (1, va_rf (x1)), (2, .int v6)] ⟨rfl, ⟨rfl, ⟨rfl, trivial⟩⟩⟩ rfl (zt_X8_value_p160 hL  h)
          · skip
            exact kz_weak [(0, .ref (w_adr E.2.1 7 0)), (1, va_rf (x1)), (2, .int v6)] ⟨rfl, ⟨rfl, ⟨rfl, trivial⟩⟩⟩ rfl (zt_X8_value_p156 hL  h)
    · skip
      refine kz_aload_n (M := kt_M331) kX8_value_c10.2.2.1 rfl ?_
      refine kz_aload_nv (M := kt_M331) (x := x1) kX8_value_c10.2.2.2.1 rfl ?_
      refine kz_nz0 (x := x1) hxp1 ?_
      refine kz_gfp (M := kt_M331) (c := 14) (o := p1) kX8_value_c10.2.2.2.2.1 wf_X8_58 (.inr (by exact hlp1)) ?_
      refine kz_cv1 (M := kt_M331) (c := 7) (o := 0) (As := [va_rf (w_p w 14 p1 3)]) (rest := []) kX8_value_c10.2.2.2.2.2.1 wl_X8_357 wMv_331 rfl (.inl rfl) rfl (Nat.le_trans (Nat.le_of_ble_eq_true rfl) hL) (by simp [lg_sl, w_cat, z_ci, z_cr, z_cl, z_cn, kt_M331]) (Nat.le_of_ble_eq_true rfl) h (fun v8 w7 hle h => ?_) (fun _ _ _ h => kzx_no rfl h)
      have h := h hle
      have hlp1 := w_l_le hlp1 hle
      refine kz_sti_n (M := kt_M331) [(0, .ref (w_adr E.2.1 7 0)), (1, va_rf (x1))] kX8_value_c10.2.2.2.2.2.2.1 (Nat.le_of_ble_eq_true rfl) ⟨⟨rfl, rfl, .inl rfl⟩, ⟨⟨rfl, rfl, .inr (w_cat (x1))⟩, trivial⟩⟩ rfl ?_
      refine kz_aload_n (M := kt_M331) kX8_value_c10.2.2.2.2.2.2.2.1 rfl ?_
      refine kz_aload_nv (M := kt_M331) (x := x1) kX8_value_c11.1 rfl ?_
      refine kz_nz0 (x := x1) hxp1 ?_
      refine kz_gfp (M := kt_M331) (c := 14) (o := p1) kX8_value_c11.2.1 wf_X8_70 (.inr (by exact hlp1)) ?_
      refine kz_cv1 (M := kt_M331) (c := 7) (o := 0) (As := [va_rf (w_p w7 14 p1 4)]) (rest := []) kX8_value_c11.2.2.1 wl_X8_357 wMv_331 rfl (.inl rfl) rfl (Nat.le_trans (Nat.le_of_ble_eq_true rfl) hL) (by simp [lg_sl, w_cat, z_ci, z_cr, z_cl, z_cn, kt_M331]) (Nat.le_of_ble_eq_true rfl) h (fun v10 w9 hle h => ?_) (fun _ _ _ h => kzx_no rfl h)
      have h := h hle
      have hlp1 := w_l_le hlp1 hle
      refine kz_sti_n (M := kt_M331) [(0, .ref (w_adr E.2.1 7 0)), (1, va_rf (x1)), (2, .int v8)] kX8_value_c11.2.2.2.1 (Nat.le_of_ble_eq_true rfl) ⟨⟨rfl, rfl, .inl rfl⟩, ⟨⟨rfl, rfl, .inl rfl⟩, ⟨⟨rfl, rfl, .inr rfl⟩, trivial⟩⟩⟩ rfl ?_
      refine kz_aload_n (M := kt_M331) kX8_value_c11.2.2.2.2.1 rfl ?_
      refine kz_aload_n (M := kt_M331) kX8_value_c11.2.2.2.2.2.1 rfl ?_
      refine kz_gfi (M := kt_M331) (c := 7) (o := 0) kX8_value_c11.2.2.2.2.2.2.1 wf_X8_354 (.inl rfl) ?_
      refine kz_if_ne (M := kt_M331) kX8_value_c11.2.2.2.2.2.2.2.1 (t := 235) rfl h (fun h => ?_) (fun h => ?_)
      · skip
        exact kz_weak [(0, .ref (w_adr E.2.1 7 0)), (1, va_rf (x1)), (2, .int v8), (3, .int v10)] ⟨rfl, ⟨rfl, ⟨rfl, ⟨rfl, trivial⟩⟩⟩⟩ rfl (zt_X8_value_p235 hL  h)
      · skip
        refine kz_aload_nv (M := kt_M331) (x := x1) kX8_value_c12.1 rfl ?_
        refine kz_nz0 (x := x1) hxp1 ?_
        refine kz_gfi (M := kt_M331) (c := 14) (o := p1) kX8_value_c12.2.1 wf_X8_332 (.inr (by exact hlp1)) ?_
        refine kz_iload_n (M := kt_M331) kX8_value_c12.2.2.1 rfl ?_
        refine kz_iload_n (M := kt_M331) kX8_value_c12.2.2.2.1 rfl ?_
        refine kz_cs1 (M := kt_M331) (As := [.int (w_i w9 14 p1 8), .int v8, .int v10]) (rest := [.ref (w_adr E.2.1 7 0)]) kX8_value_c12.2.2.2.2.1 wl_X8_381 wMs_216 rfl (Nat.le_trans (Nat.le_of_ble_eq_true rfl) hL) (Nat.le_of_ble_eq_true rfl) (Nat.le_of_ble_eq_true rfl) h (fun v12 w11 hle h => ?_) (fun _ _ _ h => kzx_no rfl h)
        have h := h hle
        have hlp1 := w_l_le hlp1 hle
        refine kz_if_eq (M := kt_M331) kX8_value_c12.2.2.2.2.2.1 (t := 239) rfl h (fun h => ?_) (fun h => ?_)
        · skip
          refine kz_ic (M := kt_M331) 0 kX8_value_c13.1 rfl ?_
          exact kz_weak [(0, .ref (w_adr E.2.1 7 0)), (1, va_rf (x1)), (2, .int v8), (3, .int v10)] ⟨rfl, ⟨rfl, ⟨rfl, ⟨rfl, trivial⟩⟩⟩⟩ rfl (zt_X8_value_p240 hL  h)
        · skip
          exact kz_weak [(0, .ref (w_adr E.2.1 7 0)), (1, va_rf (x1)), (2, .int v8), (3, .int v10)] ⟨rfl, ⟨rfl, ⟨rfl, ⟨rfl, trivial⟩⟩⟩⟩ rfl (zt_X8_value_p235 hL  h)
    · skip
      refine kz_aload_nv (M := kt_M331) (x := x1) kX8_value_c14.2.2.2.2.2.1 rfl ?_
      refine kz_nz0 (x := x1) hxp1 ?_
      refine kz_gfi (M := kt_M331) (c := 14) (o := p1) kX8_value_c14.2.2.2.2.2.2.1 wf_X8_332 (.inr (by exact hlp1)) ?_
      refine kz_ic (M := kt_M331) 2 kX8_value_c14.2.2.2.2.2.2.2.1 rfl ?_
      refine kz_icmp_ne (M := kt_M331) kX8_value_c15.1 (t := 276) rfl h (fun h => ?_) (fun h => ?_)
      · skip
        refine kz_ic (M := kt_M331) 0 kX8_value_c15.2.2.2.1 rfl ?_
        exact kz_weak [(0, .ref (w_adr E.2.1 7 0)), (1, va_rf (x1))] ⟨rfl, ⟨rfl, trivial⟩⟩ rfl (zt_X8_value_p277 hL  h)
      · skip
        refine kz_ic (M := kt_M331) 1 kX8_value_c15.2.1 rfl ?_
        refine kz_goto (M := kt_M331) kX8_value_c15.2.2.1 (t := 277) rfl ?_
        exact kz_weak [(0, .ref (w_adr E.2.1 7 0)), (1, va_rf (x1))] ⟨rfl, ⟨rfl, trivial⟩⟩ rfl (zt_X8_value_p277 hL  h)
    · skip
      refine kz_aload_nv (M := kt_M331) (x := x1) kX8_value_c19.1 rfl ?_
      refine kz_nz0 (x := x1) hxp1 ?_
      refine kz_gfp (M := kt_M331) (c := 14) (o := p1) kX8_value_c19.2.1 wf_X8_131 (.inr (by exact hlp1)) ?_
      obtain ⟨p13, hxp13, hlp13, h⟩ := h
      refine kz_nz0 (x := w_p w 14 p1 16) hxp13 ?_
      refine kz_gfi (M := kt_M331) (c := 15) (o := p13) kX8_value_c19.2.2.1 wf_X8_289 (.inr (by exact hlp13)) ?_
      exact kz_iret (M := kt_M331) kX8_value_c19.2.2.2.1 rfl rfl h
  · skip
    refine kz_aload_nv (M := kt_M331) (x := x1) kX8_value_c0.2.2.2.1 rfl ?_
    refine kz_nz0 (x := x1) hxp1 ?_
    refine kz_gfi (M := kt_M331) (c := 14) (o := p1) kX8_value_c0.2.2.2.2.1 wf_X8_378 (.inr (by exact hlp1)) ?_
    exact kz_iret (M := kt_M331) kX8_value_c0.2.2.2.2.2.1 rfl rfl h
def zL_X8_turns_p2 (E : zE) (L : Nat) (Q : kx_Rs → wS → Prop) (x1 : Int32) (w : wS) : Prop := kzE E L kt_M329 2 [(0, .ref (w_adr E.2.1 7 0)), (1, .int x1)] [] w Q
def zb_X8_turns_p65 (E : zE) (L : Nat) (Q : kx_Rs → wS → Prop) (x1 : Int32) (w : wS) : Prop := zL_X8_turns_p2 E L Q (x1 + 1) w
theorem zt_X8_turns_p65 {E : zE} {L : Nat} {Q : kx_Rs → wS → Prop} {x1 : Int32} {w : wS} (hL : 19 ≤ L) (h : zb_X8_turns_p65 E L Q x1 w) : kzE E L kt_M329 65 [(0, .ref (w_adr E.2.1 7 0)), (1, .int x1)] [] w Q := by
  unfold zb_X8_turns_p65 at h
  refine kz_inc (M := kt_M329) [(0, .ref (w_adr E.2.1 7 0))] kX8_turns_c4.2.2.2.2.2.1 rfl (Nat.le_of_ble_eq_true rfl) ⟨⟨rfl, rfl, .inr rfl⟩, trivial⟩ rfl ?_
  refine kz_goto (M := kt_M329) kX8_turns_c4.2.2.2.2.2.2.1 (t := 2) rfl ?_
  exact kz_weak [(0, .ref (w_adr E.2.1 7 0)), (1, .int (x1 + 1))] ⟨rfl, ⟨rfl, trivial⟩⟩ rfl h
def zb_X8_turns_p2 (E : zE) (L : Nat) (Q : kx_Rs → wS → Prop) (x1 : Int32) (w : wS) : Prop := (if w_i w 7 0 16 ≤ x1 then Q (.inl (some (.int 0))) w else (kx_inb x1 (w_n w 7 0 15) = true ∧ (∃ p1, w_r w 7 0 15 (x1).toNatClampNeg = some p1 ∧ w_l w E.2.1 15 p1 ∧ (if ¬ w_i w 15 p1 26 = 0 then (if w_i w 15 p1 25 = (((w_i w 15 p1 22) + (w_i w 15 p1 23)) - 1) then zb_X8_turns_p65 E L Q x1 (ws_i w 15 p1 25 (w_i w 15 p1 22)) else Q (.inl (some (.int 1))) (ws_i w 15 p1 25 ((w_i w 15 p1 25) + 1))) else zb_X8_turns_p65 E L Q x1 w))))
theorem zt_X8_turns_p2 {E : zE} {L : Nat} {Q : kx_Rs → wS → Prop} {x1 : Int32} {w : wS} (hL : 19 ≤ L) (h : zb_X8_turns_p2 E L Q x1 w) : kzE E L kt_M329 2 [(0, .ref (w_adr E.2.1 7 0)), (1, .int x1)] [] w Q := by
  unfold zb_X8_turns_p2 at h
  refine kz_iload_n (M := kt_M329) kX8_turns_c0.2.2.1 rfl ?_
  refine kz_aload_n (M := kt_M329) kX8_turns_c0.2.2.2.1 rfl ?_
  refine kz_gfi (M := kt_M329) (c := 7) (o := 0) kX8_turns_c0.2.2.2.2.1 wf_X8_351 (.inl rfl) ?_
  refine kz_icmp_ge (M := kt_M329) kX8_turns_c0.2.2.2.2.2.1 (t := 71) rfl h (fun h => ?_) (fun h => ?_)
  · skip
    refine kz_ic (M := kt_M329) 0 kX8_turns_c4.2.2.2.2.2.2.2.1 rfl ?_
    exact kz_iretz (M := kt_M329) kX8_turns_c5.1 rfl (by decide) h
  · skip
    refine kz_aload_n (M := kt_M329) kX8_turns_c0.2.2.2.2.2.2.1 rfl ?_
    refine kz_gfc (M := kt_M329) (x := 2807) (c := 7) (o := 0) kX8_turns_c0.2.2.2.2.2.2.2.1 wf_X8_30 (.inl rfl) ?_
    refine kz_iload_n (M := kt_M329) kX8_turns_c1.1 rfl ?_
    refine kz_aald (M := kt_M329) (τ := 2) (c := 7) (o := 0) (k := 15) (a := (E.2.1 2807)) kX8_turns_c1.2.1 ow_7_0_15 oa_7_0_15 ot_6 rfl h (fun h => ?_)
    refine kz_stv_n (M := kt_M329) (x := w_r w 7 0 15 (x1).toNatClampNeg) [(0, .ref (w_adr E.2.1 7 0)), (1, .int x1)] kX8_turns_c1.2.2.1 (Nat.le_of_ble_eq_true rfl) ⟨⟨rfl, rfl, .inl rfl⟩, ⟨⟨rfl, rfl, .inr rfl⟩, trivial⟩⟩ rfl ?_
    refine kz_aload_nv (M := kt_M329) (x := w_r w 7 0 15 (x1).toNatClampNeg) kX8_turns_c1.2.2.2.1 rfl ?_
    obtain ⟨p1, hxp1, hlp1, h⟩ := h
    refine kz_nz0 (x := w_r w 7 0 15 (x1).toNatClampNeg) hxp1 ?_
    refine kz_gfi (M := kt_M329) (c := 15) (o := p1) kX8_turns_c1.2.2.2.2.1 wf_X8_272 (.inr (by exact hlp1)) ?_
    refine kz_if_ne (M := kt_M329) kX8_turns_c1.2.2.2.2.2.1 (t := 27) rfl h (fun h => ?_) (fun h => ?_)
    · skip
      refine kz_aload_nv (M := kt_M329) (x := w_r w 7 0 15 (x1).toNatClampNeg) kX8_turns_c1.2.2.2.2.2.2.2.1 rfl ?_
      refine kz_nz0 (x := w_r w 7 0 15 (x1).toNatClampNeg) hxp1 ?_
      refine kz_gfi (M := kt_M329) (c := 15) (o := p1) kX8_turns_c2.1 wf_X8_289 (.inr (by exact hlp1)) ?_
      refine kz_aload_nv (M := kt_M329) (x := w_r w 7 0 15 (x1).toNatClampNeg) kX8_turns_c2.2.1 rfl ?_
      refine kz_nz0 (x := w_r w 7 0 15 (x1).toNatClampNeg) hxp1 ?_
      refine kz_gfi (M := kt_M329) (c := 15) (o := p1) kX8_turns_c2.2.2.1 wf_X8_287 (.inr (by exact hlp1)) ?_
      refine kz_aload_nv (M := kt_M329) (x := w_r w 7 0 15 (x1).toNatClampNeg) kX8_turns_c2.2.2.2.1 rfl ?_
      refine kz_nz0 (x := w_r w 7 0 15 (x1).toNatClampNeg) hxp1 ?_
      refine kz_gfi (M := kt_M329) (c := 15) (o := p1) kX8_turns_c2.2.2.2.2.1 wf_X8_278 (.inr (by exact hlp1)) ?_
      refine kz_iadd (M := kt_M329) kX8_turns_c2.2.2.2.2.2.1 ?_
      refine kz_ic (M := kt_M329) 1 kX8_turns_c2.2.2.2.2.2.2.1 rfl ?_
      refine kz_isub (M := kt_M329) kX8_turns_c2.2.2.2.2.2.2.2.1 ?_
      refine kz_icmp_eq (M := kt_M329) kX8_turns_c3.1 (t := 57) rfl h (fun h => ?_) (fun h => ?_)
      · skip
        refine kz_aload_nv (M := kt_M329) (x := w_r w 7 0 15 (x1).toNatClampNeg) kX8_turns_c4.2.1 rfl ?_
        refine kz_aload_nv (M := kt_M329) (x := w_r w 7 0 15 (x1).toNatClampNeg) kX8_turns_c4.2.2.1 rfl ?_
        refine kz_nz0 (x := w_r w 7 0 15 (x1).toNatClampNeg) hxp1 ?_
        refine kz_gfi (M := kt_M329) (c := 15) (o := p1) kX8_turns_c4.2.2.2.1 wf_X8_287 (.inr (by exact hlp1)) ?_
        refine kz_nz1 (x := w_r w 7 0 15 (x1).toNatClampNeg) hxp1 ?_
        refine kz_pfi (M := kt_M329) (c := 15) (o := p1) kX8_turns_c4.2.2.2.2.1 wq_X8_289 (.inr (by exact hlp1)) ?_
        exact kz_weak [(0, .ref (w_adr E.2.1 7 0)), (1, .int x1)] ⟨rfl, ⟨rfl, trivial⟩⟩ rfl (zt_X8_turns_p65 hL  h)
      · skip
        refine kz_aload_nv (M := kt_M329) (x := w_r w 7 0 15 (x1).toNatClampNeg) kX8_turns_c3.2.1 rfl ?_
        refine kz_dup (M := kt_M329) kX8_turns_c3.2.2.1 (w_cat _) ?_
        refine kz_nz0 (x := w_r w 7 0 15 (x1).toNatClampNeg) hxp1 ?_
        refine kz_gfi (M := kt_M329) (c := 15) (o := p1) kX8_turns_c3.2.2.2.1 wf_X8_289 (.inr (by exact hlp1)) ?_
        refine kz_ic (M := kt_M329) 1 kX8_turns_c3.2.2.2.2.1 rfl ?_
        refine kz_iadd (M := kt_M329) kX8_turns_c3.2.2.2.2.2.1 ?_
        refine kz_nz1 (x := w_r w 7 0 15 (x1).toNatClampNeg) hxp1 ?_
        refine kz_pfi (M := kt_M329) (c := 15) (o := p1) kX8_turns_c3.2.2.2.2.2.2.1 wq_X8_289 (.inr (by exact hlp1)) ?_
        refine kz_ic (M := kt_M329) 1 kX8_turns_c3.2.2.2.2.2.2.2.1 rfl ?_
        exact kz_iretz (M := kt_M329) kX8_turns_c4.1 rfl (by decide) h
    · skip
      refine kz_goto (M := kt_M329) kX8_turns_c1.2.2.2.2.2.2.1 (t := 65) rfl ?_
      exact kz_weak [(0, .ref (w_adr E.2.1 7 0)), (1, .int x1)] ⟨rfl, ⟨rfl, trivial⟩⟩ rfl (zt_X8_turns_p65 hL  h)
def zb_X8_turns_p0 (E : zE) (L : Nat) (Q : kx_Rs → wS → Prop) (w : wS) : Prop := zL_X8_turns_p2 E L Q 0 w
theorem zt_X8_turns_p0 {E : zE} {L : Nat} {Q : kx_Rs → wS → Prop} {w : wS} (hL : 19 ≤ L) (h : zb_X8_turns_p0 E L Q  w) : kzE E L kt_M329 0 [(0, .ref (w_adr E.2.1 7 0))] [] w Q := by
  unfold zb_X8_turns_p0 at h
  refine kz_ic (M := kt_M329) 0 kX8_turns_c0.1 rfl ?_
  refine kz_sti_n (M := kt_M329) [(0, .ref (w_adr E.2.1 7 0))] kX8_turns_c0.2.1 (Nat.le_of_ble_eq_true rfl) ⟨⟨rfl, rfl, .inr rfl⟩, trivial⟩ rfl ?_
  exact kz_weak [(0, .ref (w_adr E.2.1 7 0)), (1, .int 0)] ⟨rfl, ⟨rfl, trivial⟩⟩ rfl h
def zL_X8_outer_p15 (E : zE) (L : Nat) (Q : kx_Rs → wS → Prop) (x1 : Option Nat) (x2 : Int32) (x3 : Int32) (w : wS) : Prop := kzE E L kt_M318 15 [(0, .ref (w_adr E.2.1 7 0)), (1, va_rf (x1)), (2, .int x2), (3, .int x3)] [] w Q
def zL_X8_outer_p5 (E : zE) (L : Nat) (Q : kx_Rs → wS → Prop) (x1 : Option Nat) (x2 : Int32) (w : wS) : Prop := kzE E L kt_M318 5 [(0, .ref (w_adr E.2.1 7 0)), (1, va_rf (x1)), (2, .int x2)] [] w Q
def zb_X8_outer_p44 (E : zE) (L : Nat) (Q : kx_Rs → wS → Prop) (x1 : Option Nat) (x2 : Int32) (x3 : Int32) (w : wS) : Prop := zL_X8_outer_p15 E L Q x1 x2 (x3 + x3) w
theorem zt_X8_outer_p44 {E : zE} {L : Nat} {Q : kx_Rs → wS → Prop} {x1 : Option Nat} {x2 : Int32} {x3 : Int32} {w : wS} (hL : 27 ≤ L) (h : zb_X8_outer_p44 E L Q x1 x2 x3 w) : kzE E L kt_M318 44 [(0, .ref (w_adr E.2.1 7 0)), (1, va_rf (x1)), (2, .int x2), (3, .int x3)] [] w Q := by
  unfold zb_X8_outer_p44 at h
  refine kz_iload_n (M := kt_M318) kX8_outer_c3.2.2.2.1 rfl ?_
  refine kz_iload_n (M := kt_M318) kX8_outer_c3.2.2.2.2.1 rfl ?_
  refine kz_iadd (M := kt_M318) kX8_outer_c3.2.2.2.2.2.1 ?_
  refine kz_sti_n (M := kt_M318) [(0, .ref (w_adr E.2.1 7 0)), (1, va_rf (x1)), (2, .int x2)] kX8_outer_c3.2.2.2.2.2.2.1 (Nat.le_of_ble_eq_true rfl) ⟨⟨rfl, rfl, .inl rfl⟩, ⟨⟨rfl, rfl, .inl rfl⟩, ⟨⟨rfl, rfl, .inr rfl⟩, trivial⟩⟩⟩ rfl ?_
  refine kz_goto (M := kt_M318) kX8_outer_c3.2.2.2.2.2.2.2.1 (t := 15) rfl ?_
  exact kz_weak [(0, .ref (w_adr E.2.1 7 0)), (1, va_rf (x1)), (2, .int x2), (3, .int (x3 + x3))] ⟨rfl, ⟨rfl, ⟨rfl, ⟨rfl, trivial⟩⟩⟩⟩ rfl h
def zb_X8_outer_p15 (E : zE) (L : Nat) (Q : kx_Rs → wS → Prop) (x1 : Option Nat) (x2 : Int32) (x3 : Int32) (w : wS) : Prop := (if 16 ≤ x3 then zL_X8_outer_p5 E L Q x1 (x2 + 1) w else (kx_inb x2 (w_n w 7 0 3) = true ∧ (if ((w_a w 7 0 3 (x2).toNatClampNeg) &&& x3) = 0 then zb_X8_outer_p44 E L Q x1 x2 x3 w else (kx_inb x2 (w_n w 7 0 2) = true ∧ zw E (L - 27) kt_M319 [.ref (w_adr E.2.1 7 0), va_rf (w_r w 7 0 2 (x2).toNatClampNeg), .null, .int x3] w (wk0 (fun w1 => wle w w1 → zb_X8_outer_p44 E L Q x1 x2 x3 w1) (fun e w => Q (.inr e) w))))))
theorem zt_X8_outer_p15 {E : zE} {L : Nat} {Q : kx_Rs → wS → Prop} {x1 : Option Nat} {x2 : Int32} {x3 : Int32} {w : wS} (hL : 27 ≤ L) (h : zb_X8_outer_p15 E L Q x1 x2 x3 w) : kzE E L kt_M318 15 [(0, .ref (w_adr E.2.1 7 0)), (1, va_rf (x1)), (2, .int x2), (3, .int x3)] [] w Q := by
  unfold zb_X8_outer_p15 at h
  refine kz_iload_n (M := kt_M318) kX8_outer_c1.2.1 rfl ?_
  refine kz_bi (M := kt_M318) 16 kX8_outer_c1.2.2.1 rfl ?_
  refine kz_icmp_ge (M := kt_M318) kX8_outer_c1.2.2.2.1 (t := 51) rfl h (fun h => ?_) (fun h => ?_)
  · skip
    refine kz_inc (M := kt_M318) [(0, .ref (w_adr E.2.1 7 0)), (1, va_rf (x1))] kX8_outer_c4.1 rfl (Nat.le_of_ble_eq_true rfl) ⟨⟨rfl, rfl, .inl rfl⟩, ⟨⟨rfl, rfl, .inr (w_cat (x1))⟩, trivial⟩⟩ rfl ?_
    refine kz_goto (M := kt_M318) kX8_outer_c4.2.1 (t := 5) rfl ?_
    exact kz_weak [(0, .ref (w_adr E.2.1 7 0)), (1, va_rf (x1)), (2, .int (x2 + 1))] ⟨rfl, ⟨rfl, ⟨rfl, trivial⟩⟩⟩ rfl h
  · skip
    refine kz_aload_n (M := kt_M318) kX8_outer_c1.2.2.2.2.1 rfl ?_
    refine kz_gfa (M := kt_M318) (c := 7) (o := 0) kX8_outer_c1.2.2.2.2.2.1 wf_X8_17 (.inl rfl) ?_
    refine kz_iload_n (M := kt_M318) kX8_outer_c1.2.2.2.2.2.2.1 rfl ?_
    refine kz_iald (M := kt_M318) (c := 7) (o := 0) (k := 3) (a := (w_d w 7 0 3)) kX8_outer_c1.2.2.2.2.2.2.2.1 ow_7_0_3 oa_7_0_3 ot_0 h (fun h => ?_)
    refine kz_iload_n (M := kt_M318) kX8_outer_c2.1 rfl ?_
    refine kz_iand (M := kt_M318) kX8_outer_c2.2.1 ?_
    refine kz_if_eq (M := kt_M318) kX8_outer_c2.2.2.1 (t := 44) rfl h (fun h => ?_) (fun h => ?_)
    · skip
      exact kz_weak [(0, .ref (w_adr E.2.1 7 0)), (1, va_rf (x1)), (2, .int x2), (3, .int x3)] ⟨rfl, ⟨rfl, ⟨rfl, ⟨rfl, trivial⟩⟩⟩⟩ rfl (zt_X8_outer_p44 hL  h)
    · skip
      refine kz_aload_n (M := kt_M318) kX8_outer_c2.2.2.2.1 rfl ?_
      refine kz_aload_n (M := kt_M318) kX8_outer_c2.2.2.2.2.1 rfl ?_
      refine kz_gfa (M := kt_M318) (c := 7) (o := 0) kX8_outer_c2.2.2.2.2.2.1 wf_X8_11 (.inl rfl) ?_
      refine kz_iload_n (M := kt_M318) kX8_outer_c2.2.2.2.2.2.2.1 rfl ?_
      refine kz_aald (M := kt_M318) (τ := 2) (c := 7) (o := 0) (k := 2) (a := (w_d w 7 0 2)) kX8_outer_c2.2.2.2.2.2.2.2.1 ow_7_0_2 oa_7_0_2 ot_6 rfl h (fun h => ?_)
      refine kz_null (M := kt_M318) kX8_outer_c3.1 ?_
      refine kz_iload_n (M := kt_M318) kX8_outer_c3.2.1 rfl ?_
      refine kz_cv0 (M := kt_M318) (c := 7) (o := 0) (As := [va_rf (w_r w 7 0 2 (x2).toNatClampNeg), .null, .int x3]) (rest := []) kX8_outer_c3.2.2.1 wl_X8_244 wMv_319 rfl (.inl rfl) rfl (Nat.le_trans (Nat.le_of_ble_eq_true rfl) hL) (by simp [lg_sl, w_cat, z_ci, z_cr, z_cl, z_cn, kt_M319]) (Nat.le_of_ble_eq_true rfl) h (fun w1 hle h => ?_) (fun _ _ _ h => kzx_no rfl h)
      have h := h hle
      exact kz_weak [(0, .ref (w_adr E.2.1 7 0)), (1, va_rf (x1)), (2, .int x2), (3, .int x3)] ⟨rfl, ⟨rfl, ⟨rfl, ⟨rfl, trivial⟩⟩⟩⟩ rfl (zt_X8_outer_p44 hL  h)
def zb_X8_outer_p5 (E : zE) (L : Nat) (Q : kx_Rs → wS → Prop) (x1 : Option Nat) (x2 : Int32) (w : wS) : Prop := (∃ p1, x1 = some p1 ∧ w_l w E.2.1 15 p1 ∧ (if w_i w 15 p1 28 ≤ x2 then Q (.inl none) w else zL_X8_outer_p15 E L Q x1 x2 1 w))
theorem zt_X8_outer_p5 {E : zE} {L : Nat} {Q : kx_Rs → wS → Prop} {x1 : Option Nat} {x2 : Int32} {w : wS} (hL : 27 ≤ L) (h : zb_X8_outer_p5 E L Q x1 x2 w) : kzE E L kt_M318 5 [(0, .ref (w_adr E.2.1 7 0)), (1, va_rf (x1)), (2, .int x2)] [] w Q := by
  unfold zb_X8_outer_p5 at h
  refine kz_iload_n (M := kt_M318) kX8_outer_c0.2.2.2.1 rfl ?_
  refine kz_aload_nv (M := kt_M318) (x := x1) kX8_outer_c0.2.2.2.2.1 rfl ?_
  obtain ⟨p1, hxp1, hlp1, h⟩ := h
  refine kz_nz0 (x := x1) hxp1 ?_
  refine kz_gfi (M := kt_M318) (c := 15) (o := p1) kX8_outer_c0.2.2.2.2.2.1 wf_X8_155 (.inr (by exact hlp1)) ?_
  refine kz_icmp_ge (M := kt_M318) kX8_outer_c0.2.2.2.2.2.2.1 (t := 57) rfl h (fun h => ?_) (fun h => ?_)
  · skip
    exact kz_ret (M := kt_M318) kX8_outer_c4.2.2.1 rfl h
  · skip
    refine kz_ic (M := kt_M318) 1 kX8_outer_c0.2.2.2.2.2.2.2.1 rfl ?_
    refine kz_sti_n (M := kt_M318) [(0, .ref (w_adr E.2.1 7 0)), (1, va_rf (x1)), (2, .int x2)] kX8_outer_c1.1 (Nat.le_of_ble_eq_true rfl) ⟨⟨rfl, rfl, .inl rfl⟩, ⟨⟨rfl, rfl, .inl rfl⟩, ⟨⟨rfl, rfl, .inr rfl⟩, trivial⟩⟩⟩ rfl ?_
    exact kz_weak [(0, .ref (w_adr E.2.1 7 0)), (1, va_rf (x1)), (2, .int x2), (3, .int 1)] ⟨rfl, ⟨rfl, ⟨rfl, ⟨rfl, trivial⟩⟩⟩⟩ rfl h
def zb_X8_outer_p0 (E : zE) (L : Nat) (Q : kx_Rs → wS → Prop) (x1 : Option Nat) (w : wS) : Prop := (∃ p1, x1 = some p1 ∧ w_l w E.2.1 15 p1 ∧ zL_X8_outer_p5 E L Q x1 (w_i w 15 p1 27) w)
theorem zt_X8_outer_p0 {E : zE} {L : Nat} {Q : kx_Rs → wS → Prop} {x1 : Option Nat} {w : wS} (hL : 27 ≤ L) (h : zb_X8_outer_p0 E L Q x1 w) : kzE E L kt_M318 0 [(0, .ref (w_adr E.2.1 7 0)), (1, va_rf (x1))] [] w Q := by
  unfold zb_X8_outer_p0 at h
  refine kz_aload_nv (M := kt_M318) (x := x1) kX8_outer_c0.1 rfl ?_
  obtain ⟨p1, hxp1, hlp1, h⟩ := h
  refine kz_nz0 (x := x1) hxp1 ?_
  refine kz_gfi (M := kt_M318) (c := 15) (o := p1) kX8_outer_c0.2.1 wf_X8_138 (.inr (by exact hlp1)) ?_
  refine kz_sti_n (M := kt_M318) [(0, .ref (w_adr E.2.1 7 0)), (1, va_rf (x1))] kX8_outer_c0.2.2.1 (Nat.le_of_ble_eq_true rfl) ⟨⟨rfl, rfl, .inl rfl⟩, ⟨⟨rfl, rfl, .inr (w_cat (x1))⟩, trivial⟩⟩ rfl ?_
  exact kz_weak [(0, .ref (w_adr E.2.1 7 0)), (1, va_rf (x1)), (2, .int (w_i w 15 p1 27))] ⟨rfl, ⟨rfl, ⟨rfl, trivial⟩⟩⟩ rfl h
def zL_X8_action_p357 (E : zE) (L : Nat) (Q : kx_Rs → wS → Prop) (x2 : Option Nat) (w : wS) : Prop := kzE E L kt_M295 357 [(0, .ref (w_adr E.2.1 7 0)), (2, va_rf (x2))] [] w Q
def zL_X8_action_p279 (E : zE) (L : Nat) (Q : kx_Rs → wS → Prop) (x1 : Option Nat) (x2 : Option Nat) (w : wS) : Prop := kzE E L kt_M295 279 [(0, .ref (w_adr E.2.1 7 0)), (1, va_rf (x1)), (2, va_rf (x2))] [] w Q
def zL_X8_action_p239 (E : zE) (L : Nat) (Q : kx_Rs → wS → Prop) (x2 : Option Nat) (w : wS) : Prop := kzE E L kt_M295 239 [(0, .ref (w_adr E.2.1 7 0)), (2, va_rf (x2))] [] w Q
def zL_X8_action_p152 (E : zE) (L : Nat) (Q : kx_Rs → wS → Prop) (x2 : Option Nat) (w : wS) : Prop := kzE E L kt_M295 152 [(0, .ref (w_adr E.2.1 7 0)), (2, va_rf (x2))] [] w Q
def zb_X8_action_p418 (E : zE) (L : Nat) (Q : kx_Rs → wS → Prop) (w : wS) : Prop := Q (.inl none) w
theorem zt_X8_action_p418 {E : zE} {L : Nat} {Q : kx_Rs → wS → Prop} {w : wS} (hL : 26 ≤ L) (h : zb_X8_action_p418 E L Q  w) : kzE E L kt_M295 418 [(0, .ref (w_adr E.2.1 7 0))] [] w Q := by
  unfold zb_X8_action_p418 at h
  exact kz_ret (M := kt_M295) kX8_action_c21.2.1 rfl h
def zb_X8_action_p407 (E : zE) (L : Nat) (Q : kx_Rs → wS → Prop) (x2 : Option Nat) (w : wS) : Prop := (∃ p1, x2 = some p1 ∧ w_l w E.2.1 14 p1 ∧ zL_X8_action_p357 E L Q (w_p w 14 p1 7) w)
theorem zt_X8_action_p407 {E : zE} {L : Nat} {Q : kx_Rs → wS → Prop} {x2 : Option Nat} {w : wS} (hL : 26 ≤ L) (h : zb_X8_action_p407 E L Q x2 w) : kzE E L kt_M295 407 [(0, .ref (w_adr E.2.1 7 0)), (2, va_rf (x2))] [] w Q := by
  unfold zb_X8_action_p407 at h
  refine kz_aload_nv (M := kt_M295) (x := x2) kX8_action_c20.2.2.2.2.1 rfl ?_
  obtain ⟨p1, hxp1, hlp1, h⟩ := h
  refine kz_nz0 (x := x2) hxp1 ?_
  refine kz_gfp (M := kt_M295) (c := 14) (o := p1) kX8_action_c20.2.2.2.2.2.1 wf_X8_67 (.inr (by exact hlp1)) ?_
  refine kz_stv_n (M := kt_M295) (x := w_p w 14 p1 7) [(0, .ref (w_adr E.2.1 7 0))] kX8_action_c20.2.2.2.2.2.2.1 (Nat.le_of_ble_eq_true rfl) ⟨⟨rfl, rfl, .inl rfl⟩, trivial⟩ rfl ?_
  refine kz_goto (M := kt_M295) kX8_action_c20.2.2.2.2.2.2.2.1 (t := 357) rfl ?_
  exact kz_weak [(0, .ref (w_adr E.2.1 7 0)), (2, va_rf (w_p w 14 p1 7))] ⟨rfl, ⟨rfl, trivial⟩⟩ rfl h
def zb_X8_action_p392 (E : zE) (L : Nat) (Q : kx_Rs → wS → Prop) (x2 : Option Nat) (w : wS) : Prop := (∃ p1, x2 = some p1 ∧ w_l w E.2.1 14 p1 ∧ (if (w_p w 14 p1 6) = none then zb_X8_action_p407 E L Q x2 w else zw E (L - 22) kt_M321 [.ref (w_adr E.2.1 7 0), va_rf (w_p w 14 p1 6)] w (wk0 (fun w2 => wle w w2 → zb_X8_action_p407 E L Q x2 w2) (fun e w => Q (.inr e) w))))
theorem zt_X8_action_p392 {E : zE} {L : Nat} {Q : kx_Rs → wS → Prop} {x2 : Option Nat} {w : wS} (hL : 26 ≤ L) (h : zb_X8_action_p392 E L Q x2 w) : kzE E L kt_M295 392 [(0, .ref (w_adr E.2.1 7 0)), (2, va_rf (x2))] [] w Q := by
  unfold zb_X8_action_p392 at h
  refine kz_aload_nv (M := kt_M295) (x := x2) kX8_action_c19.2.2.2.2.2.1 rfl ?_
  obtain ⟨p1, hxp1, hlp1, h⟩ := h
  refine kz_nz0 (x := x2) hxp1 ?_
  refine kz_gfp (M := kt_M295) (c := 14) (o := p1) kX8_action_c19.2.2.2.2.2.2.1 wf_X8_128 (.inr (by exact hlp1)) ?_
  refine kz_ifnull (M := kt_M295) (x := w_p w 14 p1 6) kX8_action_c19.2.2.2.2.2.2.2.1 (t := 407) rfl h (fun h => ?_) (fun h => ?_)
  · skip
    exact kz_weak [(0, .ref (w_adr E.2.1 7 0)), (2, va_rf (x2))] ⟨rfl, ⟨rfl, trivial⟩⟩ rfl (zt_X8_action_p407 hL  h)
  · skip
    refine kz_aload_n (M := kt_M295) kX8_action_c20.1 rfl ?_
    refine kz_aload_nv (M := kt_M295) (x := x2) kX8_action_c20.2.1 rfl ?_
    refine kz_nz0 (x := x2) hxp1 ?_
    refine kz_gfp (M := kt_M295) (c := 14) (o := p1) kX8_action_c20.2.2.1 wf_X8_128 (.inr (by exact hlp1)) ?_
    refine kz_cv0 (M := kt_M295) (c := 7) (o := 0) (As := [va_rf (w_p w 14 p1 6)]) (rest := []) kX8_action_c20.2.2.2.1 wl_X8_119 wMv_321 rfl (.inl rfl) rfl (Nat.le_trans (Nat.le_of_ble_eq_true rfl) hL) (by simp [lg_sl, w_cat, z_ci, z_cr, z_cl, z_cn, kt_M321]) (Nat.le_of_ble_eq_true rfl) h (fun w2 hle h => ?_) (fun _ _ _ h => kzx_no rfl h)
    have h := h hle
    have hlp1 := w_l_le hlp1 hle
    exact kz_weak [(0, .ref (w_adr E.2.1 7 0)), (2, va_rf (x2))] ⟨rfl, ⟨rfl, trivial⟩⟩ rfl (zt_X8_action_p407 hL  h)
def zb_X8_action_p376 (E : zE) (L : Nat) (Q : kx_Rs → wS → Prop) (x2 : Option Nat) (w : wS) : Prop := (∃ p1, x2 = some p1 ∧ w_l w E.2.1 14 p1 ∧ (if w_i w 14 p1 10 ≤ 0 then zb_X8_action_p392 E L Q x2 w else zw E (L - 23) kt_M314 [.ref (w_adr E.2.1 7 0), va_rf (x2), .int (w_i w 14 p1 10)] w (wk0 (fun w2 => wle w w2 → zb_X8_action_p392 E L Q x2 w2) (fun e w => Q (.inr e) w))))
theorem zt_X8_action_p376 {E : zE} {L : Nat} {Q : kx_Rs → wS → Prop} {x2 : Option Nat} {w : wS} (hL : 26 ≤ L) (h : zb_X8_action_p376 E L Q x2 w) : kzE E L kt_M295 376 [(0, .ref (w_adr E.2.1 7 0)), (2, va_rf (x2))] [] w Q := by
  unfold zb_X8_action_p376 at h
  refine kz_aload_nv (M := kt_M295) (x := x2) kX8_action_c18.2.2.2.2.2.1 rfl ?_
  obtain ⟨p1, hxp1, hlp1, h⟩ := h
  refine kz_nz0 (x := x2) hxp1 ?_
  refine kz_gfi (M := kt_M295) (c := 14) (o := p1) kX8_action_c18.2.2.2.2.2.2.1 wf_X8_88 (.inr (by exact hlp1)) ?_
  refine kz_if_le (M := kt_M295) kX8_action_c18.2.2.2.2.2.2.2.1 (t := 392) rfl h (fun h => ?_) (fun h => ?_)
  · skip
    exact kz_weak [(0, .ref (w_adr E.2.1 7 0)), (2, va_rf (x2))] ⟨rfl, ⟨rfl, trivial⟩⟩ rfl (zt_X8_action_p392 hL  h)
  · skip
    refine kz_aload_n (M := kt_M295) kX8_action_c19.1 rfl ?_
    refine kz_aload_nv (M := kt_M295) (x := x2) kX8_action_c19.2.1 rfl ?_
    refine kz_aload_nv (M := kt_M295) (x := x2) kX8_action_c19.2.2.1 rfl ?_
    refine kz_nz0 (x := x2) hxp1 ?_
    refine kz_gfi (M := kt_M295) (c := 14) (o := p1) kX8_action_c19.2.2.2.1 wf_X8_88 (.inr (by exact hlp1)) ?_
    refine kz_cv0 (M := kt_M295) (c := 7) (o := 0) (As := [va_rf (x2), .int (w_i w 14 p1 10)]) (rest := []) kX8_action_c19.2.2.2.2.1 wl_X8_307 wMv_314 rfl (.inl rfl) rfl (Nat.le_trans (Nat.le_of_ble_eq_true rfl) hL) (by simp [lg_sl, w_cat, z_ci, z_cr, z_cl, z_cn, kt_M314]) (Nat.le_of_ble_eq_true rfl) h (fun w2 hle h => ?_) (fun _ _ _ h => kzx_no rfl h)
    have h := h hle
    have hlp1 := w_l_le hlp1 hle
    exact kz_weak [(0, .ref (w_adr E.2.1 7 0)), (2, va_rf (x2))] ⟨rfl, ⟨rfl, trivial⟩⟩ rfl (zt_X8_action_p392 hL  h)
def zb_X8_action_p357 (E : zE) (L : Nat) (Q : kx_Rs → wS → Prop) (x2 : Option Nat) (w : wS) : Prop := (if x2 = none then zb_X8_action_p418 E L Q w else (∃ p1, x2 = some p1 ∧ w_l w E.2.1 14 p1 ∧ (if (w_p w 14 p1 5) = none then zb_X8_action_p376 E L Q x2 w else zw E (L - 22) kt_M308 [.ref (w_adr E.2.1 7 0), va_rf (w_p w 14 p1 5)] w (wk0 (fun w2 => wle w w2 → zb_X8_action_p376 E L Q x2 w2) (fun e w => Q (.inr e) w)))))
theorem zt_X8_action_p357 {E : zE} {L : Nat} {Q : kx_Rs → wS → Prop} {x2 : Option Nat} {w : wS} (hL : 26 ≤ L) (h : zb_X8_action_p357 E L Q x2 w) : kzE E L kt_M295 357 [(0, .ref (w_adr E.2.1 7 0)), (2, va_rf (x2))] [] w Q := by
  unfold zb_X8_action_p357 at h
  refine kz_aload_nv (M := kt_M295) (x := x2) kX8_action_c17.2.2.2.2.1 rfl ?_
  refine kz_ifnull (M := kt_M295) (x := x2) kX8_action_c17.2.2.2.2.2.1 (t := 415) rfl h (fun h => ?_) (fun h => ?_)
  · skip
    refine kz_goto (M := kt_M295) kX8_action_c21.1 (t := 418) rfl ?_
    exact kz_weak [(0, .ref (w_adr E.2.1 7 0))] ⟨rfl, trivial⟩ rfl (zt_X8_action_p418 hL  h)
  · skip
    refine kz_aload_nv (M := kt_M295) (x := x2) kX8_action_c17.2.2.2.2.2.2.1 rfl ?_
    obtain ⟨p1, hxp1, hlp1, h⟩ := h
    refine kz_nz0 (x := x2) hxp1 ?_
    refine kz_gfp (M := kt_M295) (c := 14) (o := p1) kX8_action_c17.2.2.2.2.2.2.2.1 wf_X8_95 (.inr (by exact hlp1)) ?_
    refine kz_ifnull (M := kt_M295) (x := w_p w 14 p1 5) kX8_action_c18.1 (t := 376) rfl h (fun h => ?_) (fun h => ?_)
    · skip
      exact kz_weak [(0, .ref (w_adr E.2.1 7 0)), (2, va_rf (x2))] ⟨rfl, ⟨rfl, trivial⟩⟩ rfl (zt_X8_action_p376 hL  h)
    · skip
      refine kz_aload_n (M := kt_M295) kX8_action_c18.2.1 rfl ?_
      refine kz_aload_nv (M := kt_M295) (x := x2) kX8_action_c18.2.2.1 rfl ?_
      refine kz_nz0 (x := x2) hxp1 ?_
      refine kz_gfp (M := kt_M295) (c := 14) (o := p1) kX8_action_c18.2.2.2.1 wf_X8_95 (.inr (by exact hlp1)) ?_
      refine kz_cv0 (M := kt_M295) (c := 7) (o := 0) (As := [va_rf (w_p w 14 p1 5)]) (rest := []) kX8_action_c18.2.2.2.2.1 wl_X8_122 wMv_308 rfl (.inl rfl) rfl (Nat.le_trans (Nat.le_of_ble_eq_true rfl) hL) (by simp [lg_sl, w_cat, z_ci, z_cr, z_cl, z_cn, kt_M308]) (Nat.le_of_ble_eq_true rfl) h (fun w2 hle h => ?_) (fun _ _ _ h => kzx_no rfl h)
      have h := h hle
      have hlp1 := w_l_le hlp1 hle
      exact kz_weak [(0, .ref (w_adr E.2.1 7 0)), (2, va_rf (x2))] ⟨rfl, ⟨rfl, trivial⟩⟩ rfl (zt_X8_action_p376 hL  h)
def zb_X8_action_p301 (E : zE) (L : Nat) (Q : kx_Rs → wS → Prop) (x1 : Option Nat) (x2 : Option Nat) (w : wS) : Prop := (∃ p1, x2 = some p1 ∧ w_l w E.2.1 14 p1 ∧ zw E (L - 22) kt_M321 [.ref (w_adr E.2.1 7 0), va_rf (w_p w 14 p1 4)] w (wk0 (fun w2 => wle w w2 → zL_X8_action_p279 E L Q x1 (w_p w2 14 p1 7) w2) (fun e w => Q (.inr e) w)))
theorem zt_X8_action_p301 {E : zE} {L : Nat} {Q : kx_Rs → wS → Prop} {x1 : Option Nat} {x2 : Option Nat} {w : wS} (hL : 26 ≤ L) (h : zb_X8_action_p301 E L Q x1 x2 w) : kzE E L kt_M295 301 [(0, .ref (w_adr E.2.1 7 0)), (1, va_rf (x1)), (2, va_rf (x2))] [] w Q := by
  unfold zb_X8_action_p301 at h
  refine kz_aload_n (M := kt_M295) kX8_action_c14.1 rfl ?_
  refine kz_aload_nv (M := kt_M295) (x := x2) kX8_action_c14.2.1 rfl ?_
  obtain ⟨p1, hxp1, hlp1, h⟩ := h
  refine kz_nz0 (x := x2) hxp1 ?_
  refine kz_gfp (M := kt_M295) (c := 14) (o := p1) kX8_action_c14.2.2.1 wf_X8_70 (.inr (by exact hlp1)) ?_
  refine kz_cv0 (M := kt_M295) (c := 7) (o := 0) (As := [va_rf (w_p w 14 p1 4)]) (rest := []) kX8_action_c14.2.2.2.1 wl_X8_119 wMv_321 rfl (.inl rfl) rfl (Nat.le_trans (Nat.le_of_ble_eq_true rfl) hL) (by simp [lg_sl, w_cat, z_ci, z_cr, z_cl, z_cn, kt_M321]) (Nat.le_of_ble_eq_true rfl) h (fun w2 hle h => ?_) (fun _ _ _ h => kzx_no rfl h)
  have h := h hle
  have hlp1 := w_l_le hlp1 hle
  refine kz_aload_nv (M := kt_M295) (x := x2) kX8_action_c14.2.2.2.2.1 rfl ?_
  refine kz_nz0 (x := x2) hxp1 ?_
  refine kz_gfp (M := kt_M295) (c := 14) (o := p1) kX8_action_c14.2.2.2.2.2.1 wf_X8_67 (.inr (by exact hlp1)) ?_
  refine kz_stv_n (M := kt_M295) (x := w_p w2 14 p1 7) [(0, .ref (w_adr E.2.1 7 0)), (1, va_rf (x1))] kX8_action_c14.2.2.2.2.2.2.1 (Nat.le_of_ble_eq_true rfl) ⟨⟨rfl, rfl, .inl rfl⟩, ⟨⟨rfl, rfl, .inr (w_cat (x1))⟩, trivial⟩⟩ rfl ?_
  refine kz_goto (M := kt_M295) kX8_action_c14.2.2.2.2.2.2.2.1 (t := 279) rfl ?_
  exact kz_weak [(0, .ref (w_adr E.2.1 7 0)), (1, va_rf (x1)), (2, va_rf (w_p w2 14 p1 7))] ⟨rfl, ⟨rfl, ⟨rfl, trivial⟩⟩⟩ rfl h
def zb_X8_action_p279 (E : zE) (L : Nat) (Q : kx_Rs → wS → Prop) (x1 : Option Nat) (x2 : Option Nat) (w : wS) : Prop := (if x2 = none then zb_X8_action_p418 E L Q w else (∃ p1, x1 = some p1 ∧ w_l w E.2.1 14 p1 ∧ (if ¬ w_p w 14 p1 0 = some (E.1.1 46) then zb_X8_action_p301 E L Q x1 x2 w else (∃ p2, x2 = some p2 ∧ w_l w E.2.1 14 p2 ∧ zw E (L - 22) kt_M308 [.ref (w_adr E.2.1 7 0), va_rf (w_p w 14 p2 3)] w (wk0 (fun w3 => wle w w3 → zb_X8_action_p301 E L Q x1 x2 w3) (fun e w => Q (.inr e) w))))))
theorem zt_X8_action_p279 {E : zE} {L : Nat} {Q : kx_Rs → wS → Prop} {x1 : Option Nat} {x2 : Option Nat} {w : wS} (hL : 26 ≤ L) (h : zb_X8_action_p279 E L Q x1 x2 w) : kzE E L kt_M295 279 [(0, .ref (w_adr E.2.1 7 0)), (1, va_rf (x1)), (2, va_rf (x2))] [] w Q := by
  unfold zb_X8_action_p279 at h
  refine kz_aload_nv (M := kt_M295) (x := x2) kX8_action_c12.2.2.2.2.2.2.1 rfl ?_
  refine kz_ifnull (M := kt_M295) (x := x2) kX8_action_c12.2.2.2.2.2.2.2.1 (t := 317) rfl h (fun h => ?_) (fun h => ?_)
  · skip
    refine kz_goto (M := kt_M295) kX8_action_c15.1 (t := 418) rfl ?_
    exact kz_weak [(0, .ref (w_adr E.2.1 7 0))] ⟨rfl, trivial⟩ rfl (zt_X8_action_p418 hL  h)
  · skip
    refine kz_aload_nv (M := kt_M295) (x := x1) kX8_action_c13.1 rfl ?_
    obtain ⟨p1, hxp1, hlp1, h⟩ := h
    refine kz_nz0 (x := x1) hxp1 ?_
    refine kz_gfp (M := kt_M295) (c := 14) (o := p1) kX8_action_c13.2.1 wf_X8_76 (.inr (by exact hlp1)) ?_
    refine kz_getsE (M := kt_M295) (v := va_rf (some (E.1.1 46))) kX8_action_c13.2.2.1 zs_X8_321 ?_
    refine kz_acmp_ne (M := kt_M295) (x := w_p w 14 p1 0) (y := some (E.1.1 46)) kX8_action_c13.2.2.2.1 (t := 301) rfl h (fun h => ?_) (fun h => ?_)
    · skip
      exact kz_weak [(0, .ref (w_adr E.2.1 7 0)), (1, va_rf (x1)), (2, va_rf (x2))] ⟨rfl, ⟨rfl, ⟨rfl, trivial⟩⟩⟩ rfl (zt_X8_action_p301 hL  h)
    · skip
      refine kz_aload_n (M := kt_M295) kX8_action_c13.2.2.2.2.1 rfl ?_
      refine kz_aload_nv (M := kt_M295) (x := x2) kX8_action_c13.2.2.2.2.2.1 rfl ?_
      obtain ⟨p2, hxp2, hlp2, h⟩ := h
      refine kz_nz0 (x := x2) hxp2 ?_
      refine kz_gfp (M := kt_M295) (c := 14) (o := p2) kX8_action_c13.2.2.2.2.2.2.1 wf_X8_58 (.inr (by exact hlp2)) ?_
      refine kz_cv0 (M := kt_M295) (c := 7) (o := 0) (As := [va_rf (w_p w 14 p2 3)]) (rest := []) kX8_action_c13.2.2.2.2.2.2.2.1 wl_X8_122 wMv_308 rfl (.inl rfl) rfl (Nat.le_trans (Nat.le_of_ble_eq_true rfl) hL) (by simp [lg_sl, w_cat, z_ci, z_cr, z_cl, z_cn, kt_M308]) (Nat.le_of_ble_eq_true rfl) h (fun w3 hle h => ?_) (fun _ _ _ h => kzx_no rfl h)
      have h := h hle
      have hlp1 := w_l_le hlp1 hle
      have hlp2 := w_l_le hlp2 hle
      exact kz_weak [(0, .ref (w_adr E.2.1 7 0)), (1, va_rf (x1)), (2, va_rf (x2))] ⟨rfl, ⟨rfl, ⟨rfl, trivial⟩⟩⟩ rfl (zt_X8_action_p301 hL  h)
def zb_X8_action_p274 (E : zE) (L : Nat) (Q : kx_Rs → wS → Prop) (x1 : Option Nat) (w : wS) : Prop := (∃ p1, x1 = some p1 ∧ w_l w E.2.1 14 p1 ∧ zL_X8_action_p279 E L Q x1 (w_p w 14 p1 4) w)
theorem zt_X8_action_p274 {E : zE} {L : Nat} {Q : kx_Rs → wS → Prop} {x1 : Option Nat} {w : wS} (hL : 26 ≤ L) (h : zb_X8_action_p274 E L Q x1 w) : kzE E L kt_M295 274 [(0, .ref (w_adr E.2.1 7 0)), (1, va_rf (x1))] [] w Q := by
  unfold zb_X8_action_p274 at h
  refine kz_aload_nv (M := kt_M295) (x := x1) kX8_action_c12.2.2.2.1 rfl ?_
  obtain ⟨p1, hxp1, hlp1, h⟩ := h
  refine kz_nz0 (x := x1) hxp1 ?_
  refine kz_gfp (M := kt_M295) (c := 14) (o := p1) kX8_action_c12.2.2.2.2.1 wf_X8_70 (.inr (by exact hlp1)) ?_
  refine kz_stv_n (M := kt_M295) (x := w_p w 14 p1 4) [(0, .ref (w_adr E.2.1 7 0)), (1, va_rf (x1))] kX8_action_c12.2.2.2.2.2.1 (Nat.le_of_ble_eq_true rfl) ⟨⟨rfl, rfl, .inl rfl⟩, ⟨⟨rfl, rfl, .inr (w_cat (x1))⟩, trivial⟩⟩ rfl ?_
  exact kz_weak [(0, .ref (w_adr E.2.1 7 0)), (1, va_rf (x1)), (2, va_rf (w_p w 14 p1 4))] ⟨rfl, ⟨rfl, ⟨rfl, trivial⟩⟩⟩ rfl h
def zb_X8_action_p239 (E : zE) (L : Nat) (Q : kx_Rs → wS → Prop) (x2 : Option Nat) (w : wS) : Prop := (if x2 = none then zb_X8_action_p418 E L Q w else zw E (L - 22) kt_M321 [.ref (w_adr E.2.1 7 0), va_rf (x2)] w (wk0 (fun w1 => wle w w1 → (∃ p3, x2 = some p3 ∧ w_l w1 E.2.1 14 p3 ∧ zL_X8_action_p239 E L Q (w_p w1 14 p3 7) w1)) (fun e w => Q (.inr e) w)))
theorem zt_X8_action_p239 {E : zE} {L : Nat} {Q : kx_Rs → wS → Prop} {x2 : Option Nat} {w : wS} (hL : 26 ≤ L) (h : zb_X8_action_p239 E L Q x2 w) : kzE E L kt_M295 239 [(0, .ref (w_adr E.2.1 7 0)), (2, va_rf (x2))] [] w Q := by
  unfold zb_X8_action_p239 at h
  refine kz_aload_nv (M := kt_M295) (x := x2) kX8_action_c10.2.2.1 rfl ?_
  refine kz_ifnull (M := kt_M295) (x := x2) kX8_action_c10.2.2.2.1 (t := 256) rfl h (fun h => ?_) (fun h => ?_)
  · skip
    refine kz_goto (M := kt_M295) kX8_action_c11.2.2.2.1 (t := 418) rfl ?_
    exact kz_weak [(0, .ref (w_adr E.2.1 7 0))] ⟨rfl, trivial⟩ rfl (zt_X8_action_p418 hL  h)
  · skip
    refine kz_aload_n (M := kt_M295) kX8_action_c10.2.2.2.2.1 rfl ?_
    refine kz_aload_nv (M := kt_M295) (x := x2) kX8_action_c10.2.2.2.2.2.1 rfl ?_
    refine kz_cv0 (M := kt_M295) (c := 7) (o := 0) (As := [va_rf (x2)]) (rest := []) kX8_action_c10.2.2.2.2.2.2.1 wl_X8_119 wMv_321 rfl (.inl rfl) rfl (Nat.le_trans (Nat.le_of_ble_eq_true rfl) hL) (by simp [lg_sl, w_cat, z_ci, z_cr, z_cl, z_cn, kt_M321]) (Nat.le_of_ble_eq_true rfl) h (fun w1 hle h => ?_) (fun _ _ _ h => kzx_no rfl h)
    have h := h hle
    refine kz_aload_nv (M := kt_M295) (x := x2) kX8_action_c10.2.2.2.2.2.2.2.1 rfl ?_
    obtain ⟨p3, hxp3, hlp3, h⟩ := h
    refine kz_nz0 (x := x2) hxp3 ?_
    refine kz_gfp (M := kt_M295) (c := 14) (o := p3) kX8_action_c11.1 wf_X8_67 (.inr (by exact hlp3)) ?_
    refine kz_stv_n (M := kt_M295) (x := w_p w1 14 p3 7) [(0, .ref (w_adr E.2.1 7 0))] kX8_action_c11.2.1 (Nat.le_of_ble_eq_true rfl) ⟨⟨rfl, rfl, .inl rfl⟩, trivial⟩ rfl ?_
    refine kz_goto (M := kt_M295) kX8_action_c11.2.2.1 (t := 239) rfl ?_
    exact kz_weak [(0, .ref (w_adr E.2.1 7 0)), (2, va_rf (w_p w1 14 p3 7))] ⟨rfl, ⟨rfl, trivial⟩⟩ rfl h
def zb_X8_action_p223 (E : zE) (L : Nat) (Q : kx_Rs → wS → Prop) (x1 : Option Nat) (y0 : Int32) (w : wS) : Prop := ((y0 = 0 ∨ y0 = 1) ∧ (∃ p1, x1 = some p1 ∧ w_l (ws_i w 7 0 14 y0) E.2.1 14 p1 ∧ zw E (L - 21) kt_M323 [.ref (w_adr E.2.1 7 0), va_rf (w_p w 14 p1 3)] (ws_i w 7 0 14 y0) (wk0 (fun w2 => wle (ws_i w 7 0 14 y0) w2 → zL_X8_action_p239 E L Q (w_p w2 14 p1 4) w2) (fun e w => Q (.inr e) w))))
theorem zt_X8_action_p223 {E : zE} {L : Nat} {Q : kx_Rs → wS → Prop} {x1 : Option Nat} {y0 : Int32} {w : wS} (hL : 26 ≤ L) (h : zb_X8_action_p223 E L Q x1 y0 w) : kzE E L kt_M295 223 [(0, .ref (w_adr E.2.1 7 0)), (1, va_rf (x1))] [.int y0, .ref (w_adr E.2.1 7 0)] w Q := by
  unfold zb_X8_action_p223 at h
  obtain ⟨h0, h⟩ := h
  refine kz_pfz (M := kt_M295) (c := 7) (o := 0) kX8_action_c9.2.2.1 wq_X8_108 (.inl rfl) h0 ?_
  refine kz_aload_n (M := kt_M295) kX8_action_c9.2.2.2.1 rfl ?_
  refine kz_aload_nv (M := kt_M295) (x := x1) kX8_action_c9.2.2.2.2.1 rfl ?_
  obtain ⟨p1, hxp1, hlp1, h⟩ := h
  refine kz_nz0 (x := x1) hxp1 ?_
  refine kz_gfpR (M := kt_M295) (c := 14) (o := p1) (w_p w 14 p1 3) kX8_action_c9.2.2.2.2.2.1 wf_X8_58 (.inr (by exact hlp1)) rd_p_i ?_
  refine kz_cv0 (M := kt_M295) (c := 7) (o := 0) (As := [va_rf (w_p w 14 p1 3)]) (rest := []) kX8_action_c9.2.2.2.2.2.2.1 wl_X8_318 wMv_323 rfl (.inl rfl) rfl (Nat.le_trans (Nat.le_of_ble_eq_true rfl) hL) (by simp [lg_sl, w_cat, z_ci, z_cr, z_cl, z_cn, kt_M323]) (Nat.le_of_ble_eq_true rfl) h (fun w2 hle h => ?_) (fun _ _ _ h => kzx_no rfl h)
  have h := h hle
  have hlp1 := w_l_le hlp1 hle
  refine kz_aload_nv (M := kt_M295) (x := x1) kX8_action_c9.2.2.2.2.2.2.2.1 rfl ?_
  refine kz_nz0 (x := x1) hxp1 ?_
  refine kz_gfp (M := kt_M295) (c := 14) (o := p1) kX8_action_c10.1 wf_X8_70 (.inr (by exact hlp1)) ?_
  refine kz_stv_n (M := kt_M295) (x := w_p w2 14 p1 4) [(0, .ref (w_adr E.2.1 7 0))] kX8_action_c10.2.1 (Nat.le_of_ble_eq_true rfl) ⟨⟨rfl, rfl, .inl rfl⟩, trivial⟩ rfl ?_
  exact kz_weak [(0, .ref (w_adr E.2.1 7 0)), (2, va_rf (w_p w2 14 p1 4))] ⟨rfl, ⟨rfl, trivial⟩⟩ rfl h
def zb_X8_action_p218 (E : zE) (L : Nat) (Q : kx_Rs → wS → Prop) (x1 : Option Nat) (w : wS) : Prop := zb_X8_action_p223 E L Q x1 1 w
theorem zt_X8_action_p218 {E : zE} {L : Nat} {Q : kx_Rs → wS → Prop} {x1 : Option Nat} {w : wS} (hL : 26 ≤ L) (h : zb_X8_action_p218 E L Q x1 w) : kzE E L kt_M295 218 [(0, .ref (w_adr E.2.1 7 0)), (1, va_rf (x1))] [.ref (w_adr E.2.1 7 0)] w Q := by
  unfold zb_X8_action_p218 at h
  refine kz_ic (M := kt_M295) 1 kX8_action_c8.2.2.2.2.2.2.2.1 rfl ?_
  refine kz_goto (M := kt_M295) kX8_action_c9.1 (t := 223) rfl ?_
  exact kz_weak [(0, .ref (w_adr E.2.1 7 0)), (1, va_rf (x1))] ⟨rfl, ⟨rfl, trivial⟩⟩ rfl (zt_X8_action_p223 hL  h)
def zb_X8_action_p181 (E : zE) (L : Nat) (Q : kx_Rs → wS → Prop) (x2 : Option Nat) (w : wS) : Prop := (∃ p1, x2 = some p1 ∧ w_l w E.2.1 14 p1 ∧ zL_X8_action_p152 E L Q (w_p w 14 p1 7) w)
theorem zt_X8_action_p181 {E : zE} {L : Nat} {Q : kx_Rs → wS → Prop} {x2 : Option Nat} {w : wS} (hL : 26 ≤ L) (h : zb_X8_action_p181 E L Q x2 w) : kzE E L kt_M295 181 [(0, .ref (w_adr E.2.1 7 0)), (2, va_rf (x2))] [] w Q := by
  unfold zb_X8_action_p181 at h
  refine kz_aload_nv (M := kt_M295) (x := x2) kX8_action_c6.2.2.2.2.2.2.1 rfl ?_
  obtain ⟨p1, hxp1, hlp1, h⟩ := h
  refine kz_nz0 (x := x2) hxp1 ?_
  refine kz_gfp (M := kt_M295) (c := 14) (o := p1) kX8_action_c6.2.2.2.2.2.2.2.1 wf_X8_67 (.inr (by exact hlp1)) ?_
  refine kz_stv_n (M := kt_M295) (x := w_p w 14 p1 7) [(0, .ref (w_adr E.2.1 7 0))] kX8_action_c7.1 (Nat.le_of_ble_eq_true rfl) ⟨⟨rfl, rfl, .inl rfl⟩, trivial⟩ rfl ?_
  refine kz_goto (M := kt_M295) kX8_action_c7.2.1 (t := 152) rfl ?_
  exact kz_weak [(0, .ref (w_adr E.2.1 7 0)), (2, va_rf (w_p w 14 p1 7))] ⟨rfl, ⟨rfl, trivial⟩⟩ rfl h
def zb_X8_action_p176 (E : zE) (L : Nat) (Q : kx_Rs → wS → Prop) (x2 : Option Nat) (w : wS) : Prop := zw E (L - 22) kt_M308 [.ref (w_adr E.2.1 7 0), va_rf (x2)] w (wk0 (fun w1 => wle w w1 → zb_X8_action_p181 E L Q x2 w1) (fun e w => Q (.inr e) w))
theorem zt_X8_action_p176 {E : zE} {L : Nat} {Q : kx_Rs → wS → Prop} {x2 : Option Nat} {w : wS} (hL : 26 ≤ L) (h : zb_X8_action_p176 E L Q x2 w) : kzE E L kt_M295 176 [(0, .ref (w_adr E.2.1 7 0)), (2, va_rf (x2))] [] w Q := by
  unfold zb_X8_action_p176 at h
  refine kz_aload_n (M := kt_M295) kX8_action_c6.2.2.2.1 rfl ?_
  refine kz_aload_nv (M := kt_M295) (x := x2) kX8_action_c6.2.2.2.2.1 rfl ?_
  refine kz_cv0 (M := kt_M295) (c := 7) (o := 0) (As := [va_rf (x2)]) (rest := []) kX8_action_c6.2.2.2.2.2.1 wl_X8_122 wMv_308 rfl (.inl rfl) rfl (Nat.le_trans (Nat.le_of_ble_eq_true rfl) hL) (by simp [lg_sl, w_cat, z_ci, z_cr, z_cl, z_cn, kt_M308]) (Nat.le_of_ble_eq_true rfl) h (fun w1 hle h => ?_) (fun _ _ _ h => kzx_no rfl h)
  have h := h hle
  exact kz_weak [(0, .ref (w_adr E.2.1 7 0)), (2, va_rf (x2))] ⟨rfl, ⟨rfl, trivial⟩⟩ rfl (zt_X8_action_p181 hL  h)
def zb_X8_action_p152 (E : zE) (L : Nat) (Q : kx_Rs → wS → Prop) (x2 : Option Nat) (w : wS) : Prop := (if x2 = none then zb_X8_action_p418 E L Q w else (∃ p1, x2 = some p1 ∧ w_l w E.2.1 14 p1 ∧ (if (w_p w 14 p1 16) = none then zb_X8_action_p176 E L Q x2 w else (∃ p2, w_p w 14 p1 16 = some p2 ∧ w_l w E.2.1 15 p2 ∧ (if w_p w 15 p2 0 = some (E.1.1 59) then zb_X8_action_p181 E L Q x2 w else zb_X8_action_p176 E L Q x2 w)))))
theorem zt_X8_action_p152 {E : zE} {L : Nat} {Q : kx_Rs → wS → Prop} {x2 : Option Nat} {w : wS} (hL : 26 ≤ L) (h : zb_X8_action_p152 E L Q x2 w) : kzE E L kt_M295 152 [(0, .ref (w_adr E.2.1 7 0)), (2, va_rf (x2))] [] w Q := by
  unfold zb_X8_action_p152 at h
  refine kz_aload_nv (M := kt_M295) (x := x2) kX8_action_c5.2.1 rfl ?_
  refine kz_ifnull (M := kt_M295) (x := x2) kX8_action_c5.2.2.1 (t := 189) rfl h (fun h => ?_) (fun h => ?_)
  · skip
    refine kz_goto (M := kt_M295) kX8_action_c7.2.2.1 (t := 418) rfl ?_
    exact kz_weak [(0, .ref (w_adr E.2.1 7 0))] ⟨rfl, trivial⟩ rfl (zt_X8_action_p418 hL  h)
  · skip
    refine kz_aload_nv (M := kt_M295) (x := x2) kX8_action_c5.2.2.2.1 rfl ?_
    obtain ⟨p1, hxp1, hlp1, h⟩ := h
    refine kz_nz0 (x := x2) hxp1 ?_
    refine kz_gfp (M := kt_M295) (c := 14) (o := p1) kX8_action_c5.2.2.2.2.1 wf_X8_131 (.inr (by exact hlp1)) ?_
    refine kz_ifnull (M := kt_M295) (x := w_p w 14 p1 16) kX8_action_c5.2.2.2.2.2.1 (t := 176) rfl h (fun h => ?_) (fun h => ?_)
    · skip
      exact kz_weak [(0, .ref (w_adr E.2.1 7 0)), (2, va_rf (x2))] ⟨rfl, ⟨rfl, trivial⟩⟩ rfl (zt_X8_action_p176 hL  h)
    · skip
      refine kz_aload_nv (M := kt_M295) (x := x2) kX8_action_c5.2.2.2.2.2.2.1 rfl ?_
      refine kz_nz0 (x := x2) hxp1 ?_
      refine kz_gfp (M := kt_M295) (c := 14) (o := p1) kX8_action_c5.2.2.2.2.2.2.2.1 wf_X8_131 (.inr (by exact hlp1)) ?_
      obtain ⟨p2, hxp2, hlp2, h⟩ := h
      refine kz_nz0 (x := w_p w 14 p1 16) hxp2 ?_
      refine kz_gfp (M := kt_M295) (c := 15) (o := p2) kX8_action_c6.1 wf_X8_248 (.inr (by exact hlp2)) ?_
      refine kz_getsE (M := kt_M295) (v := va_rf (some (E.1.1 59))) kX8_action_c6.2.1 zs_X8_312 ?_
      refine kz_acmp_eq (M := kt_M295) (x := w_p w 15 p2 0) (y := some (E.1.1 59)) kX8_action_c6.2.2.1 (t := 181) rfl h (fun h => ?_) (fun h => ?_)
      · skip
        exact kz_weak [(0, .ref (w_adr E.2.1 7 0)), (2, va_rf (x2))] ⟨rfl, ⟨rfl, trivial⟩⟩ rfl (zt_X8_action_p181 hL  h)
      · skip
        exact kz_weak [(0, .ref (w_adr E.2.1 7 0)), (2, va_rf (x2))] ⟨rfl, ⟨rfl, trivial⟩⟩ rfl (zt_X8_action_p176 hL  h)
def zb_X8_action_p126 (E : zE) (L : Nat) (Q : kx_Rs → wS → Prop) (y0 : Int32) (y1 : Option Nat) (w : wS) : Prop := zw E (L - 23) kt_M314 [.ref (w_adr E.2.1 7 0), va_rf (y1), .int y0] w (wk0 (fun w1 => wle w w1 → zb_X8_action_p418 E L Q w1) (fun e w => Q (.inr e) w))
theorem zt_X8_action_p126 {E : zE} {L : Nat} {Q : kx_Rs → wS → Prop} {y0 : Int32} {y1 : Option Nat} {w : wS} (hL : 26 ≤ L) (h : zb_X8_action_p126 E L Q y0 y1 w) : kzE E L kt_M295 126 [(0, .ref (w_adr E.2.1 7 0))] [.int y0, va_rf (y1), .ref (w_adr E.2.1 7 0)] w Q := by
  unfold zb_X8_action_p126 at h
  refine kz_cv0 (M := kt_M295) (c := 7) (o := 0) (As := [va_rf (y1), .int y0]) (rest := []) kX8_action_c3.2.2.2.2.1 wl_X8_307 wMv_314 rfl (.inl rfl) rfl (Nat.le_trans (Nat.le_of_ble_eq_true rfl) hL) (by simp [lg_sl, w_cat, z_ci, z_cr, z_cl, z_cn, kt_M314]) (Nat.le_of_ble_eq_true rfl) h (fun w1 hle h => ?_) (fun _ _ _ h => kzx_no rfl h)
  have h := h hle
  refine kz_goto (M := kt_M295) kX8_action_c3.2.2.2.2.2.1 (t := 418) rfl ?_
  exact kz_weak [(0, .ref (w_adr E.2.1 7 0))] ⟨rfl, trivial⟩ rfl (zt_X8_action_p418 hL  h)
def zb_X8_action_p0 (E : zE) (L : Nat) (Q : kx_Rs → wS → Prop) (x1 : Option Nat) (w : wS) : Prop := (∃ p1, x1 = some p1 ∧ w_l w E.2.1 14 p1 ∧ (∃ i2, zO E "MeetingHouse$Kind" (w_p w 14 p1 0) i2 ∧ (if (kw_on i2) = 16 then zw E (L - 22) kt_M309 [.ref (w_adr E.2.1 7 0), va_rf (w_p w 14 p1 4)] w (wk0 (fun w3 => wle w w3 → zw E (L - 22) kt_M305 [.ref (w_adr E.2.1 7 0), va_rf (w_p w3 14 p1 3)] w3 (wk0 (fun w5 => wle w3 w5 → zb_X8_action_p418 E L Q w5) (fun e w => Q (.inr e) w))) (fun e w => Q (.inr e) w)) else (if (kw_on i2) = 17 then (if ¬ w_p w 14 p1 0 = some (E.1.1 38) then (if ¬ w_p w 14 p1 0 = some (E.1.1 40) then zb_X8_action_p126 E L Q 3 x1 w else zb_X8_action_p126 E L Q 1 x1 w) else zb_X8_action_p126 E L Q 2 x1 w) else (if (kw_on i2) = 18 then zw E (L - 22) kt_M307 [.ref (w_adr E.2.1 7 0), va_rf (w_p w 14 p1 3), .int 8] (ws_i w 7 0 14 1) (wk0 (fun w7 => wle (ws_i w 7 0 14 1) w7 → zL_X8_action_p152 E L Q (w_p w7 14 p1 4) w7) (fun e w => Q (.inr e) w)) else (if (kw_on i2) = 19 then (if ¬ w_p w 14 p1 0 = some (E.1.1 38) then (if ¬ w_p w 14 p1 0 = some (E.1.1 40) then zb_X8_action_p126 E L Q 3 x1 w else zb_X8_action_p126 E L Q 1 x1 w) else zb_X8_action_p126 E L Q 2 x1 w) else (if (kw_on i2) = 20 then (if ¬ w_p w 14 p1 0 = some (E.1.1 38) then (if ¬ w_p w 14 p1 0 = some (E.1.1 40) then zb_X8_action_p126 E L Q 3 x1 w else zb_X8_action_p126 E L Q 1 x1 w) else zb_X8_action_p126 E L Q 2 x1 w) else (if (kw_on i2) = 21 then zw E (L - 26) kt_M304 [.ref (w_adr E.2.1 7 0), va_rf (x1)] w (wk0 (fun w9 => wle w w9 → zb_X8_action_p418 E L Q w9) (fun e w => Q (.inr e) w)) else (if (kw_on i2) = 22 then (if ¬ w_i w 7 0 14 = 0 then zb_X8_action_p218 E L Q x1 w else (if ¬ w_p w 14 p1 0 = some (E.1.1 44) then zb_X8_action_p223 E L Q x1 0 w else zb_X8_action_p218 E L Q x1 w)) else (if (kw_on i2) = 23 then (if ¬ w_i w 7 0 14 = 0 then zb_X8_action_p218 E L Q x1 w else (if ¬ w_p w 14 p1 0 = some (E.1.1 44) then zb_X8_action_p223 E L Q x1 0 w else zb_X8_action_p218 E L Q x1 w)) else (if (kw_on i2) = 24 then (if (w_p w 14 p1 3) = none then zb_X8_action_p274 E L Q x1 w else zw E (L - 22) kt_M308 [.ref (w_adr E.2.1 7 0), va_rf (w_p w 14 p1 3)] w (wk0 (fun w11 => wle w w11 → zb_X8_action_p274 E L Q x1 w11) (fun e w => Q (.inr e) w))) else (if (kw_on i2) = 26 then (if (w_p w 14 p1 3) = none then zb_X8_action_p274 E L Q x1 w else zw E (L - 22) kt_M308 [.ref (w_adr E.2.1 7 0), va_rf (w_p w 14 p1 3)] w (wk0 (fun w13 => wle w w13 → zb_X8_action_p274 E L Q x1 w13) (fun e w => Q (.inr e) w))) else (if (kw_on i2) = 28 then zw E (L - 22) kt_M308 [.ref (w_adr E.2.1 7 0), va_rf (w_p w 14 p1 3)] w (wk0 (fun w15 => wle w w15 → zw E (L - 22) kt_M321 [.ref (w_adr E.2.1 7 0), va_rf (w_p w15 14 p1 4)] w15 (wk0 (fun w17 => wle w15 w17 → zb_X8_action_p418 E L Q w17) (fun e w => Q (.inr e) w))) (fun e w => Q (.inr e) w)) else (if (kw_on i2) = 29 then zw E (L - 21) kt_M323 [.ref (w_adr E.2.1 7 0), va_rf (w_p w 14 p1 3)] (ws_i w 7 0 14 1) (wk0 (fun w19 => wle (ws_i w 7 0 14 1) w19 → zL_X8_action_p357 E L Q (w_p w19 14 p1 4) w19) (fun e w => Q (.inr e) w)) else zb_X8_action_p418 E L Q w))))))))))))))
theorem zt_X8_action_p0 {E : zE} {L : Nat} {Q : kx_Rs → wS → Prop} {x1 : Option Nat} {w : wS} (hL : 26 ≤ L) (h : zb_X8_action_p0 E L Q x1 w) : kzE E L kt_M295 0 [(0, .ref (w_adr E.2.1 7 0)), (1, va_rf (x1))] [] w Q := by
  unfold zb_X8_action_p0 at h
  refine kz_aload_nv (M := kt_M295) (x := x1) kX8_action_c0.1 rfl ?_
  obtain ⟨p1, hxp1, hlp1, h⟩ := h
  refine kz_nz0 (x := x1) hxp1 ?_
  refine kz_gfp (M := kt_M295) (c := 14) (o := p1) kX8_action_c0.2.1 wf_X8_76 (.inr (by exact hlp1)) ?_
  obtain ⟨i2, ho, h⟩ := h
  refine kz_ord (M := kt_M295) (x := w_p w 14 p1 0) (i := i2) (C := "MeetingHouse$Kind") kX8_action_c0.2.2.1 zo_l_X8 zo_m_X8 zo_s_Kind zo_u_X8 (Nat.le_trans (Nat.le_of_ble_eq_true rfl) hL) (Nat.le_of_ble_eq_true rfl) ho ?_
  refine kz_tsw (M := kt_M295) [(16, 76), (17, 95), (18, 132), (19, 95), (20, 95), (21, 192), (22, 200), (23, 200), (24, 259), (26, 259), (28, 320), (29, 339)] [_, _, _, _, _, _, _, _, _, _, _, _] 418 dX8_action_p7 (by decide +kernel) h ⟨fun h => ?_, fun h => ?_, fun h => ?_, fun h => ?_, fun h => ?_, fun h => ?_, fun h => ?_, fun h => ?_, fun h => ?_, fun h => ?_, fun h => ?_, fun h => ?_, trivial⟩ (fun h => ?_)
  · skip
    refine kz_aload_n (M := kt_M295) kX8_action_c0.2.2.2.2.1 rfl ?_
    refine kz_aload_nv (M := kt_M295) (x := x1) kX8_action_c0.2.2.2.2.2.1 rfl ?_
    refine kz_nz0 (x := x1) hxp1 ?_
    refine kz_gfp (M := kt_M295) (c := 14) (o := p1) kX8_action_c0.2.2.2.2.2.2.1 wf_X8_70 (.inr (by exact hlp1)) ?_
    refine kz_cv0 (M := kt_M295) (c := 7) (o := 0) (As := [va_rf (w_p w 14 p1 4)]) (rest := []) kX8_action_c0.2.2.2.2.2.2.2.1 wl_X8_301 wMv_309 rfl (.inl rfl) rfl (Nat.le_trans (Nat.le_of_ble_eq_true rfl) hL) (by simp [lg_sl, w_cat, z_ci, z_cr, z_cl, z_cn, kt_M309]) (Nat.le_of_ble_eq_true rfl) h (fun w3 hle h => ?_) (fun _ _ _ h => kzx_no rfl h)
    have h := h hle
    have hlp1 := w_l_le hlp1 hle
    refine kz_aload_n (M := kt_M295) kX8_action_c1.1 rfl ?_
    refine kz_aload_nv (M := kt_M295) (x := x1) kX8_action_c1.2.1 rfl ?_
    refine kz_nz0 (x := x1) hxp1 ?_
    refine kz_gfp (M := kt_M295) (c := 14) (o := p1) kX8_action_c1.2.2.1 wf_X8_58 (.inr (by exact hlp1)) ?_
    refine kz_cv0 (M := kt_M295) (c := 7) (o := 0) (As := [va_rf (w_p w3 14 p1 3)]) (rest := []) kX8_action_c1.2.2.2.1 wl_X8_304 wMv_305 rfl (.inl rfl) rfl (Nat.le_trans (Nat.le_of_ble_eq_true rfl) hL) (by simp [lg_sl, w_cat, z_ci, z_cr, z_cl, z_cn, kt_M305]) (Nat.le_of_ble_eq_true rfl) h (fun w5 hle h => ?_) (fun _ _ _ h => kzx_no rfl h)
    have h := h hle
    have hlp1 := w_l_le hlp1 hle
    refine kz_goto (M := kt_M295) kX8_action_c1.2.2.2.2.1 (t := 418) rfl ?_
    exact kz_weak [(0, .ref (w_adr E.2.1 7 0))] ⟨rfl, trivial⟩ rfl (zt_X8_action_p418 hL  h)
  · skip
    refine kz_aload_n (M := kt_M295) kX8_action_c1.2.2.2.2.2.1 rfl ?_
    refine kz_aload_nv (M := kt_M295) (x := x1) kX8_action_c1.2.2.2.2.2.2.1 rfl ?_
    refine kz_aload_nv (M := kt_M295) (x := x1) kX8_action_c1.2.2.2.2.2.2.2.1 rfl ?_
    refine kz_nz0 (x := x1) hxp1 ?_
    refine kz_gfp (M := kt_M295) (c := 14) (o := p1) kX8_action_c2.1 wf_X8_76 (.inr (by exact hlp1)) ?_
    refine kz_getsE (M := kt_M295) (v := va_rf (some (E.1.1 38))) kX8_action_c2.2.1 zs_X8_183 ?_
    refine kz_acmp_ne (M := kt_M295) (x := w_p w 14 p1 0) (y := some (E.1.1 38)) kX8_action_c2.2.2.1 (t := 111) rfl h (fun h => ?_) (fun h => ?_)
    · skip
      refine kz_aload_nv (M := kt_M295) (x := x1) kX8_action_c2.2.2.2.2.2.1 rfl ?_
      refine kz_nz0 (x := x1) hxp1 ?_
      refine kz_gfp (M := kt_M295) (c := 14) (o := p1) kX8_action_c2.2.2.2.2.2.2.1 wf_X8_76 (.inr (by exact hlp1)) ?_
      refine kz_getsE (M := kt_M295) (v := va_rf (some (E.1.1 40))) kX8_action_c2.2.2.2.2.2.2.2.1 zs_X8_177 ?_
      refine kz_acmp_ne (M := kt_M295) (x := w_p w 14 p1 0) (y := some (E.1.1 40)) kX8_action_c3.1 (t := 125) rfl h (fun h => ?_) (fun h => ?_)
      · skip
        refine kz_ic (M := kt_M295) 3 kX8_action_c3.2.2.2.1 rfl ?_
        exact kz_weak [(0, .ref (w_adr E.2.1 7 0))] ⟨rfl, trivial⟩ rfl (zt_X8_action_p126 hL  h)
      · skip
        refine kz_ic (M := kt_M295) 1 kX8_action_c3.2.1 rfl ?_
        refine kz_goto (M := kt_M295) kX8_action_c3.2.2.1 (t := 126) rfl ?_
        exact kz_weak [(0, .ref (w_adr E.2.1 7 0))] ⟨rfl, trivial⟩ rfl (zt_X8_action_p126 hL  h)
    · skip
      refine kz_ic (M := kt_M295) 2 kX8_action_c2.2.2.2.1 rfl ?_
      refine kz_goto (M := kt_M295) kX8_action_c2.2.2.2.2.1 (t := 126) rfl ?_
      exact kz_weak [(0, .ref (w_adr E.2.1 7 0))] ⟨rfl, trivial⟩ rfl (zt_X8_action_p126 hL  h)
  · skip
    refine kz_aload_n (M := kt_M295) kX8_action_c3.2.2.2.2.2.2.1 rfl ?_
    refine kz_ic (M := kt_M295) 1 kX8_action_c3.2.2.2.2.2.2.2.1 rfl ?_
    refine kz_pfz (M := kt_M295) (c := 7) (o := 0) kX8_action_c4.1 wq_X8_108 (.inl rfl) (by decide) ?_
    refine kz_aload_n (M := kt_M295) kX8_action_c4.2.1 rfl ?_
    refine kz_aload_nv (M := kt_M295) (x := x1) kX8_action_c4.2.2.1 rfl ?_
    refine kz_nz0 (x := x1) hxp1 ?_
    refine kz_gfpR (M := kt_M295) (c := 14) (o := p1) (w_p w 14 p1 3) kX8_action_c4.2.2.2.1 wf_X8_58 (.inr (by exact hlp1)) rd_p_i ?_
    refine kz_bi (M := kt_M295) 8 kX8_action_c4.2.2.2.2.1 rfl ?_
    refine kz_cv0 (M := kt_M295) (c := 7) (o := 0) (As := [va_rf (w_p w 14 p1 3), .int 8]) (rest := []) kX8_action_c4.2.2.2.2.2.1 wl_X8_310 wMv_307 rfl (.inl rfl) rfl (Nat.le_trans (Nat.le_of_ble_eq_true rfl) hL) (by simp [lg_sl, w_cat, z_ci, z_cr, z_cl, z_cn, kt_M307]) (Nat.le_of_ble_eq_true rfl) h (fun w7 hle h => ?_) (fun _ _ _ h => kzx_no rfl h)
    have h := h hle
    have hlp1 := w_l_le hlp1 hle
    refine kz_aload_nv (M := kt_M295) (x := x1) kX8_action_c4.2.2.2.2.2.2.1 rfl ?_
    refine kz_nz0 (x := x1) hxp1 ?_
    refine kz_gfp (M := kt_M295) (c := 14) (o := p1) kX8_action_c4.2.2.2.2.2.2.2.1 wf_X8_70 (.inr (by exact hlp1)) ?_
    refine kz_stv_n (M := kt_M295) (x := w_p w7 14 p1 4) [(0, .ref (w_adr E.2.1 7 0))] kX8_action_c5.1 (Nat.le_of_ble_eq_true rfl) ⟨⟨rfl, rfl, .inl rfl⟩, trivial⟩ rfl ?_
    exact kz_weak [(0, .ref (w_adr E.2.1 7 0)), (2, va_rf (w_p w7 14 p1 4))] ⟨rfl, ⟨rfl, trivial⟩⟩ rfl h
  · skip
    refine kz_aload_n (M := kt_M295) kX8_action_c1.2.2.2.2.2.1 rfl ?_
    refine kz_aload_nv (M := kt_M295) (x := x1) kX8_action_c1.2.2.2.2.2.2.1 rfl ?_
    refine kz_aload_nv (M := kt_M295) (x := x1) kX8_action_c1.2.2.2.2.2.2.2.1 rfl ?_
    refine kz_nz0 (x := x1) hxp1 ?_
    refine kz_gfp (M := kt_M295) (c := 14) (o := p1) kX8_action_c2.1 wf_X8_76 (.inr (by exact hlp1)) ?_
    refine kz_getsE (M := kt_M295) (v := va_rf (some (E.1.1 38))) kX8_action_c2.2.1 zs_X8_183 ?_
    refine kz_acmp_ne (M := kt_M295) (x := w_p w 14 p1 0) (y := some (E.1.1 38)) kX8_action_c2.2.2.1 (t := 111) rfl h (fun h => ?_) (fun h => ?_)
    · skip
      refine kz_aload_nv (M := kt_M295) (x := x1) kX8_action_c2.2.2.2.2.2.1 rfl ?_
      refine kz_nz0 (x := x1) hxp1 ?_
      refine kz_gfp (M := kt_M295) (c := 14) (o := p1) kX8_action_c2.2.2.2.2.2.2.1 wf_X8_76 (.inr (by exact hlp1)) ?_
      refine kz_getsE (M := kt_M295) (v := va_rf (some (E.1.1 40))) kX8_action_c2.2.2.2.2.2.2.2.1 zs_X8_177 ?_
      refine kz_acmp_ne (M := kt_M295) (x := w_p w 14 p1 0) (y := some (E.1.1 40)) kX8_action_c3.1 (t := 125) rfl h (fun h => ?_) (fun h => ?_)
      · skip
        refine kz_ic (M := kt_M295) 3 kX8_action_c3.2.2.2.1 rfl ?_
        exact kz_weak [(0, .ref (w_adr E.2.1 7 0))] ⟨rfl, trivial⟩ rfl (zt_X8_action_p126 hL  h)
      · skip
        refine kz_ic (M := kt_M295) 1 kX8_action_c3.2.1 rfl ?_
        refine kz_goto (M := kt_M295) kX8_action_c3.2.2.1 (t := 126) rfl ?_
        exact kz_weak [(0, .ref (w_adr E.2.1 7 0))] ⟨rfl, trivial⟩ rfl (zt_X8_action_p126 hL  h)
    · skip
      refine kz_ic (M := kt_M295) 2 kX8_action_c2.2.2.2.1 rfl ?_
      refine kz_goto (M := kt_M295) kX8_action_c2.2.2.2.2.1 (t := 126) rfl ?_
      exact kz_weak [(0, .ref (w_adr E.2.1 7 0))] ⟨rfl, trivial⟩ rfl (zt_X8_action_p126 hL  h)
  · skip
    refine kz_aload_n (M := kt_M295) kX8_action_c1.2.2.2.2.2.1 rfl ?_
    refine kz_aload_nv (M := kt_M295) (x := x1) kX8_action_c1.2.2.2.2.2.2.1 rfl ?_
    refine kz_aload_nv (M := kt_M295) (x := x1) kX8_action_c1.2.2.2.2.2.2.2.1 rfl ?_
    refine kz_nz0 (x := x1) hxp1 ?_
    refine kz_gfp (M := kt_M295) (c := 14) (o := p1) kX8_action_c2.1 wf_X8_76 (.inr (by exact hlp1)) ?_
    refine kz_getsE (M := kt_M295) (v := va_rf (some (E.1.1 38))) kX8_action_c2.2.1 zs_X8_183 ?_
    refine kz_acmp_ne (M := kt_M295) (x := w_p w 14 p1 0) (y := some (E.1.1 38)) kX8_action_c2.2.2.1 (t := 111) rfl h (fun h => ?_) (fun h => ?_)
    · skip
      refine kz_aload_nv (M := kt_M295) (x := x1) kX8_action_c2.2.2.2.2.2.1 rfl ?_
      refine kz_nz0 (x := x1) hxp1 ?_
      refine kz_gfp (M := kt_M295) (c := 14) (o := p1) kX8_action_c2.2.2.2.2.2.2.1 wf_X8_76 (.inr (by exact hlp1)) ?_
      refine kz_getsE (M := kt_M295) (v := va_rf (some (E.1.1 40))) kX8_action_c2.2.2.2.2.2.2.2.1 zs_X8_177 ?_
      refine kz_acmp_ne (M := kt_M295) (x := w_p w 14 p1 0) (y := some (E.1.1 40)) kX8_action_c3.1 (t := 125) rfl h (fun h => ?_) (fun h => ?_)
      · skip
        refine kz_ic (M := kt_M295) 3 kX8_action_c3.2.2.2.1 rfl ?_
        exact kz_weak [(0, .ref (w_adr E.2.1 7 0))] ⟨rfl, trivial⟩ rfl (zt_X8_action_p126 hL  h)
      · skip
        refine kz_ic (M := kt_M295) 1 kX8_action_c3.2.1 rfl ?_
        refine kz_goto (M := kt_M295) kX8_action_c3.2.2.1 (t := 126) rfl ?_
        exact kz_weak [(0, .ref (w_adr E.2.1 7 0))] ⟨rfl, trivial⟩ rfl (zt_X8_action_p126 hL  h)
    · skip
      refine kz_ic (M := kt_M295) 2 kX8_action_c2.2.2.2.1 rfl ?_
      refine kz_goto (M := kt_M295) kX8_action_c2.2.2.2.2.1 (t := 126) rfl ?_
      exact kz_weak [(0, .ref (w_adr E.2.1 7 0))] ⟨rfl, trivial⟩ rfl (zt_X8_action_p126 hL  h)
  · skip
    refine kz_aload_n (M := kt_M295) kX8_action_c7.2.2.2.1 rfl ?_
    refine kz_aload_nv (M := kt_M295) (x := x1) kX8_action_c7.2.2.2.2.1 rfl ?_
    refine kz_cv0 (M := kt_M295) (c := 7) (o := 0) (As := [va_rf (x1)]) (rest := []) kX8_action_c7.2.2.2.2.2.1 wl_X8_315 wMv_304 rfl (.inl rfl) rfl (Nat.le_trans (Nat.le_of_ble_eq_true rfl) hL) (by simp [lg_sl, w_cat, z_ci, z_cr, z_cl, z_cn, kt_M304]) (Nat.le_of_ble_eq_true rfl) h (fun w9 hle h => ?_) (fun _ _ _ h => kzx_no rfl h)
    have h := h hle
    have hlp1 := w_l_le hlp1 hle
    refine kz_goto (M := kt_M295) kX8_action_c7.2.2.2.2.2.2.1 (t := 418) rfl ?_
    exact kz_weak [(0, .ref (w_adr E.2.1 7 0))] ⟨rfl, trivial⟩ rfl (zt_X8_action_p418 hL  h)
  · skip
    refine kz_aload_n (M := kt_M295) kX8_action_c7.2.2.2.2.2.2.2.1 rfl ?_
    refine kz_aload_n (M := kt_M295) kX8_action_c8.1 rfl ?_
    refine kz_gfi (M := kt_M295) (c := 7) (o := 0) kX8_action_c8.2.1 wf_X8_108 (.inl rfl) ?_
    refine kz_if_ne (M := kt_M295) kX8_action_c8.2.2.1 (t := 218) rfl h (fun h => ?_) (fun h => ?_)
    · skip
      exact kz_weak [(0, .ref (w_adr E.2.1 7 0)), (1, va_rf (x1))] ⟨rfl, ⟨rfl, trivial⟩⟩ rfl (zt_X8_action_p218 hL  h)
    · skip
      refine kz_aload_nv (M := kt_M295) (x := x1) kX8_action_c8.2.2.2.1 rfl ?_
      refine kz_nz0 (x := x1) hxp1 ?_
      refine kz_gfp (M := kt_M295) (c := 14) (o := p1) kX8_action_c8.2.2.2.2.1 wf_X8_76 (.inr (by exact hlp1)) ?_
      refine kz_getsE (M := kt_M295) (v := va_rf (some (E.1.1 44))) kX8_action_c8.2.2.2.2.2.1 zs_X8_192 ?_
      refine kz_acmp_ne (M := kt_M295) (x := w_p w 14 p1 0) (y := some (E.1.1 44)) kX8_action_c8.2.2.2.2.2.2.1 (t := 222) rfl h (fun h => ?_) (fun h => ?_)
      · skip
        refine kz_ic (M := kt_M295) 0 kX8_action_c9.2.1 rfl ?_
        exact kz_weak [(0, .ref (w_adr E.2.1 7 0)), (1, va_rf (x1))] ⟨rfl, ⟨rfl, trivial⟩⟩ rfl (zt_X8_action_p223 hL  h)
      · skip
        exact kz_weak [(0, .ref (w_adr E.2.1 7 0)), (1, va_rf (x1))] ⟨rfl, ⟨rfl, trivial⟩⟩ rfl (zt_X8_action_p218 hL  h)
  · skip
    refine kz_aload_n (M := kt_M295) kX8_action_c7.2.2.2.2.2.2.2.1 rfl ?_
    refine kz_aload_n (M := kt_M295) kX8_action_c8.1 rfl ?_
    refine kz_gfi (M := kt_M295) (c := 7) (o := 0) kX8_action_c8.2.1 wf_X8_108 (.inl rfl) ?_
    refine kz_if_ne (M := kt_M295) kX8_action_c8.2.2.1 (t := 218) rfl h (fun h => ?_) (fun h => ?_)
    · skip
      exact kz_weak [(0, .ref (w_adr E.2.1 7 0)), (1, va_rf (x1))] ⟨rfl, ⟨rfl, trivial⟩⟩ rfl (zt_X8_action_p218 hL  h)
    · skip
      refine kz_aload_nv (M := kt_M295) (x := x1) kX8_action_c8.2.2.2.1 rfl ?_
      refine kz_nz0 (x := x1) hxp1 ?_
      refine kz_gfp (M := kt_M295) (c := 14) (o := p1) kX8_action_c8.2.2.2.2.1 wf_X8_76 (.inr (by exact hlp1)) ?_
      refine kz_getsE (M := kt_M295) (v := va_rf (some (E.1.1 44))) kX8_action_c8.2.2.2.2.2.1 zs_X8_192 ?_
      refine kz_acmp_ne (M := kt_M295) (x := w_p w 14 p1 0) (y := some (E.1.1 44)) kX8_action_c8.2.2.2.2.2.2.1 (t := 222) rfl h (fun h => ?_) (fun h => ?_)
      · skip
        refine kz_ic (M := kt_M295) 0 kX8_action_c9.2.1 rfl ?_
        exact kz_weak [(0, .ref (w_adr E.2.1 7 0)), (1, va_rf (x1))] ⟨rfl, ⟨rfl, trivial⟩⟩ rfl (zt_X8_action_p223 hL  h)
      · skip
        exact kz_weak [(0, .ref (w_adr E.2.1 7 0)), (1, va_rf (x1))] ⟨rfl, ⟨rfl, trivial⟩⟩ rfl (zt_X8_action_p218 hL  h)
  · skip
    refine kz_aload_nv (M := kt_M295) (x := x1) kX8_action_c11.2.2.2.2.1 rfl ?_
    refine kz_nz0 (x := x1) hxp1 ?_
    refine kz_gfp (M := kt_M295) (c := 14) (o := p1) kX8_action_c11.2.2.2.2.2.1 wf_X8_58 (.inr (by exact hlp1)) ?_
    refine kz_ifnull (M := kt_M295) (x := w_p w 14 p1 3) kX8_action_c11.2.2.2.2.2.2.1 (t := 274) rfl h (fun h => ?_) (fun h => ?_)
    · skip
      exact kz_weak [(0, .ref (w_adr E.2.1 7 0)), (1, va_rf (x1))] ⟨rfl, ⟨rfl, trivial⟩⟩ rfl (zt_X8_action_p274 hL  h)
    · skip
      refine kz_aload_n (M := kt_M295) kX8_action_c11.2.2.2.2.2.2.2.1 rfl ?_
      refine kz_aload_nv (M := kt_M295) (x := x1) kX8_action_c12.1 rfl ?_
      refine kz_nz0 (x := x1) hxp1 ?_
      refine kz_gfp (M := kt_M295) (c := 14) (o := p1) kX8_action_c12.2.1 wf_X8_58 (.inr (by exact hlp1)) ?_
      refine kz_cv0 (M := kt_M295) (c := 7) (o := 0) (As := [va_rf (w_p w 14 p1 3)]) (rest := []) kX8_action_c12.2.2.1 wl_X8_122 wMv_308 rfl (.inl rfl) rfl (Nat.le_trans (Nat.le_of_ble_eq_true rfl) hL) (by simp [lg_sl, w_cat, z_ci, z_cr, z_cl, z_cn, kt_M308]) (Nat.le_of_ble_eq_true rfl) h (fun w11 hle h => ?_) (fun _ _ _ h => kzx_no rfl h)
      have h := h hle
      have hlp1 := w_l_le hlp1 hle
      exact kz_weak [(0, .ref (w_adr E.2.1 7 0)), (1, va_rf (x1))] ⟨rfl, ⟨rfl, trivial⟩⟩ rfl (zt_X8_action_p274 hL  h)
  · skip
    refine kz_aload_nv (M := kt_M295) (x := x1) kX8_action_c11.2.2.2.2.1 rfl ?_
    refine kz_nz0 (x := x1) hxp1 ?_
    refine kz_gfp (M := kt_M295) (c := 14) (o := p1) kX8_action_c11.2.2.2.2.2.1 wf_X8_58 (.inr (by exact hlp1)) ?_
    refine kz_ifnull (M := kt_M295) (x := w_p w 14 p1 3) kX8_action_c11.2.2.2.2.2.2.1 (t := 274) rfl h (fun h => ?_) (fun h => ?_)
    · skip
      exact kz_weak [(0, .ref (w_adr E.2.1 7 0)), (1, va_rf (x1))] ⟨rfl, ⟨rfl, trivial⟩⟩ rfl (zt_X8_action_p274 hL  h)
    · skip
      refine kz_aload_n (M := kt_M295) kX8_action_c11.2.2.2.2.2.2.2.1 rfl ?_
      refine kz_aload_nv (M := kt_M295) (x := x1) kX8_action_c12.1 rfl ?_
      refine kz_nz0 (x := x1) hxp1 ?_
      refine kz_gfp (M := kt_M295) (c := 14) (o := p1) kX8_action_c12.2.1 wf_X8_58 (.inr (by exact hlp1)) ?_
      refine kz_cv0 (M := kt_M295) (c := 7) (o := 0) (As := [va_rf (w_p w 14 p1 3)]) (rest := []) kX8_action_c12.2.2.1 wl_X8_122 wMv_308 rfl (.inl rfl) rfl (Nat.le_trans (Nat.le_of_ble_eq_true rfl) hL) (by simp [lg_sl, w_cat, z_ci, z_cr, z_cl, z_cn, kt_M308]) (Nat.le_of_ble_eq_true rfl) h (fun w13 hle h => ?_) (fun _ _ _ h => kzx_no rfl h)
      have h := h hle
      have hlp1 := w_l_le hlp1 hle
      exact kz_weak [(0, .ref (w_adr E.2.1 7 0)), (1, va_rf (x1))] ⟨rfl, ⟨rfl, trivial⟩⟩ rfl (zt_X8_action_p274 hL  h)
  · skip
    refine kz_aload_n (M := kt_M295) kX8_action_c15.2.1 rfl ?_
    refine kz_aload_nv (M := kt_M295) (x := x1) kX8_action_c15.2.2.1 rfl ?_
    refine kz_nz0 (x := x1) hxp1 ?_
    refine kz_gfp (M := kt_M295) (c := 14) (o := p1) kX8_action_c15.2.2.2.1 wf_X8_58 (.inr (by exact hlp1)) ?_
    refine kz_cv0 (M := kt_M295) (c := 7) (o := 0) (As := [va_rf (w_p w 14 p1 3)]) (rest := []) kX8_action_c15.2.2.2.2.1 wl_X8_122 wMv_308 rfl (.inl rfl) rfl (Nat.le_trans (Nat.le_of_ble_eq_true rfl) hL) (by simp [lg_sl, w_cat, z_ci, z_cr, z_cl, z_cn, kt_M308]) (Nat.le_of_ble_eq_true rfl) h (fun w15 hle h => ?_) (fun _ _ _ h => kzx_no rfl h)
    have h := h hle
    have hlp1 := w_l_le hlp1 hle
    refine kz_aload_n (M := kt_M295) kX8_action_c15.2.2.2.2.2.1 rfl ?_
    refine kz_aload_nv (M := kt_M295) (x := x1) kX8_action_c15.2.2.2.2.2.2.1 rfl ?_
    refine kz_nz0 (x := x1) hxp1 ?_
    refine kz_gfp (M := kt_M295) (c := 14) (o := p1) kX8_action_c15.2.2.2.2.2.2.2.1 wf_X8_70 (.inr (by exact hlp1)) ?_
    refine kz_cv0 (M := kt_M295) (c := 7) (o := 0) (As := [va_rf (w_p w15 14 p1 4)]) (rest := []) kX8_action_c16.1 wl_X8_119 wMv_321 rfl (.inl rfl) rfl (Nat.le_trans (Nat.le_of_ble_eq_true rfl) hL) (by simp [lg_sl, w_cat, z_ci, z_cr, z_cl, z_cn, kt_M321]) (Nat.le_of_ble_eq_true rfl) h (fun w17 hle h => ?_) (fun _ _ _ h => kzx_no rfl h)
    have h := h hle
    have hlp1 := w_l_le hlp1 hle
    refine kz_goto (M := kt_M295) kX8_action_c16.2.1 (t := 418) rfl ?_
    exact kz_weak [(0, .ref (w_adr E.2.1 7 0))] ⟨rfl, trivial⟩ rfl (zt_X8_action_p418 hL  h)
  · skip
    refine kz_aload_n (M := kt_M295) kX8_action_c16.2.2.1 rfl ?_
    refine kz_ic (M := kt_M295) 1 kX8_action_c16.2.2.2.1 rfl ?_
    refine kz_pfz (M := kt_M295) (c := 7) (o := 0) kX8_action_c16.2.2.2.2.1 wq_X8_108 (.inl rfl) (by decide) ?_
    refine kz_aload_n (M := kt_M295) kX8_action_c16.2.2.2.2.2.1 rfl ?_
    refine kz_aload_nv (M := kt_M295) (x := x1) kX8_action_c16.2.2.2.2.2.2.1 rfl ?_
    refine kz_nz0 (x := x1) hxp1 ?_
    refine kz_gfpR (M := kt_M295) (c := 14) (o := p1) (w_p w 14 p1 3) kX8_action_c16.2.2.2.2.2.2.2.1 wf_X8_58 (.inr (by exact hlp1)) rd_p_i ?_
    refine kz_cv0 (M := kt_M295) (c := 7) (o := 0) (As := [va_rf (w_p w 14 p1 3)]) (rest := []) kX8_action_c17.1 wl_X8_318 wMv_323 rfl (.inl rfl) rfl (Nat.le_trans (Nat.le_of_ble_eq_true rfl) hL) (by simp [lg_sl, w_cat, z_ci, z_cr, z_cl, z_cn, kt_M323]) (Nat.le_of_ble_eq_true rfl) h (fun w19 hle h => ?_) (fun _ _ _ h => kzx_no rfl h)
    have h := h hle
    have hlp1 := w_l_le hlp1 hle
    refine kz_aload_nv (M := kt_M295) (x := x1) kX8_action_c17.2.1 rfl ?_
    refine kz_nz0 (x := x1) hxp1 ?_
    refine kz_gfp (M := kt_M295) (c := 14) (o := p1) kX8_action_c17.2.2.1 wf_X8_70 (.inr (by exact hlp1)) ?_
    refine kz_stv_n (M := kt_M295) (x := w_p w19 14 p1 4) [(0, .ref (w_adr E.2.1 7 0))] kX8_action_c17.2.2.2.1 (Nat.le_of_ble_eq_true rfl) ⟨⟨rfl, rfl, .inl rfl⟩, trivial⟩ rfl ?_
    exact kz_weak [(0, .ref (w_adr E.2.1 7 0)), (2, va_rf (w_p w19 14 p1 4))] ⟨rfl, ⟨rfl, trivial⟩⟩ rfl h
  · skip
    exact kz_weak [(0, .ref (w_adr E.2.1 7 0))] ⟨rfl, trivial⟩ rfl (zt_X8_action_p418 hL  h)
