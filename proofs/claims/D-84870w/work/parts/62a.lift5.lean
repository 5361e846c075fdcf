/-! ===== methods over the typed state (printed by tools/gen_lift.py) ===== -/
set_option maxRecDepth 100000
theorem zc_X5_455 {adE adK adV : Nat → Nat} {zr : Nat → Value} {b L0 : Nat} {xs : Nat → Int32} {lo : Nat} : kx_ci (kw_V adE adK adV zr b L0 xs lo) "MeetingHouse$Parser" 455 = some 2147483647 := by
  show kt_get kt_ciA "MeetingHouse$Parser" 455 = _
  decide +kernel
theorem zc_X5_456 {adE adK adV : Nat → Nat} {zr : Nat → Value} {b L0 : Nat} {xs : Nat → Int32} {lo : Nat} : kx_ci (kw_V adE adK adV zr b L0 xs lo) "MeetingHouse$Parser" 456 = some (-2147483648) := by
  show kt_get kt_ciA "MeetingHouse$Parser" 456 = _
  decide +kernel
theorem zs_X5_104 {E : zE} : ∃ r n d, kx_fl (zV E) "MeetingHouse$Parser" 104 = some (r, n, d) ∧ kx_sv (zV E) r n d = some (va_rf (some (E.1.1 8))) := ⟨_, _, _, (show kt_get kt_flA "MeetingHouse$Parser" 104 = some ("MeetingHouse$Sort", "END", "LMeetingHouse$Sort;") from by decide +kernel), kx_sv_E.trans (kw_sv_en zen_8)⟩
theorem zs_X5_116 {E : zE} : ∃ r n d, kx_fl (zV E) "MeetingHouse$Parser" 116 = some (r, n, d) ∧ kx_sv (zV E) r n d = some (va_rf (some (E.1.1 2))) := ⟨_, _, _, (show kt_get kt_flA "MeetingHouse$Parser" 116 = some ("MeetingHouse$Sort", "NUMBER", "LMeetingHouse$Sort;") from by decide +kernel), kx_sv_E.trans (kw_sv_en zen_2)⟩
theorem zs_X5_122 {E : zE} : ∃ r n d, kx_fl (zV E) "MeetingHouse$Parser" 122 = some (r, n, d) ∧ kx_sv (zV E) r n d = some (va_rf (some (E.1.1 3))) := ⟨_, _, _, (show kt_get kt_flA "MeetingHouse$Parser" 122 = some ("MeetingHouse$Sort", "STRING", "LMeetingHouse$Sort;") from by decide +kernel), kx_sv_E.trans (kw_sv_en zen_3)⟩
theorem zs_X5_146 {E : zE} : ∃ r n d, kx_fl (zV E) "MeetingHouse$Parser" 146 = some (r, n, d) ∧ kx_sv (zV E) r n d = some (va_rf (some (E.1.1 9))) := ⟨_, _, _, (show kt_get kt_flA "MeetingHouse$Parser" 146 = some ("MeetingHouse$Kind", "PROCESS", "LMeetingHouse$Kind;") from by decide +kernel), kx_sv_E.trans (kw_sv_en zen_9)⟩
theorem zs_X5_171 {E : zE} : ∃ r n d, kx_fl (zV E) "MeetingHouse$Parser" 171 = some (r, n, d) ∧ kx_sv (zV E) r n d = some (va_rf (some (E.1.1 10))) := ⟨_, _, _, (show kt_get kt_flA "MeetingHouse$Parser" 171 = some ("MeetingHouse$Kind", "VARIABLES", "LMeetingHouse$Kind;") from by decide +kernel), kx_sv_E.trans (kw_sv_en zen_10)⟩
theorem zs_X5_208 {E : zE} : ∃ r n d, kx_fl (zV E) "MeetingHouse$Parser" 208 = some (r, n, d) ∧ kx_sv (zV E) r n d = some (va_rf (some (E.1.1 26))) := ⟨_, _, _, (show kt_get kt_flA "MeetingHouse$Parser" 208 = some ("MeetingHouse$Kind", "CHANNELS", "LMeetingHouse$Kind;") from by decide +kernel), kx_sv_E.trans (kw_sv_en zen_26)⟩
theorem zs_X5_211 {E : zE} : ∃ r n d, kx_fl (zV E) "MeetingHouse$Parser" 211 = some (r, n, d) ∧ kx_sv (zV E) r n d = some (va_rf (some (E.1.1 27))) := ⟨_, _, _, (show kt_get kt_flA "MeetingHouse$Parser" 211 = some ("MeetingHouse$Kind", "TIMERS", "LMeetingHouse$Kind;") from by decide +kernel), kx_sv_E.trans (kw_sv_en zen_27)⟩
theorem zs_X5_232 {E : zE} : ∃ r n d, kx_fl (zV E) "MeetingHouse$Parser" 232 = some (r, n, d) ∧ kx_sv (zV E) r n d = some (va_rf (some (E.1.1 13))) := ⟨_, _, _, (show kt_get kt_flA "MeetingHouse$Parser" 232 = some ("MeetingHouse$Kind", "NAME", "LMeetingHouse$Kind;") from by decide +kernel), kx_sv_E.trans (kw_sv_en zen_13)⟩
theorem zs_X5_282 {E : zE} : ∃ r n d, kx_fl (zV E) "MeetingHouse$Parser" 282 = some (r, n, d) ∧ kx_sv (zV E) r n d = some (va_rf (some (E.1.1 11))) := ⟨_, _, _, (show kt_get kt_flA "MeetingHouse$Parser" 282 = some ("MeetingHouse$Kind", "FUNCTION", "LMeetingHouse$Kind;") from by decide +kernel), kx_sv_E.trans (kw_sv_en zen_11)⟩
theorem zs_X5_291 {E : zE} : ∃ r n d, kx_fl (zV E) "MeetingHouse$Parser" 291 = some (r, n, d) ∧ kx_sv (zV E) r n d = some (va_rf (some (E.1.1 12))) := ⟨_, _, _, (show kt_get kt_flA "MeetingHouse$Parser" 291 = some ("MeetingHouse$Kind", "FORMAL", "LMeetingHouse$Kind;") from by decide +kernel), kx_sv_E.trans (kw_sv_en zen_12)⟩
theorem zs_X5_364 {E : zE} : ∃ r n d, kx_fl (zV E) "MeetingHouse$Parser" 364 = some (r, n, d) ∧ kx_sv (zV E) r n d = some (va_rf (some (E.1.1 18))) := ⟨_, _, _, (show kt_get kt_flA "MeetingHouse$Parser" 364 = some ("MeetingHouse$Kind", "ELEMENT", "LMeetingHouse$Kind;") from by decide +kernel), kx_sv_E.trans (kw_sv_en zen_18)⟩
theorem zs_X5_410 {E : zE} : ∃ r n d, kx_fl (zV E) "MeetingHouse$Parser" 410 = some (r, n, d) ∧ kx_sv (zV E) r n d = some (va_rf (some (E.1.1 14))) := ⟨_, _, _, (show kt_get kt_flA "MeetingHouse$Parser" 410 = some ("MeetingHouse$Kind", "ONE", "LMeetingHouse$Kind;") from by decide +kernel), kx_sv_E.trans (kw_sv_en zen_14)⟩
theorem zs_X5_423 {E : zE} : ∃ r n d, kx_fl (zV E) "MeetingHouse$Parser" 423 = some (r, n, d) ∧ kx_sv (zV E) r n d = some (va_rf (some (E.1.1 24))) := ⟨_, _, _, (show kt_get kt_flA "MeetingHouse$Parser" 423 = some ("MeetingHouse$Kind", "TWO", "LMeetingHouse$Kind;") from by decide +kernel), kx_sv_E.trans (kw_sv_en zen_24)⟩
theorem zs_X5_426 {E : zE} : ∃ r n d, kx_fl (zV E) "MeetingHouse$Parser" 426 = some (r, n, d) ∧ kx_sv (zV E) r n d = some (va_rf (some (E.1.1 23))) := ⟨_, _, _, (show kt_get kt_flA "MeetingHouse$Parser" 426 = some ("MeetingHouse$Kind", "CHAIN", "LMeetingHouse$Kind;") from by decide +kernel), kx_sv_E.trans (kw_sv_en zen_23)⟩
theorem zs_X5_429 {E : zE} : ∃ r n d, kx_fl (zV E) "MeetingHouse$Parser" 429 = some (r, n, d) ∧ kx_sv (zV E) r n d = some (va_rf (some (E.1.1 15))) := ⟨_, _, _, (show kt_get kt_flA "MeetingHouse$Parser" 429 = some ("MeetingHouse$Kind", "NUMBER", "LMeetingHouse$Kind;") from by decide +kernel), kx_sv_E.trans (kw_sv_en zen_15)⟩
theorem zs_X5_434 {E : zE} : ∃ r n d, kx_fl (zV E) "MeetingHouse$Parser" 434 = some (r, n, d) ∧ kx_sv (zV E) r n d = some (va_rf (some (E.1.1 16))) := ⟨_, _, _, (show kt_get kt_flA "MeetingHouse$Parser" 434 = some ("MeetingHouse$Kind", "STRING", "LMeetingHouse$Kind;") from by decide +kernel), kx_sv_E.trans (kw_sv_en zen_16)⟩
theorem zs_X5_436 {E : zE} : ∃ r n d, kx_fl (zV E) "MeetingHouse$Parser" 436 = some (r, n, d) ∧ kx_sv (zV E) r n d = some (va_rf (some (E.1.1 17))) := ⟨_, _, _, (show kt_get kt_flA "MeetingHouse$Parser" 436 = some ("MeetingHouse$Kind", "CHARACTER", "LMeetingHouse$Kind;") from by decide +kernel), kx_sv_E.trans (kw_sv_en zen_17)⟩
theorem zs_X5_444 {E : zE} : ∃ r n d, kx_fl (zV E) "MeetingHouse$Parser" 444 = some (r, n, d) ∧ kx_sv (zV E) r n d = some (va_rf (some (E.1.1 19))) := ⟨_, _, _, (show kt_get kt_flA "MeetingHouse$Parser" 444 = some ("MeetingHouse$Kind", "APPLY", "LMeetingHouse$Kind;") from by decide +kernel), kx_sv_E.trans (kw_sv_en zen_19)⟩
theorem zs_X5_450 {E : zE} : ∃ r n d, kx_fl (zV E) "MeetingHouse$Parser" 450 = some (r, n, d) ∧ kx_sv (zV E) r n d = some (va_rf (some (E.1.1 20))) := ⟨_, _, _, (show kt_get kt_flA "MeetingHouse$Parser" 450 = some ("MeetingHouse$Kind", "TRUTH", "LMeetingHouse$Kind;") from by decide +kernel), kx_sv_E.trans (kw_sv_en zen_20)⟩
theorem zs_X5_457 {E : zE} : ∃ r n d, kx_fl (zV E) "MeetingHouse$Parser" 457 = some (r, n, d) ∧ kx_sv (zV E) r n d = some (va_rf (some (E.1.1 21))) := ⟨_, _, _, (show kt_get kt_flA "MeetingHouse$Parser" 457 = some ("MeetingHouse$Kind", "CONVERSION", "LMeetingHouse$Kind;") from by decide +kernel), kx_sv_E.trans (kw_sv_en zen_21)⟩
theorem zs_X5_460 {E : zE} : ∃ r n d, kx_fl (zV E) "MeetingHouse$Parser" 460 = some (r, n, d) ∧ kx_sv (zV E) r n d = some (va_rf (some (E.1.1 22))) := ⟨_, _, _, (show kt_get kt_flA "MeetingHouse$Parser" 460 = some ("MeetingHouse$Kind", "TABLE", "LMeetingHouse$Kind;") from by decide +kernel), kx_sv_E.trans (kw_sv_en zen_22)⟩
theorem zs_X5_52 {E : zE} : ∃ r n d, kx_fl (zV E) "MeetingHouse$Parser" 52 = some (r, n, d) ∧ kx_sv (zV E) r n d = some (va_rf (some (E.1.1 6))) := ⟨_, _, _, (show kt_get kt_flA "MeetingHouse$Parser" 52 = some ("MeetingHouse$Sort", "BAD", "LMeetingHouse$Sort;") from by decide +kernel), kx_sv_E.trans (kw_sv_en zen_6)⟩
theorem zs_X5_61 {E : zE} : ∃ r n d, kx_fl (zV E) "MeetingHouse$Parser" 61 = some (r, n, d) ∧ kx_sv (zV E) r n d = some (va_rf (some (E.1.1 0))) := ⟨_, _, _, (show kt_get kt_flA "MeetingHouse$Parser" 61 = some ("MeetingHouse$Sort", "WORD", "LMeetingHouse$Sort;") from by decide +kernel), kx_sv_E.trans (kw_sv_en zen_0)⟩
theorem zs_X5_64 {E : zE} : ∃ r n d, kx_fl (zV E) "MeetingHouse$Parser" 64 = some (r, n, d) ∧ kx_sv (zV E) r n d = some (va_rf (some (E.1.1 5))) := ⟨_, _, _, (show kt_get kt_flA "MeetingHouse$Parser" 64 = some ("MeetingHouse$Sort", "SIGN", "LMeetingHouse$Sort;") from by decide +kernel), kx_sv_E.trans (kw_sv_en zen_5)⟩
theorem zs_X5_76 {E : zE} : ∃ r n d, kx_fl (zV E) "MeetingHouse$Parser" 76 = some (r, n, d) ∧ kx_sv (zV E) r n d = some (va_rf (some (E.1.1 1))) := ⟨_, _, _, (show kt_get kt_flA "MeetingHouse$Parser" 76 = some ("MeetingHouse$Sort", "NAME", "LMeetingHouse$Sort;") from by decide +kernel), kx_sv_E.trans (kw_sv_en zen_1)⟩
theorem wq_X5_125 {adE adK adV : Nat → Nat} {zr : Nat → Value} {b L0 : Nat} {xs : Nat → Int32} {lo : Nat} : wP (kw_V adE adK adV zr b L0 xs lo) wG "MeetingHouse$Parser" 125 14 7 2 (.object "MeetingHouse$Node") := wPb_ok (by decide +kernel) wf_X5_125 (r := "MeetingHouse$Node") (n := "next") (d := "LMeetingHouse$Node;") (by decide +kernel) (by decide +kernel)
theorem wq_X5_130 {adE adK adV : Nat → Nat} {zr : Nat → Value} {b L0 : Nat} {xs : Nat → Int32} {lo : Nat} : wP (kw_V adE adK adV zr b L0 xs lo) wG "MeetingHouse$Parser" 130 4 5 0 .int := wPb_ok (by decide +kernel) wf_X5_130 (r := "MeetingHouse$Parser") (n := "declared") (d := "I") (by decide +kernel) (by decide +kernel)
theorem wq_X5_162 {adE adK adV : Nat → Nat} {zr : Nat → Value} {b L0 : Nat} {xs : Nat → Int32} {lo : Nat} : wP (kw_V adE adK adV zr b L0 xs lo) wG "MeetingHouse$Parser" 162 14 3 2 (.object "MeetingHouse$Node") := wPb_ok (by decide +kernel) wf_X5_162 (r := "MeetingHouse$Node") (n := "a") (d := "LMeetingHouse$Node;") (by decide +kernel) (by decide +kernel)
theorem wq_X5_168 {adE adK adV : Nat → Nat} {zr : Nat → Value} {b L0 : Nat} {xs : Nat → Int32} {lo : Nat} : wP (kw_V adE adK adV zr b L0 xs lo) wG "MeetingHouse$Parser" 168 14 4 2 (.object "MeetingHouse$Node") := wPb_ok (by decide +kernel) wf_X5_168 (r := "MeetingHouse$Node") (n := "b") (d := "LMeetingHouse$Node;") (by decide +kernel) (by decide +kernel)
theorem wq_X5_177 {adE adK adV : Nat → Nat} {zr : Nat → Value} {b L0 : Nat} {xs : Nat → Int32} {lo : Nat} : wP (kw_V adE adK adV zr b L0 xs lo) wG "MeetingHouse$Parser" 177 14 8 0 .int := wPb_ok (by decide +kernel) wf_X5_177 (r := "MeetingHouse$Node") (n := "word") (d := "I") (by decide +kernel) (by decide +kernel)
theorem wq_X5_191 {adE adK adV : Nat → Nat} {zr : Nat → Value} {b L0 : Nat} {xs : Nat → Int32} {lo : Nat} : wP (kw_V adE adK adV zr b L0 xs lo) wG "MeetingHouse$Parser" 191 14 13 0 .boolean := wPb_ok (by decide +kernel) wf_X5_191 (r := "MeetingHouse$Node") (n := "open") (d := "Z") (by decide +kernel) (by decide +kernel)
theorem wq_X5_205 {adE adK adV : Nat → Nat} {zr : Nat → Value} {b L0 : Nat} {xs : Nat → Int32} {lo : Nat} : wP (kw_V adE adK adV zr b L0 xs lo) wG "MeetingHouse$Parser" 205 14 14 0 .boolean := wPb_ok (by decide +kernel) wf_X5_205 (r := "MeetingHouse$Node") (n := "channel") (d := "Z") (by decide +kernel) (by decide +kernel)
theorem wq_X5_214 {adE adK adV : Nat → Nat} {zr : Nat → Value} {b L0 : Nat} {xs : Nat → Int32} {lo : Nat} : wP (kw_V adE adK adV zr b L0 xs lo) wG "MeetingHouse$Parser" 214 14 0 2 (.object "MeetingHouse$Kind") := wPb_ok (by decide +kernel) wf_X5_214 (r := "MeetingHouse$Node") (n := "kind") (d := "LMeetingHouse$Kind;") (by decide +kernel) (by decide +kernel)
theorem wq_X5_234 {adE adK adV : Nat → Nat} {zr : Nat → Value} {b L0 : Nat} {xs : Nat → Int32} {lo : Nat} : wP (kw_V adE adK adV zr b L0 xs lo) wG "MeetingHouse$Parser" 234 14 5 2 (.object "MeetingHouse$Node") := wPb_ok (by decide +kernel) wf_X5_234 (r := "MeetingHouse$Node") (n := "c") (d := "LMeetingHouse$Node;") (by decide +kernel) (by decide +kernel)
theorem wq_X5_240 {adE adK adV : Nat → Nat} {zr : Nat → Value} {b L0 : Nat} {xs : Nat → Int32} {lo : Nat} : wP (kw_V adE adK adV zr b L0 xs lo) wG "MeetingHouse$Parser" 240 14 9 0 .int := wPb_ok (by decide +kernel) wf_X5_240 (r := "MeetingHouse$Node") (n := "name") (d := "I") (by decide +kernel) (by decide +kernel)
theorem wq_X5_285 {adE adK adV : Nat → Nat} {zr : Nat → Value} {b L0 : Nat} {xs : Nat → Int32} {lo : Nat} : wP (kw_V adE adK adV zr b L0 xs lo) wG "MeetingHouse$Parser" 285 14 11 0 .boolean := wPb_ok (by decide +kernel) wf_X5_285 (r := "MeetingHouse$Node") (n := "flag") (d := "Z") (by decide +kernel) (by decide +kernel)
theorem wq_X5_288 {adE adK adV : Nat → Nat} {zr : Nat → Value} {b L0 : Nat} {xs : Nat → Int32} {lo : Nat} : wP (kw_V adE adK adV zr b L0 xs lo) wG "MeetingHouse$Parser" 288 14 6 2 (.object "MeetingHouse$Node") := wPb_ok (by decide +kernel) wf_X5_288 (r := "MeetingHouse$Node") (n := "d") (d := "LMeetingHouse$Node;") (by decide +kernel) (by decide +kernel)
theorem wq_X5_29 {adE adK adV : Nat → Nat} {zr : Nat → Value} {b L0 : Nat} {xs : Nat → Int32} {lo : Nat} : wP (kw_V adE adK adV zr b L0 xs lo) wG "MeetingHouse$Parser" 29 4 3 0 .int := wPb_ok (by decide +kernel) wf_X5_29 (r := "MeetingHouse$Parser") (n := "at") (d := "I") (by decide +kernel) (by decide +kernel)
theorem wq_X5_294 {adE adK adV : Nat → Nat} {zr : Nat → Value} {b L0 : Nat} {xs : Nat → Int32} {lo : Nat} : wP (kw_V adE adK adV zr b L0 xs lo) wG "MeetingHouse$Parser" 294 14 15 0 .boolean := wPb_ok (by decide +kernel) wf_X5_294 (r := "MeetingHouse$Node") (n := "val") (d := "Z") (by decide +kernel) (by decide +kernel)
theorem wq_X5_297 {adE adK adV : Nat → Nat} {zr : Nat → Value} {b L0 : Nat} {xs : Nat → Int32} {lo : Nat} : wP (kw_V adE adK adV zr b L0 xs lo) wG "MeetingHouse$Parser" 297 14 1 0 .int := wPb_ok (by decide +kernel) wf_X5_297 (r := "MeetingHouse$Node") (n := "token") (d := "I") (by decide +kernel) (by decide +kernel)
theorem wq_X5_367 {adE adK adV : Nat → Nat} {zr : Nat → Value} {b L0 : Nat} {xs : Nat → Int32} {lo : Nat} : wP (kw_V adE adK adV zr b L0 xs lo) wG "MeetingHouse$Parser" 367 14 12 0 .boolean := wPb_ok (by decide +kernel) wf_X5_367 (r := "MeetingHouse$Node") (n := "bracketed") (d := "Z") (by decide +kernel) (by decide +kernel)
theorem wq_X5_370 {adE adK adV : Nat → Nat} {zr : Nat → Value} {b L0 : Nat} {xs : Nat → Int32} {lo : Nat} : wP (kw_V adE adK adV zr b L0 xs lo) wG "MeetingHouse$Parser" 370 14 10 0 .int := wPb_ok (by decide +kernel) wf_X5_370 (r := "MeetingHouse$Node") (n := "number") (d := "I") (by decide +kernel) (by decide +kernel)
theorem wq_X5_441 {adE adK adV : Nat → Nat} {zr : Nat → Value} {b L0 : Nat} {xs : Nat → Int32} {lo : Nat} : wP (kw_V adE adK adV zr b L0 xs lo) wG "MeetingHouse$Parser" 441 14 18 0 .int := wPb_ok (by decide +kernel) wf_X5_441 (r := "MeetingHouse$Node") (n := "many") (d := "I") (by decide +kernel) (by decide +kernel)
theorem wq_X5_97 {adE adK adV : Nat → Nat} {zr : Nat → Value} {b L0 : Nat} {xs : Nat → Int32} {lo : Nat} : wP (kw_V adE adK adV zr b L0 xs lo) wG "MeetingHouse$Parser" 97 4 4 0 .int := wPb_ok (by decide +kernel) wf_X5_97 (r := "MeetingHouse$Parser") (n := "open") (d := "I") (by decide +kernel) (by decide +kernel)
def zb_X5_program_p42 (E : zE) (L : Nat) (Q : kx_Rs → wS → Prop) (x1 : Option Nat) (w : wS) : Prop := Q (.inl (some (va_rf (x1)))) w
theorem zt_X5_program_p42 {E : zE} {L : Nat} {Q : kx_Rs → wS → Prop} {x1 : Option Nat} {w : wS} (hL : 23 ≤ L) (h : zb_X5_program_p42 E L Q x1 w) : kzE E L kt_M204 42 [(0, .ref (w_adr E.2.1 4 0)), (1, va_rf (x1))] [] w Q := by
  unfold zb_X5_program_p42 at h
  refine kz_aload_nv (M := kt_M204) (x := x1) kX5_program_c2.2.2.2.2.2.2.1 rfl ?_
  exact kz_areto (x := x1) (M := kt_M204) kX5_program_c2.2.2.2.2.2.2.2.1 rfl h
def zb_X5_program_p0 (E : zE) (L : Nat) (Q : kx_Rs → wS → Prop) (w : wS) : Prop := zw E (L - 20) kt_M191 [.ref (w_adr E.2.1 4 0)] (ws_i (ws_i w 4 0 3 0) 4 0 5 0) (wk0 (fun w1 => wle (ws_i (ws_i w 4 0 3 0) 4 0 5 0) w1 → zw E (L - 23) kt_M202 [.ref (w_adr E.2.1 4 0), .int 0] w1 (wkr (fun v4 w3 => wle w1 w3 → (kx_inb (w_i w3 4 0 3) (w_n w3 1 0 2) = true ∧ (if w_r w3 1 0 2 (w_i w3 4 0 3).toNatClampNeg = some (E.1.1 8) then zb_X5_program_p42 E L Q v4 w3 else zw E (L - 20) kt_M213 [.ref (w_adr E.2.1 4 0)] w3 (wk0 (fun w5 => wle w3 w5 → zb_X5_program_p42 E L Q v4 w5) (fun e w => Q (.inr e) w))))) (fun e w => Q (.inr e) w))) (fun e w => Q (.inr e) w))
theorem zt_X5_program_p0 {E : zE} {L : Nat} {Q : kx_Rs → wS → Prop} {w : wS} (hL : 23 ≤ L) (h : zb_X5_program_p0 E L Q  w) : kzE E L kt_M204 0 [(0, .ref (w_adr E.2.1 4 0))] [] w Q := by
  unfold zb_X5_program_p0 at h
  refine kz_aload_n (M := kt_M204) kX5_program_c0.1 rfl ?_
  refine kz_ic (M := kt_M204) 0 kX5_program_c0.2.1 rfl ?_
  refine kz_pfi (M := kt_M204) (c := 4) (o := 0) kX5_program_c0.2.2.1 wq_X5_29 (.inl rfl) ?_
  refine kz_aload_n (M := kt_M204) kX5_program_c0.2.2.2.1 rfl ?_
  refine kz_ic (M := kt_M204) 0 kX5_program_c0.2.2.2.2.1 rfl ?_
  refine kz_pfi (M := kt_M204) (c := 4) (o := 0) kX5_program_c0.2.2.2.2.2.1 wq_X5_130 (.inl rfl) ?_
  refine kz_aload_n (M := kt_M204) kX5_program_c0.2.2.2.2.2.2.1 rfl ?_
  refine kz_cv0 (M := kt_M204) (c := 4) (o := 0) (As := []) (rest := []) kX5_program_c0.2.2.2.2.2.2.2.1 wl_X5_58 wMv_191 rfl (.inl rfl) rfl (Nat.le_trans (Nat.le_of_ble_eq_true rfl) hL) (Nat.le_of_ble_eq_true rfl) (Nat.le_of_ble_eq_true rfl) h (fun w1 hle h => ?_) (fun _ _ _ h => kzx_no rfl h)
  have h := h hle
  refine kz_aload_n (M := kt_M204) kX5_program_c1.1 rfl ?_
  refine kz_ic (M := kt_M204) 0 kX5_program_c1.2.1 rfl ?_
  refine kz_cvr (M := kt_M204) (c := 4) (o := 0) (As := [.int 0]) (rest := []) kX5_program_c1.2.2.1 wl_X5_133 wMv_202 rfl (.inl rfl) rfl (Nat.le_trans (Nat.le_of_ble_eq_true rfl) hL) (Nat.le_of_ble_eq_true rfl) (Nat.le_of_ble_eq_true rfl) h (fun v4 w3 hle h => ?_) (fun _ _ _ h => kzx_no rfl h)
  have h := h hle
  refine kz_stv_n (M := kt_M204) (x := v4) [(0, .ref (w_adr E.2.1 4 0))] kX5_program_c1.2.2.2.1 (Nat.le_of_ble_eq_true rfl) ⟨⟨rfl, rfl, .inr rfl⟩, trivial⟩ rfl ?_
  refine kz_aload_n (M := kt_M204) kX5_program_c1.2.2.2.2.1 rfl ?_
  refine kz_gfc (M := kt_M204) (x := 4) (c := 4) (o := 0) kX5_program_c1.2.2.2.2.2.1 wf_X5_9 (.inl rfl) ?_
  refine kz_gfc (M := kt_M204) (x := 1258) (c := 1) (o := 0) kX5_program_c1.2.2.2.2.2.2.1 wf_X5_48 (.inl rfl) ?_
  refine kz_aload_n (M := kt_M204) kX5_program_c1.2.2.2.2.2.2.2.1 rfl ?_
  refine kz_gfi (M := kt_M204) (c := 4) (o := 0) kX5_program_c2.1 wf_X5_29 (.inl rfl) ?_
  refine kz_aald (M := kt_M204) (τ := 0) (c := 1) (o := 0) (k := 2) (a := (E.2.1 1258)) kX5_program_c2.2.1 ow_1_0_2 oa_1_0_2 ot_4 rfl h (fun h => ?_)
  refine kz_getsE (M := kt_M204) (v := va_rf (some (E.1.1 8))) kX5_program_c2.2.2.1 zs_X5_104 ?_
  refine kz_acmp_eq (M := kt_M204) (x := w_r w3 1 0 2 (w_i w3 4 0 3).toNatClampNeg) (y := some (E.1.1 8)) kX5_program_c2.2.2.2.1 (t := 42) rfl h (fun h => ?_) (fun h => ?_)
  · skip
    exact kz_weak [(0, .ref (w_adr E.2.1 4 0)), (1, va_rf (v4))] ⟨rfl, ⟨rfl, trivial⟩⟩ rfl (zt_X5_program_p42 hL  h)
  · skip
    refine kz_aload_n (M := kt_M204) kX5_program_c2.2.2.2.2.1 rfl ?_
    refine kz_cv0 (M := kt_M204) (c := 4) (o := 0) (As := []) (rest := []) kX5_program_c2.2.2.2.2.2.1 wl_X5_82 wMv_213 rfl (.inl rfl) rfl (Nat.le_trans (Nat.le_of_ble_eq_true rfl) hL) (Nat.le_of_ble_eq_true rfl) (Nat.le_of_ble_eq_true rfl) h (fun w5 hle h => ?_) (fun _ _ _ h => kzx_no rfl h)
    have h := h hle
    exact kz_weak [(0, .ref (w_adr E.2.1 4 0)), (1, va_rf (v4))] ⟨rfl, ⟨rfl, trivial⟩⟩ rfl (zt_X5_program_p42 hL  h)
def zb_X5_look_p30 (E : zE) (L : Nat) (Q : kx_Rs → wS → Prop) (w : wS) : Prop := Q (.inl none) w
theorem zt_X5_look_p30 {E : zE} {L : Nat} {Q : kx_Rs → wS → Prop} {w : wS} (hL : 22 ≤ L) (h : zb_X5_look_p30 E L Q  w) : kzE E L kt_M191 30 [(0, .ref (w_adr E.2.1 4 0))] [] w Q := by
  unfold zb_X5_look_p30 at h
  exact kz_ret (M := kt_M191) kX5_look_c1.2.2.2.2.2.2.1 rfl h
def zb_X5_look_p0 (E : zE) (L : Nat) (Q : kx_Rs → wS → Prop) (w : wS) : Prop := (kx_inb (w_i w 4 0 3) (w_n w 1 0 2) = true ∧ (if ¬ w_r w 1 0 2 (w_i w 4 0 3).toNatClampNeg = some (E.1.1 6) then zb_X5_look_p30 E L Q w else zw E (L - 20) kt_M189 [.ref (w_adr E.2.1 4 0)] w (wk1 (fun v2 w1 => wle w w1 → zw E (L - 22) kt_M55 [.ref (w_adr E.2.1 2 0), .int 1, .int v2] w1 (wk0 (fun w3 => wle w1 w3 → zb_X5_look_p30 E L Q w3) (fun e w => Q (.inr e) w))) (fun e w => Q (.inr e) w))))
theorem zt_X5_look_p0 {E : zE} {L : Nat} {Q : kx_Rs → wS → Prop} {w : wS} (hL : 22 ≤ L) (h : zb_X5_look_p0 E L Q  w) : kzE E L kt_M191 0 [(0, .ref (w_adr E.2.1 4 0))] [] w Q := by
  unfold zb_X5_look_p0 at h
  refine kz_aload_n (M := kt_M191) kX5_look_c0.1 rfl ?_
  refine kz_gfc (M := kt_M191) (x := 4) (c := 4) (o := 0) kX5_look_c0.2.1 wf_X5_9 (.inl rfl) ?_
  refine kz_gfc (M := kt_M191) (x := 1258) (c := 1) (o := 0) kX5_look_c0.2.2.1 wf_X5_48 (.inl rfl) ?_
  refine kz_aload_n (M := kt_M191) kX5_look_c0.2.2.2.1 rfl ?_
  refine kz_gfi (M := kt_M191) (c := 4) (o := 0) kX5_look_c0.2.2.2.2.1 wf_X5_29 (.inl rfl) ?_
  refine kz_aald (M := kt_M191) (τ := 0) (c := 1) (o := 0) (k := 2) (a := (E.2.1 1258)) kX5_look_c0.2.2.2.2.2.1 ow_1_0_2 oa_1_0_2 ot_4 rfl h (fun h => ?_)
  refine kz_getsE (M := kt_M191) (v := va_rf (some (E.1.1 6))) kX5_look_c0.2.2.2.2.2.2.1 zs_X5_52 ?_
  refine kz_acmp_ne (M := kt_M191) (x := w_r w 1 0 2 (w_i w 4 0 3).toNatClampNeg) (y := some (E.1.1 6)) kX5_look_c0.2.2.2.2.2.2.2.1 (t := 30) rfl h (fun h => ?_) (fun h => ?_)
  · skip
    exact kz_weak [(0, .ref (w_adr E.2.1 4 0))] ⟨rfl, trivial⟩ rfl (zt_X5_look_p30 hL  h)
  · skip
    refine kz_aload_n (M := kt_M191) kX5_look_c1.1 rfl ?_
    refine kz_gfc (M := kt_M191) (x := 8) (c := 4) (o := 0) kX5_look_c1.2.1 wf_X5_15 (.inl rfl) ?_
    refine kz_ic (M := kt_M191) 1 kX5_look_c1.2.2.1 rfl ?_
    refine kz_aload_n (M := kt_M191) kX5_look_c1.2.2.2.1 rfl ?_
    refine kz_cv1 (M := kt_M191) (c := 4) (o := 0) (As := []) (rest := [.int 1, .ref (w_adr E.2.1 2 0)]) kX5_look_c1.2.2.2.2.1 wl_X5_33 wMv_189 rfl (.inl rfl) rfl (Nat.le_trans (Nat.le_of_ble_eq_true rfl) hL) (Nat.le_of_ble_eq_true rfl) (Nat.le_of_ble_eq_true rfl) h (fun v2 w1 hle h => ?_) (fun _ _ _ h => kzx_no rfl h)
    have h := h hle
    refine kz_cv0 (M := kt_M191) (c := 2) (o := 0) (As := [.int 1, .int v2]) (rest := []) kX5_look_c1.2.2.2.2.2.1 wl_X5_42 wMv_55 rfl (.inl rfl) rfl (Nat.le_trans (Nat.le_of_ble_eq_true rfl) hL) (Nat.le_of_ble_eq_true rfl) (Nat.le_of_ble_eq_true rfl) h (fun w3 hle h => ?_) (fun _ _ _ h => kzx_no rfl h)
    have h := h hle
    exact kz_weak [(0, .ref (w_adr E.2.1 4 0))] ⟨rfl, trivial⟩ rfl (zt_X5_look_p30 hL  h)
def zb_X5_line_p0 (E : zE) (L : Nat) (Q : kx_Rs → wS → Prop) (w : wS) : Prop := (kx_inb (w_i w 4 0 3) (w_n w 1 0 5) = true ∧ Q (.inl (some (.int (w_a w 1 0 5 (w_i w 4 0 3).toNatClampNeg)))) w)
theorem zt_X5_line_p0 {E : zE} {L : Nat} {Q : kx_Rs → wS → Prop} {w : wS} (hL : 19 ≤ L) (h : zb_X5_line_p0 E L Q  w) : kzE E L kt_M189 0 [(0, .ref (w_adr E.2.1 4 0))] [] w Q := by
  unfold zb_X5_line_p0 at h
  refine kz_aload_n (M := kt_M189) kX5_line_c0.1 rfl ?_
  refine kz_gfc (M := kt_M189) (x := 4) (c := 4) (o := 0) kX5_line_c0.2.1 wf_X5_9 (.inl rfl) ?_
  refine kz_gfc (M := kt_M189) (x := 1261) (c := 1) (o := 0) kX5_line_c0.2.2.1 wf_X5_23 (.inl rfl) ?_
  refine kz_aload_n (M := kt_M189) kX5_line_c0.2.2.2.1 rfl ?_
  refine kz_gfi (M := kt_M189) (c := 4) (o := 0) kX5_line_c0.2.2.2.2.1 wf_X5_29 (.inl rfl) ?_
  refine kz_iald (M := kt_M189) (c := 1) (o := 0) (k := 5) (a := (E.2.1 1261)) kX5_line_c0.2.2.2.2.2.1 ow_1_0_5 oa_1_0_5 ot_0 h (fun h => ?_)
  exact kz_iret (M := kt_M189) kX5_line_c0.2.2.2.2.2.2.1 rfl rfl h
def zL_X5_process_p34 (E : zE) (L : Nat) (Q : kx_Rs → wS → Prop) (x1 : Int32) (x2 : Option Nat) (x3 : Option Nat) (w : wS) : Prop := kzE E L kt_M202 34 [(0, .ref (w_adr E.2.1 4 0)), (1, .int x1), (2, va_rf (x2)), (3, va_rf (x3))] [] w Q
def zb_X5_process_p63 (E : zE) (L : Nat) (Q : kx_Rs → wS → Prop) (x1 : Int32) (x2 : Option Nat) (x3 : Option Nat) (w : wS) : Prop := zw E (L - 21) kt_M210 [.ref (w_adr E.2.1 4 0), .int x1] w (wk0 (fun w1 => wle w w1 → zL_X5_process_p34 E L Q x1 x2 x3 w1) (fun e w => Q (.inr e) w))
theorem zt_X5_process_p63 {E : zE} {L : Nat} {Q : kx_Rs → wS → Prop} {x1 : Int32} {x2 : Option Nat} {x3 : Option Nat} {w : wS} (hL : 23 ≤ L) (h : zb_X5_process_p63 E L Q x1 x2 x3 w) : kzE E L kt_M202 63 [(0, .ref (w_adr E.2.1 4 0)), (1, .int x1), (2, va_rf (x2)), (3, va_rf (x3))] [] w Q := by
  unfold zb_X5_process_p63 at h
  refine kz_aload_n (M := kt_M202) kX5_process_c4.2.1 rfl ?_
  refine kz_iload_n (M := kt_M202) kX5_process_c4.2.2.1 rfl ?_
  refine kz_cv0 (M := kt_M202) (c := 4) (o := 0) (As := [.int x1]) (rest := []) kX5_process_c4.2.2.2.1 wl_X5_113 wMv_210 rfl (.inl rfl) rfl (Nat.le_trans (Nat.le_of_ble_eq_true rfl) hL) (Nat.le_of_ble_eq_true rfl) (Nat.le_of_ble_eq_true rfl) h (fun w1 hle h => ?_) (fun _ _ _ h => kzx_no rfl h)
  have h := h hle
  refine kz_goto (M := kt_M202) kX5_process_c4.2.2.2.2.1 (t := 34) rfl ?_
  exact kz_weak [(0, .ref (w_adr E.2.1 4 0)), (1, .int x1), (2, va_rf (x2)), (3, va_rf (x3))] ⟨rfl, ⟨rfl, ⟨rfl, ⟨rfl, trivial⟩⟩⟩⟩ rfl h
def zb_X5_process_p34 (E : zE) (L : Nat) (Q : kx_Rs → wS → Prop) (x1 : Int32) (x2 : Option Nat) (x3 : Option Nat) (w : wS) : Prop := zw E (L - 20) kt_M164 [.ref (w_adr E.2.1 4 0)] w (wk1 (fun v2 w1 => wle w w1 → (if v2 = 0 then zw E (L - 23) kt_M160 [.ref (w_adr E.2.1 4 0), .int x1] w1 (wkr (fun v4 w3 => wle w1 w3 → (∃ p5, x2 = some p5 ∧ w_l w3 E.2.1 14 p5 ∧ Q (.inl (some (va_rf (x2)))) (ws_p w3 14 p5 4 v4))) (fun e w => Q (.inr e) w)) else zw E (L - 23) kt_M171 [.ref (w_adr E.2.1 4 0), .int x1] w1 (wkr (fun v7 w6 => wle w1 w6 → zw E (L - 21) kt_M166 [va_rf (x3), va_rf (v7)] w6 (wkr (fun v9 w8 => wle w6 w8 → (∃ p10, x2 = some p10 ∧ w_l w8 E.2.1 14 p10 ∧ (if ¬ (w_p w8 14 p10 3) = none then zb_X5_process_p63 E L Q x1 x2 v9 w8 else zb_X5_process_p63 E L Q x1 x2 v9 (ws_p w8 14 p10 3 v9)))) (fun e w => Q (.inr e) w))) (fun e w => Q (.inr e) w)))) (fun e w => Q (.inr e) w))
theorem zt_X5_process_p34 {E : zE} {L : Nat} {Q : kx_Rs → wS → Prop} {x1 : Int32} {x2 : Option Nat} {x3 : Option Nat} {w : wS} (hL : 23 ≤ L) (h : zb_X5_process_p34 E L Q x1 x2 x3 w) : kzE E L kt_M202 34 [(0, .ref (w_adr E.2.1 4 0)), (1, .int x1), (2, va_rf (x2)), (3, va_rf (x3))] [] w Q := by
  unfold zb_X5_process_p34 at h
  refine kz_aload_n (M := kt_M202) kX5_process_c2.2.2.1 rfl ?_
  refine kz_cv1 (M := kt_M202) (c := 4) (o := 0) (As := []) (rest := []) kX5_process_c2.2.2.2.1 wl_X5_137 wMv_164 rfl (.inl rfl) rfl (Nat.le_trans (Nat.le_of_ble_eq_true rfl) hL) (Nat.le_of_ble_eq_true rfl) (Nat.le_of_ble_eq_true rfl) h (fun v2 w1 hle h => ?_) (fun _ _ _ h => kzx_no rfl h)
  have h := h hle
  refine kz_if_eq (M := kt_M202) kX5_process_c2.2.2.2.2.1 (t := 71) rfl h (fun h => ?_) (fun h => ?_)
  · skip
    refine kz_aload_nv (M := kt_M202) (x := x2) kX5_process_c4.2.2.2.2.2.1 rfl ?_
    refine kz_aload_n (M := kt_M202) kX5_process_c4.2.2.2.2.2.2.1 rfl ?_
    refine kz_iload_n (M := kt_M202) kX5_process_c4.2.2.2.2.2.2.2.1 rfl ?_
    refine kz_cvr (M := kt_M202) (c := 4) (o := 0) (As := [.int x1]) (rest := [va_rf (x2)]) kX5_process_c5.1 wl_X5_165 wMv_160 rfl (.inl rfl) rfl (Nat.le_trans (Nat.le_of_ble_eq_true rfl) hL) (Nat.le_of_ble_eq_true rfl) (by simp [kx_cat, w_cat, z_ci, z_cr, z_cl, z_cn]) h (fun v4 w3 hle h => ?_) (fun _ _ _ h => kzx_no rfl h)
    have h := h hle
    obtain ⟨p5, hxp5, hlp5, h⟩ := h
    refine kz_nz1 (x := x2) hxp5 ?_
    refine kz_pfp (M := kt_M202) (n := v4) (c := 14) (o := p5) kX5_process_c5.2.1 wq_X5_168 (.inr (by exact hlp5)) ?_
    refine kz_aload_nv (M := kt_M202) (x := x2) kX5_process_c5.2.2.1 rfl ?_
    exact kz_areto (x := x2) (M := kt_M202) kX5_process_c5.2.2.2.1 rfl h
  · skip
    refine kz_aload_nv (M := kt_M202) (x := x3) kX5_process_c2.2.2.2.2.2.1 rfl ?_
    refine kz_aload_n (M := kt_M202) kX5_process_c2.2.2.2.2.2.2.1 rfl ?_
    refine kz_iload_n (M := kt_M202) kX5_process_c2.2.2.2.2.2.2.2.1 rfl ?_
    refine kz_cvr (M := kt_M202) (c := 4) (o := 0) (As := [.int x1]) (rest := [va_rf (x3)]) kX5_process_c3.1 wl_X5_155 wMv_171 rfl (.inl rfl) rfl (Nat.le_trans (Nat.le_of_ble_eq_true rfl) hL) (Nat.le_of_ble_eq_true rfl) (by simp [kx_cat, w_cat, z_ci, z_cr, z_cl, z_cn]) h (fun v7 w6 hle h => ?_) (fun _ _ _ h => kzx_no rfl h)
    have h := h hle
    refine kz_csr (M := kt_M202) (As := [va_rf (x3), va_rf (v7)]) (rest := []) kX5_process_c3.2.1 wl_X5_158 wMs_166 rfl (Nat.le_trans (Nat.le_of_ble_eq_true rfl) hL) (by simp [lg_sl, w_cat, z_ci, z_cr, z_cl, z_cn, kt_M166]) (Nat.le_of_ble_eq_true rfl) h (fun v9 w8 hle h => ?_) (fun _ _ _ h => kzx_no rfl h)
    have h := h hle
    refine kz_stv_n (M := kt_M202) (x := v9) [(0, .ref (w_adr E.2.1 4 0)), (1, .int x1), (2, va_rf (x2))] kX5_process_c3.2.2.1 (Nat.le_of_ble_eq_true rfl) ⟨⟨rfl, rfl, .inl rfl⟩, ⟨⟨rfl, rfl, .inl rfl⟩, ⟨⟨rfl, rfl, .inr (w_cat (x2))⟩, trivial⟩⟩⟩ rfl ?_
    refine kz_aload_nv (M := kt_M202) (x := x2) kX5_process_c3.2.2.2.1 rfl ?_
    obtain ⟨p10, hxp10, hlp10, h⟩ := h
    refine kz_nz0 (x := x2) hxp10 ?_
    refine kz_gfp (M := kt_M202) (c := 14) (o := p10) kX5_process_c3.2.2.2.2.1 wf_X5_162 (.inr (by exact hlp10)) ?_
    refine kz_ifnonnull (M := kt_M202) (x := w_p w8 14 p10 3) kX5_process_c3.2.2.2.2.2.1 (t := 63) rfl h (fun h => ?_) (fun h => ?_)
    · skip
      exact kz_weak [(0, .ref (w_adr E.2.1 4 0)), (1, .int x1), (2, va_rf (x2)), (3, va_rf (v9))] ⟨rfl, ⟨rfl, ⟨rfl, ⟨rfl, trivial⟩⟩⟩⟩ rfl (zt_X5_process_p63 hL  h)
    · skip
      refine kz_aload_nv (M := kt_M202) (x := x2) kX5_process_c3.2.2.2.2.2.2.1 rfl ?_
      refine kz_aload_nv (M := kt_M202) (x := v9) kX5_process_c3.2.2.2.2.2.2.2.1 rfl ?_
      refine kz_nz1 (x := x2) hxp10 ?_
      refine kz_pfp (M := kt_M202) (n := v9) (c := 14) (o := p10) kX5_process_c4.1 wq_X5_162 (.inr (by exact hlp10)) ?_
      exact kz_weak [(0, .ref (w_adr E.2.1 4 0)), (1, .int x1), (2, va_rf (x2)), (3, va_rf (v9))] ⟨rfl, ⟨rfl, ⟨rfl, ⟨rfl, trivial⟩⟩⟩⟩ rfl (zt_X5_process_p63 hL  h)
def zb_X5_process_p21 (E : zE) (L : Nat) (Q : kx_Rs → wS → Prop) (x1 : Int32) (y0 : Int32) (y1 : Int32) (w : wS) : Prop := zw E (L - 22) kt_M211 [.ref (w_adr E.2.1 4 0), .int y1, .int y0] w (wk0 (fun w1 => wle w w1 → zw E (L - 21) kt_M196 [.ref (w_adr E.2.1 4 0), va_rf (some (E.1.1 9))] w1 (wkr (fun v4 w3 => wle w1 w3 → zL_X5_process_p34 E L Q x1 v4 none w3) (fun e w => Q (.inr e) w))) (fun e w => Q (.inr e) w))
theorem zt_X5_process_p21 {E : zE} {L : Nat} {Q : kx_Rs → wS → Prop} {x1 : Int32} {y0 : Int32} {y1 : Int32} {w : wS} (hL : 23 ≤ L) (h : zb_X5_process_p21 E L Q x1 y0 y1 w) : kzE E L kt_M202 21 [(0, .ref (w_adr E.2.1 4 0)), (1, .int x1)] [.int y0, .int y1, .ref (w_adr E.2.1 4 0)] w Q := by
  unfold zb_X5_process_p21 at h
  refine kz_cv0 (M := kt_M202) (c := 4) (o := 0) (As := [.int y1, .int y0]) (rest := []) kX5_process_c1.2.2.2.1 wl_X5_143 wMv_211 rfl (.inl rfl) rfl (Nat.le_trans (Nat.le_of_ble_eq_true rfl) hL) (Nat.le_of_ble_eq_true rfl) (Nat.le_of_ble_eq_true rfl) h (fun w1 hle h => ?_) (fun _ _ _ h => kzx_no rfl h)
  have h := h hle
  refine kz_aload_n (M := kt_M202) kX5_process_c1.2.2.2.2.1 rfl ?_
  refine kz_getsE (M := kt_M202) (v := va_rf (some (E.1.1 9))) kX5_process_c1.2.2.2.2.2.1 zs_X5_146 ?_
  refine kz_cvr (M := kt_M202) (c := 4) (o := 0) (As := [va_rf (some (E.1.1 9))]) (rest := []) kX5_process_c1.2.2.2.2.2.2.1 wl_X5_152 wMv_196 rfl (.inl rfl) rfl (Nat.le_trans (Nat.le_of_ble_eq_true rfl) hL) (by simp [lg_sl, w_cat, z_ci, z_cr, z_cl, z_cn, kt_M196]) (Nat.le_of_ble_eq_true rfl) h (fun v4 w3 hle h => ?_) (fun _ _ _ h => kzx_no rfl h)
  have h := h hle
  refine kz_stv_n (M := kt_M202) (x := v4) [(0, .ref (w_adr E.2.1 4 0)), (1, .int x1)] kX5_process_c1.2.2.2.2.2.2.2.1 (Nat.le_of_ble_eq_true rfl) ⟨⟨rfl, rfl, .inl rfl⟩, ⟨⟨rfl, rfl, .inr rfl⟩, trivial⟩⟩ rfl ?_
  refine kz_null (M := kt_M202) kX5_process_c2.1 ?_
  refine kz_stv_n (M := kt_M202) (x := none) [(0, .ref (w_adr E.2.1 4 0)), (1, .int x1), (2, va_rf (v4))] kX5_process_c2.2.1 (Nat.le_of_ble_eq_true rfl) ⟨⟨rfl, rfl, .inl rfl⟩, ⟨⟨rfl, rfl, .inl rfl⟩, ⟨⟨rfl, rfl, .inr (w_cat (v4))⟩, trivial⟩⟩⟩ rfl ?_
  exact kz_weak [(0, .ref (w_adr E.2.1 4 0)), (1, .int x1), (2, va_rf (v4)), (3, va_rf (none))] ⟨rfl, ⟨rfl, ⟨rfl, ⟨rfl, trivial⟩⟩⟩⟩ rfl h
def zb_X5_process_p16 (E : zE) (L : Nat) (Q : kx_Rs → wS → Prop) (x1 : Int32) (y0 : Int32) (w : wS) : Prop := zb_X5_process_p21 E L Q x1 1 y0 w
theorem zt_X5_process_p16 {E : zE} {L : Nat} {Q : kx_Rs → wS → Prop} {x1 : Int32} {y0 : Int32} {w : wS} (hL : 23 ≤ L) (h : zb_X5_process_p16 E L Q x1 y0 w) : kzE E L kt_M202 16 [(0, .ref (w_adr E.2.1 4 0)), (1, .int x1)] [.int y0, .ref (w_adr E.2.1 4 0)] w Q := by
  unfold zb_X5_process_p16 at h
  refine kz_ic (M := kt_M202) 1 kX5_process_c1.1 rfl ?_
  refine kz_goto (M := kt_M202) kX5_process_c1.2.1 (t := 21) rfl ?_
  exact kz_weak [(0, .ref (w_adr E.2.1 4 0)), (1, .int x1)] ⟨rfl, ⟨rfl, trivial⟩⟩ rfl (zt_X5_process_p21 hL  h)
def zb_X5_process_p0 (E : zE) (L : Nat) (Q : kx_Rs → wS → Prop) (x1 : Int32) (w : wS) : Prop := zw E (L - 20) kt_M164 [.ref (w_adr E.2.1 4 0)] w (wk1 (fun v2 w1 => wle w w1 → (if ¬ v2 = 0 then zb_X5_process_p16 E L Q x1 x1 w1 else zw E (L - 20) kt_M163 [.ref (w_adr E.2.1 4 0)] w1 (wk1 (fun v4 w3 => wle w1 w3 → (if v4 = 0 then zb_X5_process_p21 E L Q x1 0 x1 w3 else zb_X5_process_p16 E L Q x1 x1 w3)) (fun e w => Q (.inr e) w)))) (fun e w => Q (.inr e) w))
theorem zt_X5_process_p0 {E : zE} {L : Nat} {Q : kx_Rs → wS → Prop} {x1 : Int32} {w : wS} (hL : 23 ≤ L) (h : zb_X5_process_p0 E L Q x1 w) : kzE E L kt_M202 0 [(0, .ref (w_adr E.2.1 4 0)), (1, .int x1)] [] w Q := by
  unfold zb_X5_process_p0 at h
  refine kz_aload_n (M := kt_M202) kX5_process_c0.1 rfl ?_
  refine kz_iload_n (M := kt_M202) kX5_process_c0.2.1 rfl ?_
  refine kz_aload_n (M := kt_M202) kX5_process_c0.2.2.1 rfl ?_
  refine kz_cv1 (M := kt_M202) (c := 4) (o := 0) (As := []) (rest := [.int x1, .ref (w_adr E.2.1 4 0)]) kX5_process_c0.2.2.2.1 wl_X5_137 wMv_164 rfl (.inl rfl) rfl (Nat.le_trans (Nat.le_of_ble_eq_true rfl) hL) (Nat.le_of_ble_eq_true rfl) (Nat.le_of_ble_eq_true rfl) h (fun v2 w1 hle h => ?_) (fun _ _ _ h => kzx_no rfl h)
  have h := h hle
  refine kz_if_ne (M := kt_M202) kX5_process_c0.2.2.2.2.1 (t := 16) rfl h (fun h => ?_) (fun h => ?_)
  · skip
    exact kz_weak [(0, .ref (w_adr E.2.1 4 0)), (1, .int x1)] ⟨rfl, ⟨rfl, trivial⟩⟩ rfl (zt_X5_process_p16 hL  h)
  · skip
    refine kz_aload_n (M := kt_M202) kX5_process_c0.2.2.2.2.2.1 rfl ?_
    refine kz_cv1 (M := kt_M202) (c := 4) (o := 0) (As := []) (rest := [.int x1, .ref (w_adr E.2.1 4 0)]) kX5_process_c0.2.2.2.2.2.2.1 wl_X5_140 wMv_163 rfl (.inl rfl) rfl (Nat.le_trans (Nat.le_of_ble_eq_true rfl) hL) (Nat.le_of_ble_eq_true rfl) (Nat.le_of_ble_eq_true rfl) h (fun v4 w3 hle h => ?_) (fun _ _ _ h => kzx_no rfl h)
    have h := h hle
    refine kz_if_eq (M := kt_M202) kX5_process_c0.2.2.2.2.2.2.2.1 (t := 20) rfl h (fun h => ?_) (fun h => ?_)
    · skip
      refine kz_ic (M := kt_M202) 0 kX5_process_c1.2.2.1 rfl ?_
      exact kz_weak [(0, .ref (w_adr E.2.1 4 0)), (1, .int x1)] ⟨rfl, ⟨rfl, trivial⟩⟩ rfl (zt_X5_process_p21 hL  h)
    · skip
      exact kz_weak [(0, .ref (w_adr E.2.1 4 0)), (1, .int x1)] ⟨rfl, ⟨rfl, trivial⟩⟩ rfl (zt_X5_process_p16 hL  h)
def zb_X5_beginsDeclaration_p66 (E : zE) (L : Nat) (Q : kx_Rs → wS → Prop) (y0 : Int32) (w : wS) : Prop := ((y0 = 0 ∨ y0 = 1) ∧ Q (.inl (some (.int y0))) w)
theorem zt_X5_beginsDeclaration_p66 {E : zE} {L : Nat} {Q : kx_Rs → wS → Prop} {y0 : Int32} {w : wS} (hL : 21 ≤ L) (h : zb_X5_beginsDeclaration_p66 E L Q y0 w) : kzE E L kt_M164 66 [(0, .ref (w_adr E.2.1 4 0))] [.int y0] w Q := by
  unfold zb_X5_beginsDeclaration_p66 at h
  exact kz_iretz (M := kt_M164) kX5_beginsDeclaration_c3.2.2.2.2.2.2.1 rfl h.1 h.2
def zb_X5_beginsDeclaration_p61 (E : zE) (L : Nat) (Q : kx_Rs → wS → Prop) (w : wS) : Prop := zb_X5_beginsDeclaration_p66 E L Q 1 w
theorem zt_X5_beginsDeclaration_p61 {E : zE} {L : Nat} {Q : kx_Rs → wS → Prop} {w : wS} (hL : 21 ≤ L) (h : zb_X5_beginsDeclaration_p61 E L Q  w) : kzE E L kt_M164 61 [(0, .ref (w_adr E.2.1 4 0))] [] w Q := by
  unfold zb_X5_beginsDeclaration_p61 at h
  refine kz_ic (M := kt_M164) 1 kX5_beginsDeclaration_c3.2.2.2.1 rfl ?_
  refine kz_goto (M := kt_M164) kX5_beginsDeclaration_c3.2.2.2.2.1 (t := 66) rfl ?_
  exact kz_weak [(0, .ref (w_adr E.2.1 4 0))] ⟨rfl, trivial⟩ rfl (zt_X5_beginsDeclaration_p66 hL  h)
def zb_X5_beginsDeclaration_p0 (E : zE) (L : Nat) (Q : kx_Rs → wS → Prop) (w : wS) : Prop := zw E (L - 20) kt_M186 [.ref (w_adr E.2.1 4 0)] w (wk1 (fun v2 w1 => wle w w1 → (if ¬ v2 = 0 then zb_X5_beginsDeclaration_p61 E L Q w1 else zw E (L - 21) kt_M183 [.ref (w_adr E.2.1 4 0), .int 6] w1 (wk1 (fun v4 w3 => wle w1 w3 → (if ¬ v4 = 0 then zb_X5_beginsDeclaration_p61 E L Q w3 else zw E (L - 21) kt_M183 [.ref (w_adr E.2.1 4 0), .int 30] w3 (wk1 (fun v6 w5 => wle w3 w5 → (if ¬ v6 = 0 then zb_X5_beginsDeclaration_p61 E L Q w5 else zw E (L - 21) kt_M183 [.ref (w_adr E.2.1 4 0), .int 33] w5 (wk1 (fun v8 w7 => wle w5 w7 → (if ¬ v8 = 0 then zb_X5_beginsDeclaration_p61 E L Q w7 else zw E (L - 21) kt_M183 [.ref (w_adr E.2.1 4 0), .int 24] w7 (wk1 (fun v10 w9 => wle w7 w9 → (if ¬ v10 = 0 then zb_X5_beginsDeclaration_p61 E L Q w9 else zw E (L - 21) kt_M183 [.ref (w_adr E.2.1 4 0), .int 23] w9 (wk1 (fun v12 w11 => wle w9 w11 → (if ¬ v12 = 0 then zb_X5_beginsDeclaration_p61 E L Q w11 else zw E (L - 21) kt_M183 [.ref (w_adr E.2.1 4 0), .int 38] w11 (wk1 (fun v14 w13 => wle w11 w13 → (if v14 = 0 then zb_X5_beginsDeclaration_p66 E L Q 0 w13 else zb_X5_beginsDeclaration_p61 E L Q w13)) (fun e w => Q (.inr e) w)))) (fun e w => Q (.inr e) w)))) (fun e w => Q (.inr e) w)))) (fun e w => Q (.inr e) w)))) (fun e w => Q (.inr e) w)))) (fun e w => Q (.inr e) w)))) (fun e w => Q (.inr e) w))
theorem zt_X5_beginsDeclaration_p0 {E : zE} {L : Nat} {Q : kx_Rs → wS → Prop} {w : wS} (hL : 21 ≤ L) (h : zb_X5_beginsDeclaration_p0 E L Q  w) : kzE E L kt_M164 0 [(0, .ref (w_adr E.2.1 4 0))] [] w Q := by
  unfold zb_X5_beginsDeclaration_p0 at h
  refine kz_aload_n (M := kt_M164) kX5_beginsDeclaration_c0.1 rfl ?_
  refine kz_cv1 (M := kt_M164) (c := 4) (o := 0) (As := []) (rest := []) kX5_beginsDeclaration_c0.2.1 wl_X5_95 wMv_186 rfl (.inl rfl) rfl (Nat.le_trans (Nat.le_of_ble_eq_true rfl) hL) (Nat.le_of_ble_eq_true rfl) (Nat.le_of_ble_eq_true rfl) h (fun v2 w1 hle h => ?_) (fun _ _ _ h => kzx_no rfl h)
  have h := h hle
  refine kz_if_ne (M := kt_M164) kX5_beginsDeclaration_c0.2.2.1 (t := 61) rfl h (fun h => ?_) (fun h => ?_)
  · skip
    exact kz_weak [(0, .ref (w_adr E.2.1 4 0))] ⟨rfl, trivial⟩ rfl (zt_X5_beginsDeclaration_p61 hL  h)
  · skip
    refine kz_aload_n (M := kt_M164) kX5_beginsDeclaration_c0.2.2.2.1 rfl ?_
    refine kz_bi (M := kt_M164) 6 kX5_beginsDeclaration_c0.2.2.2.2.1 rfl ?_
    refine kz_cv1 (M := kt_M164) (c := 4) (o := 0) (As := [.int 6]) (rest := []) kX5_beginsDeclaration_c0.2.2.2.2.2.1 wl_X5_79 wMv_183 rfl (.inl rfl) rfl (Nat.le_trans (Nat.le_of_ble_eq_true rfl) hL) (Nat.le_of_ble_eq_true rfl) (Nat.le_of_ble_eq_true rfl) h (fun v4 w3 hle h => ?_) (fun _ _ _ h => kzx_no rfl h)
    have h := h hle
    refine kz_if_ne (M := kt_M164) kX5_beginsDeclaration_c0.2.2.2.2.2.2.1 (t := 61) rfl h (fun h => ?_) (fun h => ?_)
    · skip
      exact kz_weak [(0, .ref (w_adr E.2.1 4 0))] ⟨rfl, trivial⟩ rfl (zt_X5_beginsDeclaration_p61 hL  h)
    · skip
      refine kz_aload_n (M := kt_M164) kX5_beginsDeclaration_c0.2.2.2.2.2.2.2.1 rfl ?_
      refine kz_bi (M := kt_M164) 30 kX5_beginsDeclaration_c1.1 rfl ?_
      refine kz_cv1 (M := kt_M164) (c := 4) (o := 0) (As := [.int 30]) (rest := []) kX5_beginsDeclaration_c1.2.1 wl_X5_79 wMv_183 rfl (.inl rfl) rfl (Nat.le_trans (Nat.le_of_ble_eq_true rfl) hL) (Nat.le_of_ble_eq_true rfl) (Nat.le_of_ble_eq_true rfl) h (fun v6 w5 hle h => ?_) (fun _ _ _ h => kzx_no rfl h)
      have h := h hle
      refine kz_if_ne (M := kt_M164) kX5_beginsDeclaration_c1.2.2.1 (t := 61) rfl h (fun h => ?_) (fun h => ?_)
      · skip
        exact kz_weak [(0, .ref (w_adr E.2.1 4 0))] ⟨rfl, trivial⟩ rfl (zt_X5_beginsDeclaration_p61 hL  h)
      · skip
        refine kz_aload_n (M := kt_M164) kX5_beginsDeclaration_c1.2.2.2.1 rfl ?_
        refine kz_bi (M := kt_M164) 33 kX5_beginsDeclaration_c1.2.2.2.2.1 rfl ?_
        refine kz_cv1 (M := kt_M164) (c := 4) (o := 0) (As := [.int 33]) (rest := []) kX5_beginsDeclaration_c1.2.2.2.2.2.1 wl_X5_79 wMv_183 rfl (.inl rfl) rfl (Nat.le_trans (Nat.le_of_ble_eq_true rfl) hL) (Nat.le_of_ble_eq_true rfl) (Nat.le_of_ble_eq_true rfl) h (fun v8 w7 hle h => ?_) (fun _ _ _ h => kzx_no rfl h)
        have h := h hle
        refine kz_if_ne (M := kt_M164) kX5_beginsDeclaration_c1.2.2.2.2.2.2.1 (t := 61) rfl h (fun h => ?_) (fun h => ?_)
        · skip
          exact kz_weak [(0, .ref (w_adr E.2.1 4 0))] ⟨rfl, trivial⟩ rfl (zt_X5_beginsDeclaration_p61 hL  h)
        · skip
          refine kz_aload_n (M := kt_M164) kX5_beginsDeclaration_c1.2.2.2.2.2.2.2.1 rfl ?_
          refine kz_bi (M := kt_M164) 24 kX5_beginsDeclaration_c2.1 rfl ?_
          refine kz_cv1 (M := kt_M164) (c := 4) (o := 0) (As := [.int 24]) (rest := []) kX5_beginsDeclaration_c2.2.1 wl_X5_79 wMv_183 rfl (.inl rfl) rfl (Nat.le_trans (Nat.le_of_ble_eq_true rfl) hL) (Nat.le_of_ble_eq_true rfl) (Nat.le_of_ble_eq_true rfl) h (fun v10 w9 hle h => ?_) (fun _ _ _ h => kzx_no rfl h)
          have h := h hle
          refine kz_if_ne (M := kt_M164) kX5_beginsDeclaration_c2.2.2.1 (t := 61) rfl h (fun h => ?_) (fun h => ?_)
          · skip
            exact kz_weak [(0, .ref (w_adr E.2.1 4 0))] ⟨rfl, trivial⟩ rfl (zt_X5_beginsDeclaration_p61 hL  h)
          · skip
            refine kz_aload_n (M := kt_M164) kX5_beginsDeclaration_c2.2.2.2.1 rfl ?_
            refine kz_bi (M := kt_M164) 23 kX5_beginsDeclaration_c2.2.2.2.2.1 rfl ?_
            refine kz_cv1 (M := kt_M164) (c := 4) (o := 0) (As := [.int 23]) (rest := []) kX5_beginsDeclaration_c2.2.2.2.2.2.1 wl_X5_79 wMv_183 rfl (.inl rfl) rfl (Nat.le_trans (Nat.le_of_ble_eq_true rfl) hL) (Nat.le_of_ble_eq_true rfl) (Nat.le_of_ble_eq_true rfl) h (fun v12 w11 hle h => ?_) (fun _ _ _ h => kzx_no rfl h)
            have h := h hle
            refine kz_if_ne (M := kt_M164) kX5_beginsDeclaration_c2.2.2.2.2.2.2.1 (t := 61) rfl h (fun h => ?_) (fun h => ?_)
            · skip
              exact kz_weak [(0, .ref (w_adr E.2.1 4 0))] ⟨rfl, trivial⟩ rfl (zt_X5_beginsDeclaration_p61 hL  h)
            · skip
              refine kz_aload_n (M := kt_M164) kX5_beginsDeclaration_c2.2.2.2.2.2.2.2.1 rfl ?_
              refine kz_bi (M := kt_M164) 38 kX5_beginsDeclaration_c3.1 rfl ?_
              refine kz_cv1 (M := kt_M164) (c := 4) (o := 0) (As := [.int 38]) (rest := []) kX5_beginsDeclaration_c3.2.1 wl_X5_79 wMv_183 rfl (.inl rfl) rfl (Nat.le_trans (Nat.le_of_ble_eq_true rfl) hL) (Nat.le_of_ble_eq_true rfl) (Nat.le_of_ble_eq_true rfl) h (fun v14 w13 hle h => ?_) (fun _ _ _ h => kzx_no rfl h)
              have h := h hle
              refine kz_if_eq (M := kt_M164) kX5_beginsDeclaration_c3.2.2.1 (t := 65) rfl h (fun h => ?_) (fun h => ?_)
              · skip
                refine kz_ic (M := kt_M164) 0 kX5_beginsDeclaration_c3.2.2.2.2.2.1 rfl ?_
                exact kz_weak [(0, .ref (w_adr E.2.1 4 0))] ⟨rfl, trivial⟩ rfl (zt_X5_beginsDeclaration_p66 hL  h)
              · skip
                exact kz_weak [(0, .ref (w_adr E.2.1 4 0))] ⟨rfl, trivial⟩ rfl (zt_X5_beginsDeclaration_p61 hL  h)
def zb_X5_isType_p41 (E : zE) (L : Nat) (Q : kx_Rs → wS → Prop) (y0 : Int32) (w : wS) : Prop := ((y0 = 0 ∨ y0 = 1) ∧ Q (.inl (some (.int y0))) w)
theorem zt_X5_isType_p41 {E : zE} {L : Nat} {Q : kx_Rs → wS → Prop} {y0 : Int32} {w : wS} (hL : 20 ≤ L) (h : zb_X5_isType_p41 E L Q y0 w) : kzE E L kt_M186 41 [(0, .ref (w_adr E.2.1 4 0))] [.int y0] w Q := by
  unfold zb_X5_isType_p41 at h
  exact kz_iretz (M := kt_M186) kX5_isType_c2.2.2.2.1 rfl h.1 h.2
def zb_X5_isType_p40 (E : zE) (L : Nat) (Q : kx_Rs → wS → Prop) (w : wS) : Prop := zb_X5_isType_p41 E L Q 0 w
theorem zt_X5_isType_p40 {E : zE} {L : Nat} {Q : kx_Rs → wS → Prop} {w : wS} (hL : 20 ≤ L) (h : zb_X5_isType_p40 E L Q  w) : kzE E L kt_M186 40 [(0, .ref (w_adr E.2.1 4 0))] [] w Q := by
  unfold zb_X5_isType_p40 at h
  refine kz_ic (M := kt_M186) 0 kX5_isType_c2.2.2.1 rfl ?_
  exact kz_weak [(0, .ref (w_adr E.2.1 4 0))] ⟨rfl, trivial⟩ rfl (zt_X5_isType_p41 hL  h)
def zb_X5_isType_p0 (E : zE) (L : Nat) (Q : kx_Rs → wS → Prop) (w : wS) : Prop := (kx_inb (w_i w 4 0 3) (w_n w 1 0 2) = true ∧ (if ¬ w_r w 1 0 2 (w_i w 4 0 3).toNatClampNeg = some (E.1.1 0) then zb_X5_isType_p40 E L Q w else (kx_inb (w_i w 4 0 3) (w_n w 1 0 3) = true ∧ zw E (L - 20) kt_M333 [.int (w_a w 1 0 3 (w_i w 4 0 3).toNatClampNeg)] w (wk1 (fun v2 w1 => wle w w1 → (if v2 = 0 then zb_X5_isType_p40 E L Q w1 else zb_X5_isType_p41 E L Q 1 w1)) (fun e w => Q (.inr e) w)))))
theorem zt_X5_isType_p0 {E : zE} {L : Nat} {Q : kx_Rs → wS → Prop} {w : wS} (hL : 20 ≤ L) (h : zb_X5_isType_p0 E L Q  w) : kzE E L kt_M186 0 [(0, .ref (w_adr E.2.1 4 0))] [] w Q := by
  unfold zb_X5_isType_p0 at h
  refine kz_aload_n (M := kt_M186) kX5_isType_c0.1 rfl ?_
  refine kz_gfc (M := kt_M186) (x := 4) (c := 4) (o := 0) kX5_isType_c0.2.1 wf_X5_9 (.inl rfl) ?_
  refine kz_gfc (M := kt_M186) (x := 1258) (c := 1) (o := 0) kX5_isType_c0.2.2.1 wf_X5_48 (.inl rfl) ?_
  refine kz_aload_n (M := kt_M186) kX5_isType_c0.2.2.2.1 rfl ?_
  refine kz_gfi (M := kt_M186) (c := 4) (o := 0) kX5_isType_c0.2.2.2.2.1 wf_X5_29 (.inl rfl) ?_
  refine kz_aald (M := kt_M186) (τ := 0) (c := 1) (o := 0) (k := 2) (a := (E.2.1 1258)) kX5_isType_c0.2.2.2.2.2.1 ow_1_0_2 oa_1_0_2 ot_4 rfl h (fun h => ?_)
  refine kz_getsE (M := kt_M186) (v := va_rf (some (E.1.1 0))) kX5_isType_c0.2.2.2.2.2.2.1 zs_X5_61 ?_
  refine kz_acmp_ne (M := kt_M186) (x := w_r w 1 0 2 (w_i w 4 0 3).toNatClampNeg) (y := some (E.1.1 0)) kX5_isType_c0.2.2.2.2.2.2.2.1 (t := 40) rfl h (fun h => ?_) (fun h => ?_)
  · skip
    exact kz_weak [(0, .ref (w_adr E.2.1 4 0))] ⟨rfl, trivial⟩ rfl (zt_X5_isType_p40 hL  h)
  · skip
    refine kz_aload_n (M := kt_M186) kX5_isType_c1.1 rfl ?_
    refine kz_gfc (M := kt_M186) (x := 4) (c := 4) (o := 0) kX5_isType_c1.2.1 wf_X5_9 (.inl rfl) ?_
    refine kz_gfc (M := kt_M186) (x := 1259) (c := 1) (o := 0) kX5_isType_c1.2.2.1 wf_X5_67 (.inl rfl) ?_
    refine kz_aload_n (M := kt_M186) kX5_isType_c1.2.2.2.1 rfl ?_
    refine kz_gfi (M := kt_M186) (c := 4) (o := 0) kX5_isType_c1.2.2.2.2.1 wf_X5_29 (.inl rfl) ?_
    refine kz_iald (M := kt_M186) (c := 1) (o := 0) (k := 3) (a := (E.2.1 1259)) kX5_isType_c1.2.2.2.2.2.1 ow_1_0_3 oa_1_0_3 ot_0 h (fun h => ?_)
    refine kz_cs1 (M := kt_M186) (As := [.int (w_a w 1 0 3 (w_i w 4 0 3).toNatClampNeg)]) (rest := []) kX5_isType_c1.2.2.2.2.2.2.1 wl_X5_70 wMs_333 rfl (Nat.le_trans (Nat.le_of_ble_eq_true rfl) hL) (Nat.le_of_ble_eq_true rfl) (Nat.le_of_ble_eq_true rfl) h (fun v2 w1 hle h => ?_) (fun _ _ _ h => kzx_no rfl h)
    have h := h hle
    refine kz_if_eq (M := kt_M186) kX5_isType_c1.2.2.2.2.2.2.2.1 (t := 40) rfl h (fun h => ?_) (fun h => ?_)
    · skip
      exact kz_weak [(0, .ref (w_adr E.2.1 4 0))] ⟨rfl, trivial⟩ rfl (zt_X5_isType_p40 hL  h)
    · skip
      refine kz_ic (M := kt_M186) 1 kX5_isType_c2.1 rfl ?_
      refine kz_goto (M := kt_M186) kX5_isType_c2.2.1 (t := 41) rfl ?_
      exact kz_weak [(0, .ref (w_adr E.2.1 4 0))] ⟨rfl, trivial⟩ rfl (zt_X5_isType_p41 hL  h)
def zb_X5_is_p57 (E : zE) (L : Nat) (Q : kx_Rs → wS → Prop) (y0 : Int32) (w : wS) : Prop := ((y0 = 0 ∨ y0 = 1) ∧ Q (.inl (some (.int y0))) w)
theorem zt_X5_is_p57 {E : zE} {L : Nat} {Q : kx_Rs → wS → Prop} {y0 : Int32} {w : wS} (hL : 19 ≤ L) (h : zb_X5_is_p57 E L Q y0 w) : kzE E L kt_M183 57 [(0, .ref (w_adr E.2.1 4 0))] [.int y0] w Q := by
  unfold zb_X5_is_p57 at h
  exact kz_iretz (M := kt_M183) kX5_is_c3.2.2.2.1 rfl h.1 h.2
def zb_X5_is_p56 (E : zE) (L : Nat) (Q : kx_Rs → wS → Prop) (w : wS) : Prop := zb_X5_is_p57 E L Q 0 w
theorem zt_X5_is_p56 {E : zE} {L : Nat} {Q : kx_Rs → wS → Prop} {w : wS} (hL : 19 ≤ L) (h : zb_X5_is_p56 E L Q  w) : kzE E L kt_M183 56 [(0, .ref (w_adr E.2.1 4 0))] [] w Q := by
  unfold zb_X5_is_p56 at h
  refine kz_ic (M := kt_M183) 0 kX5_is_c3.2.2.1 rfl ?_
  exact kz_weak [(0, .ref (w_adr E.2.1 4 0))] ⟨rfl, trivial⟩ rfl (zt_X5_is_p57 hL  h)
def zb_X5_is_p36 (E : zE) (L : Nat) (Q : kx_Rs → wS → Prop) (x1 : Int32) (w : wS) : Prop := (kx_inb (w_i w 4 0 3) (w_n w 1 0 3) = true ∧ (if ¬ w_a w 1 0 3 (w_i w 4 0 3).toNatClampNeg = x1 then zb_X5_is_p56 E L Q w else zb_X5_is_p57 E L Q 1 w))
theorem zt_X5_is_p36 {E : zE} {L : Nat} {Q : kx_Rs → wS → Prop} {x1 : Int32} {w : wS} (hL : 19 ≤ L) (h : zb_X5_is_p36 E L Q x1 w) : kzE E L kt_M183 36 [(0, .ref (w_adr E.2.1 4 0)), (1, .int x1)] [] w Q := by
  unfold zb_X5_is_p36 at h
  refine kz_aload_n (M := kt_M183) kX5_is_c2.1 rfl ?_
  refine kz_gfc (M := kt_M183) (x := 4) (c := 4) (o := 0) kX5_is_c2.2.1 wf_X5_9 (.inl rfl) ?_
  refine kz_gfc (M := kt_M183) (x := 1259) (c := 1) (o := 0) kX5_is_c2.2.2.1 wf_X5_67 (.inl rfl) ?_
  refine kz_aload_n (M := kt_M183) kX5_is_c2.2.2.2.1 rfl ?_
  refine kz_gfi (M := kt_M183) (c := 4) (o := 0) kX5_is_c2.2.2.2.2.1 wf_X5_29 (.inl rfl) ?_
  refine kz_iald (M := kt_M183) (c := 1) (o := 0) (k := 3) (a := (E.2.1 1259)) kX5_is_c2.2.2.2.2.2.1 ow_1_0_3 oa_1_0_3 ot_0 h (fun h => ?_)
  refine kz_iload_n (M := kt_M183) kX5_is_c2.2.2.2.2.2.2.1 rfl ?_
  refine kz_icmp_ne (M := kt_M183) kX5_is_c2.2.2.2.2.2.2.2.1 (t := 56) rfl h (fun h => ?_) (fun h => ?_)
  · skip
    exact kz_weak [(0, .ref (w_adr E.2.1 4 0))] ⟨rfl, trivial⟩ rfl (zt_X5_is_p56 hL  h)
  · skip
    refine kz_ic (M := kt_M183) 1 kX5_is_c3.1 rfl ?_
    refine kz_goto (M := kt_M183) kX5_is_c3.2.1 (t := 57) rfl ?_
    exact kz_weak [(0, .ref (w_adr E.2.1 4 0))] ⟨rfl, trivial⟩ rfl (zt_X5_is_p57 hL  h)
def zb_X5_is_p0 (E : zE) (L : Nat) (Q : kx_Rs → wS → Prop) (x1 : Int32) (w : wS) : Prop := (kx_inb (w_i w 4 0 3) (w_n w 1 0 2) = true ∧ (if w_r w 1 0 2 (w_i w 4 0 3).toNatClampNeg = some (E.1.1 0) then zb_X5_is_p36 E L Q x1 w else (kx_inb (w_i w 4 0 3) (w_n w 1 0 2) = true ∧ (if ¬ w_r w 1 0 2 (w_i w 4 0 3).toNatClampNeg = some (E.1.1 5) then zb_X5_is_p56 E L Q w else zb_X5_is_p36 E L Q x1 w))))
theorem zt_X5_is_p0 {E : zE} {L : Nat} {Q : kx_Rs → wS → Prop} {x1 : Int32} {w : wS} (hL : 19 ≤ L) (h : zb_X5_is_p0 E L Q x1 w) : kzE E L kt_M183 0 [(0, .ref (w_adr E.2.1 4 0)), (1, .int x1)] [] w Q := by
  unfold zb_X5_is_p0 at h
  refine kz_aload_n (M := kt_M183) kX5_is_c0.1 rfl ?_
  refine kz_gfc (M := kt_M183) (x := 4) (c := 4) (o := 0) kX5_is_c0.2.1 wf_X5_9 (.inl rfl) ?_
  refine kz_gfc (M := kt_M183) (x := 1258) (c := 1) (o := 0) kX5_is_c0.2.2.1 wf_X5_48 (.inl rfl) ?_
  refine kz_aload_n (M := kt_M183) kX5_is_c0.2.2.2.1 rfl ?_
  refine kz_gfi (M := kt_M183) (c := 4) (o := 0) kX5_is_c0.2.2.2.2.1 wf_X5_29 (.inl rfl) ?_
  refine kz_aald (M := kt_M183) (τ := 0) (c := 1) (o := 0) (k := 2) (a := (E.2.1 1258)) kX5_is_c0.2.2.2.2.2.1 ow_1_0_2 oa_1_0_2 ot_4 rfl h (fun h => ?_)
  refine kz_getsE (M := kt_M183) (v := va_rf (some (E.1.1 0))) kX5_is_c0.2.2.2.2.2.2.1 zs_X5_61 ?_
  refine kz_acmp_eq (M := kt_M183) (x := w_r w 1 0 2 (w_i w 4 0 3).toNatClampNeg) (y := some (E.1.1 0)) kX5_is_c0.2.2.2.2.2.2.2.1 (t := 36) rfl h (fun h => ?_) (fun h => ?_)
  · skip
    exact kz_weak [(0, .ref (w_adr E.2.1 4 0)), (1, .int x1)] ⟨rfl, ⟨rfl, trivial⟩⟩ rfl (zt_X5_is_p36 hL  h)
  · skip
    refine kz_aload_n (M := kt_M183) kX5_is_c1.1 rfl ?_
    refine kz_gfc (M := kt_M183) (x := 4) (c := 4) (o := 0) kX5_is_c1.2.1 wf_X5_9 (.inl rfl) ?_
    refine kz_gfc (M := kt_M183) (x := 1258) (c := 1) (o := 0) kX5_is_c1.2.2.1 wf_X5_48 (.inl rfl) ?_
    refine kz_aload_n (M := kt_M183) kX5_is_c1.2.2.2.1 rfl ?_
    refine kz_gfi (M := kt_M183) (c := 4) (o := 0) kX5_is_c1.2.2.2.2.1 wf_X5_29 (.inl rfl) ?_
    refine kz_aald (M := kt_M183) (τ := 0) (c := 1) (o := 0) (k := 2) (a := (E.2.1 1258)) kX5_is_c1.2.2.2.2.2.1 ow_1_0_2 oa_1_0_2 ot_4 rfl h (fun h => ?_)
    refine kz_getsE (M := kt_M183) (v := va_rf (some (E.1.1 5))) kX5_is_c1.2.2.2.2.2.2.1 zs_X5_64 ?_
    refine kz_acmp_ne (M := kt_M183) (x := w_r w 1 0 2 (w_i w 4 0 3).toNatClampNeg) (y := some (E.1.1 5)) kX5_is_c1.2.2.2.2.2.2.2.1 (t := 56) rfl h (fun h => ?_) (fun h => ?_)
    · skip
      exact kz_weak [(0, .ref (w_adr E.2.1 4 0))] ⟨rfl, trivial⟩ rfl (zt_X5_is_p56 hL  h)
    · skip
      exact kz_weak [(0, .ref (w_adr E.2.1 4 0)), (1, .int x1)] ⟨rfl, ⟨rfl, trivial⟩⟩ rfl (zt_X5_is_p36 hL  h)
def zb_X5_beginsAction_p93 (E : zE) (L : Nat) (Q : kx_Rs → wS → Prop) (y0 : Int32) (w : wS) : Prop := ((y0 = 0 ∨ y0 = 1) ∧ Q (.inl (some (.int y0))) w)
theorem zt_X5_beginsAction_p93 {E : zE} {L : Nat} {Q : kx_Rs → wS → Prop} {y0 : Int32} {w : wS} (hL : 21 ≤ L) (h : zb_X5_beginsAction_p93 E L Q y0 w) : kzE E L kt_M163 93 [(0, .ref (w_adr E.2.1 4 0))] [.int y0] w Q := by
  unfold zb_X5_beginsAction_p93 at h
  exact kz_iretz (M := kt_M163) kX5_beginsAction_c5.2.2.2.2.1 rfl h.1 h.2
def zb_X5_beginsAction_p88 (E : zE) (L : Nat) (Q : kx_Rs → wS → Prop) (w : wS) : Prop := zb_X5_beginsAction_p93 E L Q 1 w
theorem zt_X5_beginsAction_p88 {E : zE} {L : Nat} {Q : kx_Rs → wS → Prop} {w : wS} (hL : 21 ≤ L) (h : zb_X5_beginsAction_p88 E L Q  w) : kzE E L kt_M163 88 [(0, .ref (w_adr E.2.1 4 0))] [] w Q := by
  unfold zb_X5_beginsAction_p88 at h
  refine kz_ic (M := kt_M163) 1 kX5_beginsAction_c5.2.1 rfl ?_
  refine kz_goto (M := kt_M163) kX5_beginsAction_c5.2.2.1 (t := 93) rfl ?_
  exact kz_weak [(0, .ref (w_adr E.2.1 4 0))] ⟨rfl, trivial⟩ rfl (zt_X5_beginsAction_p93 hL  h)
def zb_X5_beginsAction_p0 (E : zE) (L : Nat) (Q : kx_Rs → wS → Prop) (w : wS) : Prop := zw E (L - 20) kt_M184 [.ref (w_adr E.2.1 4 0)] w (wk1 (fun v2 w1 => wle w w1 → (if v2 = 0 then zw E (L - 21) kt_M183 [.ref (w_adr E.2.1 4 0), .int 28] w1 (wk1 (fun v4 w3 => wle w1 w3 → (if ¬ v4 = 0 then zb_X5_beginsAction_p88 E L Q w3 else zw E (L - 21) kt_M183 [.ref (w_adr E.2.1 4 0), .int 29] w3 (wk1 (fun v6 w5 => wle w3 w5 → (if ¬ v6 = 0 then zb_X5_beginsAction_p88 E L Q w5 else zw E (L - 21) kt_M183 [.ref (w_adr E.2.1 4 0), .int 26] w5 (wk1 (fun v8 w7 => wle w5 w7 → (if ¬ v8 = 0 then zb_X5_beginsAction_p88 E L Q w7 else zw E (L - 21) kt_M183 [.ref (w_adr E.2.1 4 0), .int 20] w7 (wk1 (fun v10 w9 => wle w7 w9 → (if ¬ v10 = 0 then zb_X5_beginsAction_p88 E L Q w9 else zw E (L - 21) kt_M183 [.ref (w_adr E.2.1 4 0), .int 11] w9 (wk1 (fun v12 w11 => wle w9 w11 → (if ¬ v12 = 0 then zb_X5_beginsAction_p88 E L Q w11 else zw E (L - 21) kt_M183 [.ref (w_adr E.2.1 4 0), .int 5] w11 (wk1 (fun v14 w13 => wle w11 w13 → (if ¬ v14 = 0 then zb_X5_beginsAction_p88 E L Q w13 else zw E (L - 21) kt_M183 [.ref (w_adr E.2.1 4 0), .int 35] w13 (wk1 (fun v16 w15 => wle w13 w15 → (if ¬ v16 = 0 then zb_X5_beginsAction_p88 E L Q w15 else zw E (L - 21) kt_M183 [.ref (w_adr E.2.1 4 0), .int 22] w15 (wk1 (fun v18 w17 => wle w15 w17 → (if ¬ v18 = 0 then zb_X5_beginsAction_p88 E L Q w17 else zw E (L - 21) kt_M183 [.ref (w_adr E.2.1 4 0), .int 1] w17 (wk1 (fun v20 w19 => wle w17 w19 → (if v20 = 0 then zb_X5_beginsAction_p93 E L Q 0 w19 else zb_X5_beginsAction_p88 E L Q w19)) (fun e w => Q (.inr e) w)))) (fun e w => Q (.inr e) w)))) (fun e w => Q (.inr e) w)))) (fun e w => Q (.inr e) w)))) (fun e w => Q (.inr e) w)))) (fun e w => Q (.inr e) w)))) (fun e w => Q (.inr e) w)))) (fun e w => Q (.inr e) w)))) (fun e w => Q (.inr e) w)) else Q (.inl (some (.int 1))) w1)) (fun e w => Q (.inr e) w))
theorem zt_X5_beginsAction_p0 {E : zE} {L : Nat} {Q : kx_Rs → wS → Prop} {w : wS} (hL : 21 ≤ L) (h : zb_X5_beginsAction_p0 E L Q  w) : kzE E L kt_M163 0 [(0, .ref (w_adr E.2.1 4 0))] [] w Q := by
  unfold zb_X5_beginsAction_p0 at h
  refine kz_aload_n (M := kt_M163) kX5_beginsAction_c0.1 rfl ?_
  refine kz_cv1 (M := kt_M163) (c := 4) (o := 0) (As := []) (rest := []) kX5_beginsAction_c0.2.1 wl_X5_91 wMv_184 rfl (.inl rfl) rfl (Nat.le_trans (Nat.le_of_ble_eq_true rfl) hL) (Nat.le_of_ble_eq_true rfl) (Nat.le_of_ble_eq_true rfl) h (fun v2 w1 hle h => ?_) (fun _ _ _ h => kzx_no rfl h)
  have h := h hle
  refine kz_if_eq (M := kt_M163) kX5_beginsAction_c0.2.2.1 (t := 9) rfl h (fun h => ?_) (fun h => ?_)
  · skip
    refine kz_aload_n (M := kt_M163) kX5_beginsAction_c0.2.2.2.2.2.1 rfl ?_
    refine kz_bi (M := kt_M163) 28 kX5_beginsAction_c0.2.2.2.2.2.2.1 rfl ?_
    refine kz_cv1 (M := kt_M163) (c := 4) (o := 0) (As := [.int 28]) (rest := []) kX5_beginsAction_c0.2.2.2.2.2.2.2.1 wl_X5_79 wMv_183 rfl (.inl rfl) rfl (Nat.le_trans (Nat.le_of_ble_eq_true rfl) hL) (Nat.le_of_ble_eq_true rfl) (Nat.le_of_ble_eq_true rfl) h (fun v4 w3 hle h => ?_) (fun _ _ _ h => kzx_no rfl h)
    have h := h hle
    refine kz_if_ne (M := kt_M163) kX5_beginsAction_c1.1 (t := 88) rfl h (fun h => ?_) (fun h => ?_)
    · skip
      exact kz_weak [(0, .ref (w_adr E.2.1 4 0))] ⟨rfl, trivial⟩ rfl (zt_X5_beginsAction_p88 hL  h)
    · skip
      refine kz_aload_n (M := kt_M163) kX5_beginsAction_c1.2.1 rfl ?_
      refine kz_bi (M := kt_M163) 29 kX5_beginsAction_c1.2.2.1 rfl ?_
      refine kz_cv1 (M := kt_M163) (c := 4) (o := 0) (As := [.int 29]) (rest := []) kX5_beginsAction_c1.2.2.2.1 wl_X5_79 wMv_183 rfl (.inl rfl) rfl (Nat.le_trans (Nat.le_of_ble_eq_true rfl) hL) (Nat.le_of_ble_eq_true rfl) (Nat.le_of_ble_eq_true rfl) h (fun v6 w5 hle h => ?_) (fun _ _ _ h => kzx_no rfl h)
      have h := h hle
      refine kz_if_ne (M := kt_M163) kX5_beginsAction_c1.2.2.2.2.1 (t := 88) rfl h (fun h => ?_) (fun h => ?_)
      · skip
        exact kz_weak [(0, .ref (w_adr E.2.1 4 0))] ⟨rfl, trivial⟩ rfl (zt_X5_beginsAction_p88 hL  h)
      · skip
        refine kz_aload_n (M := kt_M163) kX5_beginsAction_c1.2.2.2.2.2.1 rfl ?_
        refine kz_bi (M := kt_M163) 26 kX5_beginsAction_c1.2.2.2.2.2.2.1 rfl ?_
        refine kz_cv1 (M := kt_M163) (c := 4) (o := 0) (As := [.int 26]) (rest := []) kX5_beginsAction_c1.2.2.2.2.2.2.2.1 wl_X5_79 wMv_183 rfl (.inl rfl) rfl (Nat.le_trans (Nat.le_of_ble_eq_true rfl) hL) (Nat.le_of_ble_eq_true rfl) (Nat.le_of_ble_eq_true rfl) h (fun v8 w7 hle h => ?_) (fun _ _ _ h => kzx_no rfl h)
        have h := h hle
        refine kz_if_ne (M := kt_M163) kX5_beginsAction_c2.1 (t := 88) rfl h (fun h => ?_) (fun h => ?_)
        · skip
          exact kz_weak [(0, .ref (w_adr E.2.1 4 0))] ⟨rfl, trivial⟩ rfl (zt_X5_beginsAction_p88 hL  h)
        · skip
          refine kz_aload_n (M := kt_M163) kX5_beginsAction_c2.2.1 rfl ?_
          refine kz_bi (M := kt_M163) 20 kX5_beginsAction_c2.2.2.1 rfl ?_
          refine kz_cv1 (M := kt_M163) (c := 4) (o := 0) (As := [.int 20]) (rest := []) kX5_beginsAction_c2.2.2.2.1 wl_X5_79 wMv_183 rfl (.inl rfl) rfl (Nat.le_trans (Nat.le_of_ble_eq_true rfl) hL) (Nat.le_of_ble_eq_true rfl) (Nat.le_of_ble_eq_true rfl) h (fun v10 w9 hle h => ?_) (fun _ _ _ h => kzx_no rfl h)
          have h := h hle
          refine kz_if_ne (M := kt_M163) kX5_beginsAction_c2.2.2.2.2.1 (t := 88) rfl h (fun h => ?_) (fun h => ?_)
          · skip
            exact kz_weak [(0, .ref (w_adr E.2.1 4 0))] ⟨rfl, trivial⟩ rfl (zt_X5_beginsAction_p88 hL  h)
          · skip
            refine kz_aload_n (M := kt_M163) kX5_beginsAction_c2.2.2.2.2.2.1 rfl ?_
            refine kz_bi (M := kt_M163) 11 kX5_beginsAction_c2.2.2.2.2.2.2.1 rfl ?_
            refine kz_cv1 (M := kt_M163) (c := 4) (o := 0) (As := [.int 11]) (rest := []) kX5_beginsAction_c2.2.2.2.2.2.2.2.1 wl_X5_79 wMv_183 rfl (.inl rfl) rfl (Nat.le_trans (Nat.le_of_ble_eq_true rfl) hL) (Nat.le_of_ble_eq_true rfl) (Nat.le_of_ble_eq_true rfl) h (fun v12 w11 hle h => ?_) (fun _ _ _ h => kzx_no rfl h)
            have h := h hle
            refine kz_if_ne (M := kt_M163) kX5_beginsAction_c3.1 (t := 88) rfl h (fun h => ?_) (fun h => ?_)
            · skip
              exact kz_weak [(0, .ref (w_adr E.2.1 4 0))] ⟨rfl, trivial⟩ rfl (zt_X5_beginsAction_p88 hL  h)
            · skip
              refine kz_aload_n (M := kt_M163) kX5_beginsAction_c3.2.1 rfl ?_
              refine kz_ic (M := kt_M163) 5 kX5_beginsAction_c3.2.2.1 rfl ?_
              refine kz_cv1 (M := kt_M163) (c := 4) (o := 0) (As := [.int 5]) (rest := []) kX5_beginsAction_c3.2.2.2.1 wl_X5_79 wMv_183 rfl (.inl rfl) rfl (Nat.le_trans (Nat.le_of_ble_eq_true rfl) hL) (Nat.le_of_ble_eq_true rfl) (Nat.le_of_ble_eq_true rfl) h (fun v14 w13 hle h => ?_) (fun _ _ _ h => kzx_no rfl h)
              have h := h hle
              refine kz_if_ne (M := kt_M163) kX5_beginsAction_c3.2.2.2.2.1 (t := 88) rfl h (fun h => ?_) (fun h => ?_)
              · skip
                exact kz_weak [(0, .ref (w_adr E.2.1 4 0))] ⟨rfl, trivial⟩ rfl (zt_X5_beginsAction_p88 hL  h)
              · skip
                refine kz_aload_n (M := kt_M163) kX5_beginsAction_c3.2.2.2.2.2.1 rfl ?_
                refine kz_bi (M := kt_M163) 35 kX5_beginsAction_c3.2.2.2.2.2.2.1 rfl ?_
                refine kz_cv1 (M := kt_M163) (c := 4) (o := 0) (As := [.int 35]) (rest := []) kX5_beginsAction_c3.2.2.2.2.2.2.2.1 wl_X5_79 wMv_183 rfl (.inl rfl) rfl (Nat.le_trans (Nat.le_of_ble_eq_true rfl) hL) (Nat.le_of_ble_eq_true rfl) (Nat.le_of_ble_eq_true rfl) h (fun v16 w15 hle h => ?_) (fun _ _ _ h => kzx_no rfl h)
                have h := h hle
                refine kz_if_ne (M := kt_M163) kX5_beginsAction_c4.1 (t := 88) rfl h (fun h => ?_) (fun h => ?_)
                · skip
                  exact kz_weak [(0, .ref (w_adr E.2.1 4 0))] ⟨rfl, trivial⟩ rfl (zt_X5_beginsAction_p88 hL  h)
                · skip
                  refine kz_aload_n (M := kt_M163) kX5_beginsAction_c4.2.1 rfl ?_
                  refine kz_bi (M := kt_M163) 22 kX5_beginsAction_c4.2.2.1 rfl ?_
                  refine kz_cv1 (M := kt_M163) (c := 4) (o := 0) (As := [.int 22]) (rest := []) kX5_beginsAction_c4.2.2.2.1 wl_X5_79 wMv_183 rfl (.inl rfl) rfl (Nat.le_trans (Nat.le_of_ble_eq_true rfl) hL) (Nat.le_of_ble_eq_true rfl) (Nat.le_of_ble_eq_true rfl) h (fun v18 w17 hle h => ?_) (fun _ _ _ h => kzx_no rfl h)
                  have h := h hle
                  refine kz_if_ne (M := kt_M163) kX5_beginsAction_c4.2.2.2.2.1 (t := 88) rfl h (fun h => ?_) (fun h => ?_)
                  · skip
                    exact kz_weak [(0, .ref (w_adr E.2.1 4 0))] ⟨rfl, trivial⟩ rfl (zt_X5_beginsAction_p88 hL  h)
                  · skip
                    refine kz_aload_n (M := kt_M163) kX5_beginsAction_c4.2.2.2.2.2.1 rfl ?_
                    refine kz_ic (M := kt_M163) 1 kX5_beginsAction_c4.2.2.2.2.2.2.1 rfl ?_
                    refine kz_cv1 (M := kt_M163) (c := 4) (o := 0) (As := [.int 1]) (rest := []) kX5_beginsAction_c4.2.2.2.2.2.2.2.1 wl_X5_79 wMv_183 rfl (.inl rfl) rfl (Nat.le_trans (Nat.le_of_ble_eq_true rfl) hL) (Nat.le_of_ble_eq_true rfl) (Nat.le_of_ble_eq_true rfl) h (fun v20 w19 hle h => ?_) (fun _ _ _ h => kzx_no rfl h)
                    have h := h hle
                    refine kz_if_eq (M := kt_M163) kX5_beginsAction_c5.1 (t := 92) rfl h (fun h => ?_) (fun h => ?_)
                    · skip
                      refine kz_ic (M := kt_M163) 0 kX5_beginsAction_c5.2.2.2.1 rfl ?_
                      exact kz_weak [(0, .ref (w_adr E.2.1 4 0))] ⟨rfl, trivial⟩ rfl (zt_X5_beginsAction_p93 hL  h)
                    · skip
                      exact kz_weak [(0, .ref (w_adr E.2.1 4 0))] ⟨rfl, trivial⟩ rfl (zt_X5_beginsAction_p88 hL  h)
  · skip
    refine kz_ic (M := kt_M163) 1 kX5_beginsAction_c0.2.2.2.1 rfl ?_
    exact kz_iretz (M := kt_M163) kX5_beginsAction_c0.2.2.2.2.1 rfl (by decide) h
def zb_X5_isName_p23 (E : zE) (L : Nat) (Q : kx_Rs → wS → Prop) (y0 : Int32) (w : wS) : Prop := ((y0 = 0 ∨ y0 = 1) ∧ Q (.inl (some (.int y0))) w)
theorem zt_X5_isName_p23 {E : zE} {L : Nat} {Q : kx_Rs → wS → Prop} {y0 : Int32} {w : wS} (hL : 19 ≤ L) (h : zb_X5_isName_p23 E L Q y0 w) : kzE E L kt_M184 23 [(0, .ref (w_adr E.2.1 4 0))] [.int y0] w Q := by
  unfold zb_X5_isName_p23 at h
  exact kz_iretz (M := kt_M184) kX5_isName_c1.2.2.2.1 rfl h.1 h.2
def zb_X5_isName_p0 (E : zE) (L : Nat) (Q : kx_Rs → wS → Prop) (w : wS) : Prop := (kx_inb (w_i w 4 0 3) (w_n w 1 0 2) = true ∧ (if ¬ w_r w 1 0 2 (w_i w 4 0 3).toNatClampNeg = some (E.1.1 1) then zb_X5_isName_p23 E L Q 0 w else zb_X5_isName_p23 E L Q 1 w))
theorem zt_X5_isName_p0 {E : zE} {L : Nat} {Q : kx_Rs → wS → Prop} {w : wS} (hL : 19 ≤ L) (h : zb_X5_isName_p0 E L Q  w) : kzE E L kt_M184 0 [(0, .ref (w_adr E.2.1 4 0))] [] w Q := by
  unfold zb_X5_isName_p0 at h
  refine kz_aload_n (M := kt_M184) kX5_isName_c0.1 rfl ?_
  refine kz_gfc (M := kt_M184) (x := 4) (c := 4) (o := 0) kX5_isName_c0.2.1 wf_X5_9 (.inl rfl) ?_
  refine kz_gfc (M := kt_M184) (x := 1258) (c := 1) (o := 0) kX5_isName_c0.2.2.1 wf_X5_48 (.inl rfl) ?_
  refine kz_aload_n (M := kt_M184) kX5_isName_c0.2.2.2.1 rfl ?_
  refine kz_gfi (M := kt_M184) (c := 4) (o := 0) kX5_isName_c0.2.2.2.2.1 wf_X5_29 (.inl rfl) ?_
  refine kz_aald (M := kt_M184) (τ := 0) (c := 1) (o := 0) (k := 2) (a := (E.2.1 1258)) kX5_isName_c0.2.2.2.2.2.1 ow_1_0_2 oa_1_0_2 ot_4 rfl h (fun h => ?_)
  refine kz_getsE (M := kt_M184) (v := va_rf (some (E.1.1 1))) kX5_isName_c0.2.2.2.2.2.2.1 zs_X5_76 ?_
  refine kz_acmp_ne (M := kt_M184) (x := w_r w 1 0 2 (w_i w 4 0 3).toNatClampNeg) (y := some (E.1.1 1)) kX5_isName_c0.2.2.2.2.2.2.2.1 (t := 22) rfl h (fun h => ?_) (fun h => ?_)
  · skip
    refine kz_ic (M := kt_M184) 0 kX5_isName_c1.2.2.1 rfl ?_
    exact kz_weak [(0, .ref (w_adr E.2.1 4 0))] ⟨rfl, trivial⟩ rfl (zt_X5_isName_p23 hL  h)
  · skip
    refine kz_ic (M := kt_M184) 1 kX5_isName_c1.1 rfl ?_
    refine kz_goto (M := kt_M184) kX5_isName_c1.2.1 (t := 23) rfl ?_
    exact kz_weak [(0, .ref (w_adr E.2.1 4 0))] ⟨rfl, trivial⟩ rfl (zt_X5_isName_p23 hL  h)
def zb_X5_stands_p31 (E : zE) (L : Nat) (Q : kx_Rs → wS → Prop) (w : wS) : Prop := Q (.inl none) w
theorem zt_X5_stands_p31 {E : zE} {L : Nat} {Q : kx_Rs → wS → Prop} {w : wS} (hL : 22 ≤ L) (h : zb_X5_stands_p31 E L Q  w) : kzE E L kt_M211 31 [(0, .ref (w_adr E.2.1 4 0))] [] w Q := by
  unfold zb_X5_stands_p31 at h
  exact kz_ret (M := kt_M211) kX5_stands_c2.1 rfl h
def zb_X5_stands_p13 (E : zE) (L : Nat) (Q : kx_Rs → wS → Prop) (x1 : Int32) (w : wS) : Prop := (if x1 ≤ 20 then zb_X5_stands_p31 E L Q w else zw E (L - 20) kt_M189 [.ref (w_adr E.2.1 4 0)] w (wk1 (fun v2 w1 => wle w w1 → zw E (L - 22) kt_M55 [.ref (w_adr E.2.1 2 0), .int 3, .int v2] w1 (wk0 (fun w3 => wle w1 w3 → zb_X5_stands_p31 E L Q w3) (fun e w => Q (.inr e) w))) (fun e w => Q (.inr e) w)))
theorem zt_X5_stands_p13 {E : zE} {L : Nat} {Q : kx_Rs → wS → Prop} {x1 : Int32} {w : wS} (hL : 22 ≤ L) (h : zb_X5_stands_p13 E L Q x1 w) : kzE E L kt_M211 13 [(0, .ref (w_adr E.2.1 4 0)), (1, .int x1)] [] w Q := by
  unfold zb_X5_stands_p13 at h
  refine kz_iload_n (M := kt_M211) kX5_stands_c0.2.2.2.2.2.2.2.1 rfl ?_
  refine kz_bi (M := kt_M211) 20 kX5_stands_c1.1 rfl ?_
  refine kz_icmp_le (M := kt_M211) kX5_stands_c1.2.1 (t := 31) rfl h (fun h => ?_) (fun h => ?_)
  · skip
    exact kz_weak [(0, .ref (w_adr E.2.1 4 0))] ⟨rfl, trivial⟩ rfl (zt_X5_stands_p31 hL  h)
  · skip
    refine kz_aload_n (M := kt_M211) kX5_stands_c1.2.2.1 rfl ?_
    refine kz_gfc (M := kt_M211) (x := 8) (c := 4) (o := 0) kX5_stands_c1.2.2.2.1 wf_X5_15 (.inl rfl) ?_
    refine kz_ic (M := kt_M211) 3 kX5_stands_c1.2.2.2.2.1 rfl ?_
    refine kz_aload_n (M := kt_M211) kX5_stands_c1.2.2.2.2.2.1 rfl ?_
    refine kz_cv1 (M := kt_M211) (c := 4) (o := 0) (As := []) (rest := [.int 3, .ref (w_adr E.2.1 2 0)]) kX5_stands_c1.2.2.2.2.2.2.1 wl_X5_33 wMv_189 rfl (.inl rfl) rfl (Nat.le_trans (Nat.le_of_ble_eq_true rfl) hL) (Nat.le_of_ble_eq_true rfl) (Nat.le_of_ble_eq_true rfl) h (fun v2 w1 hle h => ?_) (fun _ _ _ h => kzx_no rfl h)
    have h := h hle
    refine kz_cv0 (M := kt_M211) (c := 2) (o := 0) (As := [.int 3, .int v2]) (rest := []) kX5_stands_c1.2.2.2.2.2.2.2.1 wl_X5_42 wMv_55 rfl (.inl rfl) rfl (Nat.le_trans (Nat.le_of_ble_eq_true rfl) hL) (Nat.le_of_ble_eq_true rfl) (Nat.le_of_ble_eq_true rfl) h (fun w3 hle h => ?_) (fun _ _ _ h => kzx_no rfl h)
    have h := h hle
    exact kz_weak [(0, .ref (w_adr E.2.1 4 0))] ⟨rfl, trivial⟩ rfl (zt_X5_stands_p31 hL  h)
def zb_X5_stands_p0 (E : zE) (L : Nat) (Q : kx_Rs → wS → Prop) (x1 : Int32) (x2 : Int32) (w : wS) : Prop := zw E (L - 21) kt_M210 [.ref (w_adr E.2.1 4 0), .int x1] w (wk0 (fun w1 => wle w w1 → (if ¬ x2 = 0 then zb_X5_stands_p13 E L Q x1 w1 else zw E (L - 20) kt_M213 [.ref (w_adr E.2.1 4 0)] w1 (wk0 (fun w3 => wle w1 w3 → zb_X5_stands_p13 E L Q x1 w3) (fun e w => Q (.inr e) w)))) (fun e w => Q (.inr e) w))
theorem zt_X5_stands_p0 {E : zE} {L : Nat} {Q : kx_Rs → wS → Prop} {x1 : Int32} {x2 : Int32} {w : wS} (hL : 22 ≤ L) (h : zb_X5_stands_p0 E L Q x1 x2 w) : kzE E L kt_M211 0 [(0, .ref (w_adr E.2.1 4 0)), (1, .int x1), (2, .int x2)] [] w Q := by
  unfold zb_X5_stands_p0 at h
  refine kz_aload_n (M := kt_M211) kX5_stands_c0.1 rfl ?_
  refine kz_iload_n (M := kt_M211) kX5_stands_c0.2.1 rfl ?_
  refine kz_cv0 (M := kt_M211) (c := 4) (o := 0) (As := [.int x1]) (rest := []) kX5_stands_c0.2.2.1 wl_X5_113 wMv_210 rfl (.inl rfl) rfl (Nat.le_trans (Nat.le_of_ble_eq_true rfl) hL) (Nat.le_of_ble_eq_true rfl) (Nat.le_of_ble_eq_true rfl) h (fun w1 hle h => ?_) (fun _ _ _ h => kzx_no rfl h)
  have h := h hle
  refine kz_iload_n (M := kt_M211) kX5_stands_c0.2.2.2.1 rfl ?_
  refine kz_if_ne (M := kt_M211) kX5_stands_c0.2.2.2.2.1 (t := 13) rfl h (fun h => ?_) (fun h => ?_)
  · skip
    exact kz_weak [(0, .ref (w_adr E.2.1 4 0)), (1, .int x1)] ⟨rfl, ⟨rfl, trivial⟩⟩ rfl (zt_X5_stands_p13 hL  h)
  · skip
    refine kz_aload_n (M := kt_M211) kX5_stands_c0.2.2.2.2.2.1 rfl ?_
    refine kz_cv0 (M := kt_M211) (c := 4) (o := 0) (As := []) (rest := []) kX5_stands_c0.2.2.2.2.2.2.1 wl_X5_82 wMv_213 rfl (.inl rfl) rfl (Nat.le_trans (Nat.le_of_ble_eq_true rfl) hL) (Nat.le_of_ble_eq_true rfl) (Nat.le_of_ble_eq_true rfl) h (fun w3 hle h => ?_) (fun _ _ _ h => kzx_no rfl h)
    have h := h hle
    exact kz_weak [(0, .ref (w_adr E.2.1 4 0)), (1, .int x1)] ⟨rfl, ⟨rfl, trivial⟩⟩ rfl (zt_X5_stands_p13 hL  h)
def zb_X5_stands_2_p12 (E : zE) (L : Nat) (Q : kx_Rs → wS → Prop) (w : wS) : Prop := Q (.inl none) (ws_i w 4 0 4 0)
theorem zt_X5_stands_2_p12 {E : zE} {L : Nat} {Q : kx_Rs → wS → Prop} {w : wS} (hL : 21 ≤ L) (h : zb_X5_stands_2_p12 E L Q  w) : kzE E L kt_M210 12 [(0, .ref (w_adr E.2.1 4 0))] [] w Q := by
  unfold zb_X5_stands_2_p12 at h
  refine kz_aload_n (M := kt_M210) kX5_stands_2_c0.2.2.2.2.2.2.1 rfl ?_
  refine kz_ic (M := kt_M210) 0 kX5_stands_2_c0.2.2.2.2.2.2.2.1 rfl ?_
  refine kz_pfi (M := kt_M210) (c := 4) (o := 0) kX5_stands_2_c1.1 wq_X5_97 (.inl rfl) ?_
  exact kz_ret (M := kt_M210) kX5_stands_2_c1.2.1 rfl h
def zb_X5_stands_2_p0 (E : zE) (L : Nat) (Q : kx_Rs → wS → Prop) (x1 : Int32) (w : wS) : Prop := zw E (L - 21) kt_M192 [.ref (w_adr E.2.1 4 0), .int x1] w (wk1 (fun v2 w1 => wle w w1 → (if ¬ v2 = 0 then zb_X5_stands_2_p12 E L Q w1 else zw E (L - 20) kt_M213 [.ref (w_adr E.2.1 4 0)] w1 (wk0 (fun w3 => wle w1 w3 → zb_X5_stands_2_p12 E L Q w3) (fun e w => Q (.inr e) w)))) (fun e w => Q (.inr e) w))
theorem zt_X5_stands_2_p0 {E : zE} {L : Nat} {Q : kx_Rs → wS → Prop} {x1 : Int32} {w : wS} (hL : 21 ≤ L) (h : zb_X5_stands_2_p0 E L Q x1 w) : kzE E L kt_M210 0 [(0, .ref (w_adr E.2.1 4 0)), (1, .int x1)] [] w Q := by
  unfold zb_X5_stands_2_p0 at h
  refine kz_aload_n (M := kt_M210) kX5_stands_2_c0.1 rfl ?_
  refine kz_iload_n (M := kt_M210) kX5_stands_2_c0.2.1 rfl ?_
  refine kz_cv1 (M := kt_M210) (c := 4) (o := 0) (As := [.int x1]) (rest := []) kX5_stands_2_c0.2.2.1 wl_X5_110 wMv_192 rfl (.inl rfl) rfl (Nat.le_trans (Nat.le_of_ble_eq_true rfl) hL) (Nat.le_of_ble_eq_true rfl) (Nat.le_of_ble_eq_true rfl) h (fun v2 w1 hle h => ?_) (fun _ _ _ h => kzx_no rfl h)
  have h := h hle
  refine kz_if_ne (M := kt_M210) kX5_stands_2_c0.2.2.2.1 (t := 12) rfl h (fun h => ?_) (fun h => ?_)
  · skip
    exact kz_weak [(0, .ref (w_adr E.2.1 4 0))] ⟨rfl, trivial⟩ rfl (zt_X5_stands_2_p12 hL  h)
  · skip
    refine kz_aload_n (M := kt_M210) kX5_stands_2_c0.2.2.2.2.1 rfl ?_
    refine kz_cv0 (M := kt_M210) (c := 4) (o := 0) (As := []) (rest := []) kX5_stands_2_c0.2.2.2.2.2.1 wl_X5_82 wMv_213 rfl (.inl rfl) rfl (Nat.le_trans (Nat.le_of_ble_eq_true rfl) hL) (Nat.le_of_ble_eq_true rfl) (Nat.le_of_ble_eq_true rfl) h (fun w3 hle h => ?_) (fun _ _ _ h => kzx_no rfl h)
    have h := h hle
    exact kz_weak [(0, .ref (w_adr E.2.1 4 0))] ⟨rfl, trivial⟩ rfl (zt_X5_stands_2_p12 hL  h)
def zb_X5_more_p39 (E : zE) (L : Nat) (Q : kx_Rs → wS → Prop) (y0 : Int32) (w : wS) : Prop := ((y0 = 0 ∨ y0 = 1) ∧ Q (.inl (some (.int y0))) w)
theorem zt_X5_more_p39 {E : zE} {L : Nat} {Q : kx_Rs → wS → Prop} {y0 : Int32} {w : wS} (hL : 19 ≤ L) (h : zb_X5_more_p39 E L Q y0 w) : kzE E L kt_M192 39 [(0, .ref (w_adr E.2.1 4 0))] [.int y0] w Q := by
  unfold zb_X5_more_p39 at h
  exact kz_iretz (M := kt_M192) kX5_more_c2.2.2.2.1 rfl h.1 h.2
def zb_X5_more_p38 (E : zE) (L : Nat) (Q : kx_Rs → wS → Prop) (w : wS) : Prop := zb_X5_more_p39 E L Q 0 w
theorem zt_X5_more_p38 {E : zE} {L : Nat} {Q : kx_Rs → wS → Prop} {w : wS} (hL : 19 ≤ L) (h : zb_X5_more_p38 E L Q  w) : kzE E L kt_M192 38 [(0, .ref (w_adr E.2.1 4 0))] [] w Q := by
  unfold zb_X5_more_p38 at h
  refine kz_ic (M := kt_M192) 0 kX5_more_c2.2.2.1 rfl ?_
  exact kz_weak [(0, .ref (w_adr E.2.1 4 0))] ⟨rfl, trivial⟩ rfl (zt_X5_more_p39 hL  h)
def zb_X5_more_p0 (E : zE) (L : Nat) (Q : kx_Rs → wS → Prop) (x1 : Int32) (w : wS) : Prop := (kx_inb (w_i w 4 0 3) (w_n w 1 0 2) = true ∧ (if w_r w 1 0 2 (w_i w 4 0 3).toNatClampNeg = some (E.1.1 8) then zb_X5_more_p38 E L Q w else (kx_inb (w_i w 4 0 3) (w_n w 1 0 6) = true ∧ (if ¬ w_a w 1 0 6 (w_i w 4 0 3).toNatClampNeg = x1 then zb_X5_more_p38 E L Q w else zb_X5_more_p39 E L Q 1 w))))
theorem zt_X5_more_p0 {E : zE} {L : Nat} {Q : kx_Rs → wS → Prop} {x1 : Int32} {w : wS} (hL : 19 ≤ L) (h : zb_X5_more_p0 E L Q x1 w) : kzE E L kt_M192 0 [(0, .ref (w_adr E.2.1 4 0)), (1, .int x1)] [] w Q := by
  unfold zb_X5_more_p0 at h
  refine kz_aload_n (M := kt_M192) kX5_more_c0.1 rfl ?_
  refine kz_gfc (M := kt_M192) (x := 4) (c := 4) (o := 0) kX5_more_c0.2.1 wf_X5_9 (.inl rfl) ?_
  refine kz_gfc (M := kt_M192) (x := 1258) (c := 1) (o := 0) kX5_more_c0.2.2.1 wf_X5_48 (.inl rfl) ?_
  refine kz_aload_n (M := kt_M192) kX5_more_c0.2.2.2.1 rfl ?_
  refine kz_gfi (M := kt_M192) (c := 4) (o := 0) kX5_more_c0.2.2.2.2.1 wf_X5_29 (.inl rfl) ?_
  refine kz_aald (M := kt_M192) (τ := 0) (c := 1) (o := 0) (k := 2) (a := (E.2.1 1258)) kX5_more_c0.2.2.2.2.2.1 ow_1_0_2 oa_1_0_2 ot_4 rfl h (fun h => ?_)
  refine kz_getsE (M := kt_M192) (v := va_rf (some (E.1.1 8))) kX5_more_c0.2.2.2.2.2.2.1 zs_X5_104 ?_
  refine kz_acmp_eq (M := kt_M192) (x := w_r w 1 0 2 (w_i w 4 0 3).toNatClampNeg) (y := some (E.1.1 8)) kX5_more_c0.2.2.2.2.2.2.2.1 (t := 38) rfl h (fun h => ?_) (fun h => ?_)
  · skip
    exact kz_weak [(0, .ref (w_adr E.2.1 4 0))] ⟨rfl, trivial⟩ rfl (zt_X5_more_p38 hL  h)
  · skip
    refine kz_aload_n (M := kt_M192) kX5_more_c1.1 rfl ?_
    refine kz_gfc (M := kt_M192) (x := 4) (c := 4) (o := 0) kX5_more_c1.2.1 wf_X5_9 (.inl rfl) ?_
    refine kz_gfc (M := kt_M192) (x := 1262) (c := 1) (o := 0) kX5_more_c1.2.2.1 wf_X5_107 (.inl rfl) ?_
    refine kz_aload_n (M := kt_M192) kX5_more_c1.2.2.2.1 rfl ?_
    refine kz_gfi (M := kt_M192) (c := 4) (o := 0) kX5_more_c1.2.2.2.2.1 wf_X5_29 (.inl rfl) ?_
    refine kz_iald (M := kt_M192) (c := 1) (o := 0) (k := 6) (a := (E.2.1 1262)) kX5_more_c1.2.2.2.2.2.1 ow_1_0_6 oa_1_0_6 ot_0 h (fun h => ?_)
    refine kz_iload_n (M := kt_M192) kX5_more_c1.2.2.2.2.2.2.1 rfl ?_
    refine kz_icmp_ne (M := kt_M192) kX5_more_c1.2.2.2.2.2.2.2.1 (t := 38) rfl h (fun h => ?_) (fun h => ?_)
    · skip
      exact kz_weak [(0, .ref (w_adr E.2.1 4 0))] ⟨rfl, trivial⟩ rfl (zt_X5_more_p38 hL  h)
    · skip
      refine kz_ic (M := kt_M192) 1 kX5_more_c2.1 rfl ?_
      refine kz_goto (M := kt_M192) kX5_more_c2.2.1 (t := 39) rfl ?_
      exact kz_weak [(0, .ref (w_adr E.2.1 4 0))] ⟨rfl, trivial⟩ rfl (zt_X5_more_p39 hL  h)
def zb_X5_unfit_p0 (E : zE) (L : Nat) (Q : kx_Rs → wS → Prop) (w : wS) : Prop := zw E (L - 20) kt_M189 [.ref (w_adr E.2.1 4 0)] w (wk1 (fun v2 w1 => wle w w1 → zw E (L - 22) kt_M55 [.ref (w_adr E.2.1 2 0), .int 2, .int v2] w1 (wk0 (fun w3 => wle w1 w3 → Q (.inl none) w3) (fun e w => Q (.inr e) w))) (fun e w => Q (.inr e) w))
theorem zt_X5_unfit_p0 {E : zE} {L : Nat} {Q : kx_Rs → wS → Prop} {w : wS} (hL : 22 ≤ L) (h : zb_X5_unfit_p0 E L Q  w) : kzE E L kt_M213 0 [(0, .ref (w_adr E.2.1 4 0))] [] w Q := by
  unfold zb_X5_unfit_p0 at h
  refine kz_aload_n (M := kt_M213) kX5_unfit_c0.1 rfl ?_
  refine kz_gfc (M := kt_M213) (x := 8) (c := 4) (o := 0) kX5_unfit_c0.2.1 wf_X5_15 (.inl rfl) ?_
  refine kz_ic (M := kt_M213) 2 kX5_unfit_c0.2.2.1 rfl ?_
  refine kz_aload_n (M := kt_M213) kX5_unfit_c0.2.2.2.1 rfl ?_
  refine kz_cv1 (M := kt_M213) (c := 4) (o := 0) (As := []) (rest := [.int 2, .ref (w_adr E.2.1 2 0)]) kX5_unfit_c0.2.2.2.2.1 wl_X5_33 wMv_189 rfl (.inl rfl) rfl (Nat.le_trans (Nat.le_of_ble_eq_true rfl) hL) (Nat.le_of_ble_eq_true rfl) (Nat.le_of_ble_eq_true rfl) h (fun v2 w1 hle h => ?_) (fun _ _ _ h => kzx_no rfl h)
  have h := h hle
  refine kz_cv0 (M := kt_M213) (c := 2) (o := 0) (As := [.int 2, .int v2]) (rest := []) kX5_unfit_c0.2.2.2.2.2.1 wl_X5_42 wMv_55 rfl (.inl rfl) rfl (Nat.le_trans (Nat.le_of_ble_eq_true rfl) hL) (Nat.le_of_ble_eq_true rfl) (Nat.le_of_ble_eq_true rfl) h (fun w3 hle h => ?_) (fun _ _ _ h => kzx_no rfl h)
  have h := h hle
  exact kz_ret (M := kt_M213) kX5_unfit_c0.2.2.2.2.2.2.1 rfl h
def zb_X5_node_p0 (E : zE) (L : Nat) (Q : kx_Rs → wS → Prop) (x1 : Option Nat) (w : wS) : Prop := zw E (L - 20) kt_M189 [.ref (w_adr E.2.1 4 0)] w (wk1 (fun v2 w1 => wle w w1 → zw E (L - 24) kt_M225 [.ref (w_adr E.2.1 3 0), va_rf (x1), .int (w_i w 4 0 3), .int v2] w1 (wkr (fun v4 w3 => wle w1 w3 → Q (.inl (some (va_rf (v4)))) w3) (fun e w => Q (.inr e) w))) (fun e w => Q (.inr e) w))
theorem zt_X5_node_p0 {E : zE} {L : Nat} {Q : kx_Rs → wS → Prop} {x1 : Option Nat} {w : wS} (hL : 24 ≤ L) (h : zb_X5_node_p0 E L Q x1 w) : kzE E L kt_M196 0 [(0, .ref (w_adr E.2.1 4 0)), (1, va_rf (x1))] [] w Q := by
  unfold zb_X5_node_p0 at h
  refine kz_aload_n (M := kt_M196) kX5_node_c0.1 rfl ?_
  refine kz_gfc (M := kt_M196) (x := 12) (c := 4) (o := 0) kX5_node_c0.2.1 wf_X5_19 (.inl rfl) ?_
  refine kz_aload_nv (M := kt_M196) (x := x1) kX5_node_c0.2.2.1 rfl ?_
  refine kz_aload_n (M := kt_M196) kX5_node_c0.2.2.2.1 rfl ?_
  refine kz_gfi (M := kt_M196) (c := 4) (o := 0) kX5_node_c0.2.2.2.2.1 wf_X5_29 (.inl rfl) ?_
  refine kz_aload_n (M := kt_M196) kX5_node_c0.2.2.2.2.2.1 rfl ?_
  refine kz_cv1 (M := kt_M196) (c := 4) (o := 0) (As := []) (rest := [.int (w_i w 4 0 3), va_rf (x1), .ref (w_adr E.2.1 3 0)]) kX5_node_c0.2.2.2.2.2.2.1 wl_X5_33 wMv_189 rfl (.inl rfl) rfl (Nat.le_trans (Nat.le_of_ble_eq_true rfl) hL) (Nat.le_of_ble_eq_true rfl) (by simp [kx_cat, w_cat, z_ci, z_cr, z_cl, z_cn]) h (fun v2 w1 hle h => ?_) (fun _ _ _ h => kzx_no rfl h)
  have h := h hle
  refine kz_cvr (M := kt_M196) (c := 3) (o := 0) (As := [va_rf (x1), .int (w_i w 4 0 3), .int v2]) (rest := []) kX5_node_c0.2.2.2.2.2.2.2.1 wl_X5_36 wMv_225 rfl (.inl rfl) rfl (Nat.le_trans (Nat.le_of_ble_eq_true rfl) hL) (by simp [lg_sl, w_cat, z_ci, z_cr, z_cl, z_cn, kt_M225]) (Nat.le_of_ble_eq_true rfl) h (fun v4 w3 hle h => ?_) (fun _ _ _ h => kzx_no rfl h)
  have h := h hle
  exact kz_areto (x := v4) (M := kt_M196) kX5_node_c1.1 rfl h
def zb_X5_declaration_p219 (E : zE) (L : Nat) (Q : kx_Rs → wS → Prop) (x2 : Option Nat) (w : wS) : Prop := zw E (L - 21) kt_M176 [.ref (w_adr E.2.1 4 0), .int 42] w (wk0 (fun w1 => wle w w1 → zw E (L - 20) kt_M174 [.ref (w_adr E.2.1 4 0)] w1 (wk0 (fun w3 => wle w1 w3 → Q (.inl (some (va_rf (x2)))) w3) (fun e w => Q (.inr e) w))) (fun e w => Q (.inr e) w))
theorem zt_X5_declaration_p219 {E : zE} {L : Nat} {Q : kx_Rs → wS → Prop} {x2 : Option Nat} {w : wS} (hL : 23 ≤ L) (h : zb_X5_declaration_p219 E L Q x2 w) : kzE E L kt_M171 219 [(0, .ref (w_adr E.2.1 4 0)), (2, va_rf (x2))] [] w Q := by
  unfold zb_X5_declaration_p219 at h
  refine kz_aload_n (M := kt_M171) kX5_declaration_c13.2.2.2.2.2.2.2.1 rfl ?_
  refine kz_bi (M := kt_M171) 42 kX5_declaration_c14.1 rfl ?_
  refine kz_cv0 (M := kt_M171) (c := 4) (o := 0) (As := [.int 42]) (rest := []) kX5_declaration_c14.2.1 wl_X5_100 wMv_176 rfl (.inl rfl) rfl (Nat.le_trans (Nat.le_of_ble_eq_true rfl) hL) (Nat.le_of_ble_eq_true rfl) (Nat.le_of_ble_eq_true rfl) h (fun w1 hle h => ?_) (fun _ _ _ h => kzx_no rfl h)
  have h := h hle
  refine kz_aload_n (M := kt_M171) kX5_declaration_c14.2.2.1 rfl ?_
  refine kz_cv0 (M := kt_M171) (c := 4) (o := 0) (As := []) (rest := []) kX5_declaration_c14.2.2.2.1 wl_X5_229 wMv_174 rfl (.inl rfl) rfl (Nat.le_trans (Nat.le_of_ble_eq_true rfl) hL) (Nat.le_of_ble_eq_true rfl) (Nat.le_of_ble_eq_true rfl) h (fun w3 hle h => ?_) (fun _ _ _ h => kzx_no rfl h)
  have h := h hle
  refine kz_aload_nv (M := kt_M171) (x := x2) kX5_declaration_c14.2.2.2.2.1 rfl ?_
  exact kz_areto (x := x2) (M := kt_M171) kX5_declaration_c14.2.2.2.2.2.1 rfl h
def zb_X5_declaration_p130 (E : zE) (L : Nat) (Q : kx_Rs → wS → Prop) (x2 : Option Nat) (y0 : Option Nat) (y1 : Option Nat) (w : wS) : Prop := zw E (L - 23) kt_M194 [.ref (w_adr E.2.1 4 0), va_rf (y1), va_rf (y0)] w (wk0 (fun w1 => wle w w1 → zb_X5_declaration_p219 E L Q x2 w1) (fun e w => Q (.inr e) w))
theorem zt_X5_declaration_p130 {E : zE} {L : Nat} {Q : kx_Rs → wS → Prop} {x2 : Option Nat} {y0 : Option Nat} {y1 : Option Nat} {w : wS} (hL : 23 ≤ L) (h : zb_X5_declaration_p130 E L Q x2 y0 y1 w) : kzE E L kt_M171 130 [(0, .ref (w_adr E.2.1 4 0)), (2, va_rf (x2))] [va_rf (y0), va_rf (y1), .ref (w_adr E.2.1 4 0)] w Q := by
  unfold zb_X5_declaration_p130 at h
  refine kz_cv0 (M := kt_M171) (c := 4) (o := 0) (As := [va_rf (y1), va_rf (y0)]) (rest := []) kX5_declaration_c8.1 wl_X5_184 wMv_194 rfl (.inl rfl) rfl (Nat.le_trans (Nat.le_of_ble_eq_true rfl) hL) (by simp [lg_sl, w_cat, z_ci, z_cr, z_cl, z_cn, kt_M194]) (Nat.le_of_ble_eq_true rfl) h (fun w1 hle h => ?_) (fun _ _ _ h => kzx_no rfl h)
  have h := h hle
  refine kz_goto (M := kt_M171) kX5_declaration_c8.2.1 (t := 219) rfl ?_
  exact kz_weak [(0, .ref (w_adr E.2.1 4 0)), (2, va_rf (x2))] ⟨rfl, ⟨rfl, trivial⟩⟩ rfl (zt_X5_declaration_p219 hL  h)
def zb_X5_declaration_p101 (E : zE) (L : Nat) (Q : kx_Rs → wS → Prop) (x2 : Option Nat) (w : wS) : Prop := zw E (L - 21) kt_M188 [.ref (w_adr E.2.1 4 0), .int 39] w (wk0 (fun w1 => wle w w1 → zw E (L - 21) kt_M187 [.ref (w_adr E.2.1 4 0), va_rf (x2)] w1 (wk0 (fun w3 => wle w1 w3 → (∃ p5, x2 = some p5 ∧ w_l w3 E.2.1 14 p5 ∧ (if w_i w3 14 p5 14 = 0 then zb_X5_declaration_p130 E L Q x2 (some (E.1.1 10)) x2 w3 else zb_X5_declaration_p130 E L Q x2 (some (E.1.1 26)) x2 w3))) (fun e w => Q (.inr e) w))) (fun e w => Q (.inr e) w))
theorem zt_X5_declaration_p101 {E : zE} {L : Nat} {Q : kx_Rs → wS → Prop} {x2 : Option Nat} {w : wS} (hL : 23 ≤ L) (h : zb_X5_declaration_p101 E L Q x2 w) : kzE E L kt_M171 101 [(0, .ref (w_adr E.2.1 4 0)), (2, va_rf (x2))] [] w Q := by
  unfold zb_X5_declaration_p101 at h
  refine kz_aload_n (M := kt_M171) kX5_declaration_c6.2.2.1 rfl ?_
  refine kz_bi (M := kt_M171) 39 kX5_declaration_c6.2.2.2.1 rfl ?_
  refine kz_cv0 (M := kt_M171) (c := 4) (o := 0) (As := [.int 39]) (rest := []) kX5_declaration_c6.2.2.2.2.1 wl_X5_198 wMv_188 rfl (.inl rfl) rfl (Nat.le_trans (Nat.le_of_ble_eq_true rfl) hL) (Nat.le_of_ble_eq_true rfl) (Nat.le_of_ble_eq_true rfl) h (fun w1 hle h => ?_) (fun _ _ _ h => kzx_no rfl h)
  have h := h hle
  refine kz_aload_n (M := kt_M171) kX5_declaration_c6.2.2.2.2.2.1 rfl ?_
  refine kz_aload_nv (M := kt_M171) (x := x2) kX5_declaration_c6.2.2.2.2.2.2.1 rfl ?_
  refine kz_cv0 (M := kt_M171) (c := 4) (o := 0) (As := [va_rf (x2)]) (rest := []) kX5_declaration_c6.2.2.2.2.2.2.2.1 wl_X5_201 wMv_187 rfl (.inl rfl) rfl (Nat.le_trans (Nat.le_of_ble_eq_true rfl) hL) (by simp [lg_sl, w_cat, z_ci, z_cr, z_cl, z_cn, kt_M187]) (Nat.le_of_ble_eq_true rfl) h (fun w3 hle h => ?_) (fun _ _ _ h => kzx_no rfl h)
  have h := h hle
  refine kz_aload_n (M := kt_M171) kX5_declaration_c7.1 rfl ?_
  refine kz_aload_nv (M := kt_M171) (x := x2) kX5_declaration_c7.2.1 rfl ?_
  refine kz_aload_nv (M := kt_M171) (x := x2) kX5_declaration_c7.2.2.1 rfl ?_
  obtain ⟨p5, hxp5, hlp5, h⟩ := h
  refine kz_nz0 (x := x2) hxp5 ?_
  refine kz_gfi (M := kt_M171) (c := 14) (o := p5) kX5_declaration_c7.2.2.2.1 wf_X5_205 (.inr (by exact hlp5)) ?_
  refine kz_if_eq (M := kt_M171) kX5_declaration_c7.2.2.2.2.1 (t := 127) rfl h (fun h => ?_) (fun h => ?_)
  · skip
    refine kz_getsE (M := kt_M171) (v := va_rf (some (E.1.1 10))) kX5_declaration_c7.2.2.2.2.2.2.2.1 zs_X5_171 ?_
    exact kz_weak [(0, .ref (w_adr E.2.1 4 0)), (2, va_rf (x2))] ⟨rfl, ⟨rfl, trivial⟩⟩ rfl (zt_X5_declaration_p130 hL  h)
  · skip
    refine kz_getsE (M := kt_M171) (v := va_rf (some (E.1.1 26))) kX5_declaration_c7.2.2.2.2.2.1 zs_X5_208 ?_
    refine kz_goto (M := kt_M171) kX5_declaration_c7.2.2.2.2.2.2.1 (t := 130) rfl ?_
    exact kz_weak [(0, .ref (w_adr E.2.1 4 0)), (2, va_rf (x2))] ⟨rfl, ⟨rfl, trivial⟩⟩ rfl (zt_X5_declaration_p130 hL  h)
def zb_X5_declaration_p0 (E : zE) (L : Nat) (Q : kx_Rs → wS → Prop) (x1 : Int32) (w : wS) : Prop := zw E (L - 21) kt_M196 [.ref (w_adr E.2.1 4 0), va_rf (some (E.1.1 10))] w (wkr (fun v2 w1 => wle w w1 → (kx_inb (w_i w1 4 0 3) (w_n w1 1 0 3) = true ∧ zw E (L - 20) kt_M186 [.ref (w_adr E.2.1 4 0)] w1 (wk1 (fun v4 w3 => wle w1 w3 → (if v4 = 0 then zw E (L - 21) kt_M183 [.ref (w_adr E.2.1 4 0), .int 38] w3 (wk1 (fun v6 w5 => wle w3 w5 → (if v6 = 0 then (if ¬ w_a w1 1 0 3 (w_i w1 4 0 3).toNatClampNeg = 6 then (if ¬ w_a w1 1 0 3 (w_i w1 4 0 3).toNatClampNeg = 30 then (if ¬ w_a w1 1 0 3 (w_i w1 4 0 3).toNatClampNeg = 33 then (if ¬ w_a w1 1 0 3 (w_i w1 4 0 3).toNatClampNeg = 24 then zw E (L - 22) kt_M201 [.ref (w_adr E.2.1 4 0), va_rf (v2), .int x1] w5 (wk0 (fun w7 => wle w5 w7 → Q (.inl (some (va_rf (v2)))) w7) (fun e w => Q (.inr e) w)) else zw E (L - 23) kt_M205 [.ref (w_adr E.2.1 4 0), va_rf (v2), .int x1] w5 (wk0 (fun w9 => wle w5 w9 → Q (.inl (some (va_rf (v2)))) w9) (fun e w => Q (.inr e) w))) else zw E (L - 21) kt_M214 [.ref (w_adr E.2.1 4 0), va_rf (v2)] w5 (wk0 (fun w11 => wle w5 w11 → zb_X5_declaration_p219 E L Q v2 w11) (fun e w => Q (.inr e) w))) else zw E (L - 20) kt_M195 [.ref (w_adr E.2.1 4 0)] w5 (wk0 (fun w13 => wle w5 w13 → (∃ p15, v2 = some p15 ∧ w_l w13 E.2.1 14 p15 ∧ zw E (L - 21) kt_M190 [.ref (w_adr E.2.1 4 0), va_rf (v2)] (ws_p w13 14 p15 0 (some (E.1.1 27))) (wk0 (fun w16 => wle (ws_p w13 14 p15 0 (some (E.1.1 27))) w16 → zb_X5_declaration_p219 E L Q v2 w16) (fun e w => Q (.inr e) w)))) (fun e w => Q (.inr e) w))) else zw E (L - 21) kt_M187 [.ref (w_adr E.2.1 4 0), va_rf (v2)] w5 (wk0 (fun w18 => wle w5 w18 → zw E (L - 23) kt_M194 [.ref (w_adr E.2.1 4 0), va_rf (v2), va_rf (some (E.1.1 26))] w18 (wk0 (fun w20 => wle w18 w20 → zb_X5_declaration_p219 E L Q v2 w20) (fun e w => Q (.inr e) w))) (fun e w => Q (.inr e) w))) else zw E (L - 20) kt_M175 [.ref (w_adr E.2.1 4 0)] w5 (wk0 (fun w22 => wle w5 w22 → zw E (L - 21) kt_M183 [.ref (w_adr E.2.1 4 0), .int 39] w22 (wk1 (fun v25 w24 => wle w22 w24 → (∃ p26, v2 = some p26 ∧ w_l w24 E.2.1 14 p26 ∧ ((v25 = 0 ∨ v25 = 1) ∧ (if ¬ v25 = 0 then zb_X5_declaration_p101 E L Q v2 (ws_i w24 14 p26 13 v25) else zw E (L - 22) kt_M177 [.ref (w_adr E.2.1 4 0)] (ws_i w24 14 p26 13 v25) (wkr (fun v28 w27 => wle (ws_i w24 14 p26 13 v25) w27 → zb_X5_declaration_p101 E L Q v2 (ws_p w27 14 p26 3 v28)) (fun e w => Q (.inr e) w)))))) (fun e w => Q (.inr e) w))) (fun e w => Q (.inr e) w)))) (fun e w => Q (.inr e) w)) else zw E (L - 21) kt_M212 [.ref (w_adr E.2.1 4 0)] w3 (wk1 (fun v30 w29 => wle w3 w29 → (∃ p31, v2 = some p31 ∧ w_l w29 E.2.1 14 p31 ∧ zw E (L - 21) kt_M183 [.ref (w_adr E.2.1 4 0), .int 10] (ws_i w29 14 p31 8 v30) (wk1 (fun v33 w32 => wle (ws_i w29 14 p31 8 v30) w32 → (if v33 = 0 then zw E (L - 23) kt_M194 [.ref (w_adr E.2.1 4 0), va_rf (v2), va_rf (some (E.1.1 10))] w32 (wk0 (fun w34 => wle w32 w34 → zb_X5_declaration_p219 E L Q v2 w34) (fun e w => Q (.inr e) w)) else zw E (L - 23) kt_M180 [.ref (w_adr E.2.1 4 0), va_rf (v2), .int x1] w32 (wkr (fun v37 w36 => wle w32 w36 → Q (.inl (some (va_rf (v37)))) w36) (fun e w => Q (.inr e) w)))) (fun e w => Q (.inr e) w)))) (fun e w => Q (.inr e) w)))) (fun e w => Q (.inr e) w)))) (fun e w => Q (.inr e) w))
theorem zt_X5_declaration_p0 {E : zE} {L : Nat} {Q : kx_Rs → wS → Prop} {x1 : Int32} {w : wS} (hL : 23 ≤ L) (h : zb_X5_declaration_p0 E L Q x1 w) : kzE E L kt_M171 0 [(0, .ref (w_adr E.2.1 4 0)), (1, .int x1)] [] w Q := by
  unfold zb_X5_declaration_p0 at h
  refine kz_aload_n (M := kt_M171) kX5_declaration_c0.1 rfl ?_
  refine kz_getsE (M := kt_M171) (v := va_rf (some (E.1.1 10))) kX5_declaration_c0.2.1 zs_X5_171 ?_
  refine kz_cvr (M := kt_M171) (c := 4) (o := 0) (As := [va_rf (some (E.1.1 10))]) (rest := []) kX5_declaration_c0.2.2.1 wl_X5_152 wMv_196 rfl (.inl rfl) rfl (Nat.le_trans (Nat.le_of_ble_eq_true rfl) hL) (by simp [lg_sl, w_cat, z_ci, z_cr, z_cl, z_cn, kt_M196]) (Nat.le_of_ble_eq_true rfl) h (fun v2 w1 hle h => ?_) (fun _ _ _ h => kzx_no rfl h)
  have h := h hle
  refine kz_stv_n (M := kt_M171) (x := v2) [(0, .ref (w_adr E.2.1 4 0)), (1, .int x1)] kX5_declaration_c0.2.2.2.1 (Nat.le_of_ble_eq_true rfl) ⟨⟨rfl, rfl, .inl rfl⟩, ⟨⟨rfl, rfl, .inr rfl⟩, trivial⟩⟩ rfl ?_
  refine kz_aload_n (M := kt_M171) kX5_declaration_c0.2.2.2.2.1 rfl ?_
  refine kz_gfc (M := kt_M171) (x := 4) (c := 4) (o := 0) kX5_declaration_c0.2.2.2.2.2.1 wf_X5_9 (.inl rfl) ?_
  refine kz_gfc (M := kt_M171) (x := 1259) (c := 1) (o := 0) kX5_declaration_c0.2.2.2.2.2.2.1 wf_X5_67 (.inl rfl) ?_
  refine kz_aload_n (M := kt_M171) kX5_declaration_c0.2.2.2.2.2.2.2.1 rfl ?_
  refine kz_gfi (M := kt_M171) (c := 4) (o := 0) kX5_declaration_c1.1 wf_X5_29 (.inl rfl) ?_
  refine kz_iald (M := kt_M171) (c := 1) (o := 0) (k := 3) (a := (E.2.1 1259)) kX5_declaration_c1.2.1 ow_1_0_3 oa_1_0_3 ot_0 h (fun h => ?_)
  refine kz_sti_n (M := kt_M171) [(0, .ref (w_adr E.2.1 4 0)), (1, .int x1), (2, va_rf (v2))] kX5_declaration_c1.2.2.1 (Nat.le_of_ble_eq_true rfl) ⟨⟨rfl, rfl, .inl rfl⟩, ⟨⟨rfl, rfl, .inl rfl⟩, ⟨⟨rfl, rfl, .inr (w_cat (v2))⟩, trivial⟩⟩⟩ rfl ?_
  refine kz_aload_n (M := kt_M171) kX5_declaration_c1.2.2.2.1 rfl ?_
  refine kz_cv1 (M := kt_M171) (c := 4) (o := 0) (As := []) (rest := []) kX5_declaration_c1.2.2.2.2.1 wl_X5_95 wMv_186 rfl (.inl rfl) rfl (Nat.le_trans (Nat.le_of_ble_eq_true rfl) hL) (Nat.le_of_ble_eq_true rfl) (Nat.le_of_ble_eq_true rfl) h (fun v4 w3 hle h => ?_) (fun _ _ _ h => kzx_no rfl h)
  have h := h hle
  refine kz_if_eq (M := kt_M171) kX5_declaration_c1.2.2.2.2.2.1 (t := 63) rfl h (fun h => ?_) (fun h => ?_)
  · skip
    refine kz_aload_n (M := kt_M171) kX5_declaration_c4.1 rfl ?_
    refine kz_bi (M := kt_M171) 38 kX5_declaration_c4.2.1 rfl ?_
    refine kz_cv1 (M := kt_M171) (c := 4) (o := 0) (As := [.int 38]) (rest := []) kX5_declaration_c4.2.2.1 wl_X5_79 wMv_183 rfl (.inl rfl) rfl (Nat.le_trans (Nat.le_of_ble_eq_true rfl) hL) (Nat.le_of_ble_eq_true rfl) (Nat.le_of_ble_eq_true rfl) h (fun v6 w5 hle h => ?_) (fun _ _ _ h => kzx_no rfl h)
    have h := h hle
    refine kz_if_eq (M := kt_M171) kX5_declaration_c4.2.2.2.1 (t := 136) rfl h (fun h => ?_) (fun h => ?_)
    · skip
      refine kz_iload_n (M := kt_M171) kX5_declaration_c8.2.2.1 rfl ?_
      refine kz_bi (M := kt_M171) 6 kX5_declaration_c8.2.2.2.1 rfl ?_
      refine kz_icmp_ne (M := kt_M171) kX5_declaration_c8.2.2.2.2.1 (t := 158) rfl h (fun h => ?_) (fun h => ?_)
      · skip
        refine kz_iload_n (M := kt_M171) kX5_declaration_c9.2.2.2.2.2.1 rfl ?_
        refine kz_bi (M := kt_M171) 30 kX5_declaration_c9.2.2.2.2.2.2.1 rfl ?_
        refine kz_icmp_ne (M := kt_M171) kX5_declaration_c9.2.2.2.2.2.2.2.1 (t := 183) rfl h (fun h => ?_) (fun h => ?_)
        · skip
          refine kz_iload_n (M := kt_M171) kX5_declaration_c11.2.1 rfl ?_
          refine kz_bi (M := kt_M171) 33 kX5_declaration_c11.2.2.1 rfl ?_
          refine kz_icmp_ne (M := kt_M171) kX5_declaration_c11.2.2.2.1 (t := 197) rfl h (fun h => ?_) (fun h => ?_)
          · skip
            refine kz_iload_n (M := kt_M171) kX5_declaration_c12.1 rfl ?_
            refine kz_bi (M := kt_M171) 24 kX5_declaration_c12.2.1 rfl ?_
            refine kz_icmp_ne (M := kt_M171) kX5_declaration_c12.2.2.1 (t := 211) rfl h (fun h => ?_) (fun h => ?_)
            · skip
              refine kz_aload_n (M := kt_M171) kX5_declaration_c13.2.1 rfl ?_
              refine kz_aload_nv (M := kt_M171) (x := v2) kX5_declaration_c13.2.2.1 rfl ?_
              refine kz_iload_n (M := kt_M171) kX5_declaration_c13.2.2.2.1 rfl ?_
              refine kz_cv0 (M := kt_M171) (c := 4) (o := 0) (As := [va_rf (v2), .int x1]) (rest := []) kX5_declaration_c13.2.2.2.2.1 wl_X5_226 wMv_201 rfl (.inl rfl) rfl (Nat.le_trans (Nat.le_of_ble_eq_true rfl) hL) (by simp [lg_sl, w_cat, z_ci, z_cr, z_cl, z_cn, kt_M201]) (Nat.le_of_ble_eq_true rfl) h (fun w7 hle h => ?_) (fun _ _ _ h => kzx_no rfl h)
              have h := h hle
              refine kz_aload_nv (M := kt_M171) (x := v2) kX5_declaration_c13.2.2.2.2.2.1 rfl ?_
              exact kz_areto (x := v2) (M := kt_M171) kX5_declaration_c13.2.2.2.2.2.2.1 rfl h
            · skip
              refine kz_aload_n (M := kt_M171) kX5_declaration_c12.2.2.2.1 rfl ?_
              refine kz_aload_nv (M := kt_M171) (x := v2) kX5_declaration_c12.2.2.2.2.1 rfl ?_
              refine kz_iload_n (M := kt_M171) kX5_declaration_c12.2.2.2.2.2.1 rfl ?_
              refine kz_cv0 (M := kt_M171) (c := 4) (o := 0) (As := [va_rf (v2), .int x1]) (rest := []) kX5_declaration_c12.2.2.2.2.2.2.1 wl_X5_222 wMv_205 rfl (.inl rfl) rfl (Nat.le_trans (Nat.le_of_ble_eq_true rfl) hL) (by simp [lg_sl, w_cat, z_ci, z_cr, z_cl, z_cn, kt_M205]) (Nat.le_of_ble_eq_true rfl) h (fun w9 hle h => ?_) (fun _ _ _ h => kzx_no rfl h)
              have h := h hle
              refine kz_aload_nv (M := kt_M171) (x := v2) kX5_declaration_c12.2.2.2.2.2.2.2.1 rfl ?_
              exact kz_areto (x := v2) (M := kt_M171) kX5_declaration_c13.1 rfl h
          · skip
            refine kz_aload_n (M := kt_M171) kX5_declaration_c11.2.2.2.2.1 rfl ?_
            refine kz_aload_nv (M := kt_M171) (x := v2) kX5_declaration_c11.2.2.2.2.2.1 rfl ?_
            refine kz_cv0 (M := kt_M171) (c := 4) (o := 0) (As := [va_rf (v2)]) (rest := []) kX5_declaration_c11.2.2.2.2.2.2.1 wl_X5_220 wMv_214 rfl (.inl rfl) rfl (Nat.le_trans (Nat.le_of_ble_eq_true rfl) hL) (by simp [lg_sl, w_cat, z_ci, z_cr, z_cl, z_cn, kt_M214]) (Nat.le_of_ble_eq_true rfl) h (fun w11 hle h => ?_) (fun _ _ _ h => kzx_no rfl h)
            have h := h hle
            refine kz_goto (M := kt_M171) kX5_declaration_c11.2.2.2.2.2.2.2.1 (t := 219) rfl ?_
            exact kz_weak [(0, .ref (w_adr E.2.1 4 0)), (2, va_rf (v2))] ⟨rfl, ⟨rfl, trivial⟩⟩ rfl (zt_X5_declaration_p219 hL  h)
        · skip
          refine kz_aload_n (M := kt_M171) kX5_declaration_c10.1 rfl ?_
          refine kz_cv0 (M := kt_M171) (c := 4) (o := 0) (As := []) (rest := []) kX5_declaration_c10.2.1 wl_X5_85 wMv_195 rfl (.inl rfl) rfl (Nat.le_trans (Nat.le_of_ble_eq_true rfl) hL) (Nat.le_of_ble_eq_true rfl) (Nat.le_of_ble_eq_true rfl) h (fun w13 hle h => ?_) (fun _ _ _ h => kzx_no rfl h)
          have h := h hle
          refine kz_aload_nv (M := kt_M171) (x := v2) kX5_declaration_c10.2.2.1 rfl ?_
          refine kz_getsE (M := kt_M171) (v := va_rf (some (E.1.1 27))) kX5_declaration_c10.2.2.2.1 zs_X5_211 ?_
          obtain ⟨p15, hxp15, hlp15, h⟩ := h
          refine kz_nz1 (x := v2) hxp15 ?_
          refine kz_pfp (M := kt_M171) (n := some (E.1.1 27)) (c := 14) (o := p15) kX5_declaration_c10.2.2.2.2.1 wq_X5_214 (.inr (by exact hlp15)) ?_
          refine kz_aload_n (M := kt_M171) kX5_declaration_c10.2.2.2.2.2.1 rfl ?_
          refine kz_aload_nv (M := kt_M171) (x := v2) kX5_declaration_c10.2.2.2.2.2.2.1 rfl ?_
          refine kz_cv0 (M := kt_M171) (c := 4) (o := 0) (As := [va_rf (v2)]) (rest := []) kX5_declaration_c10.2.2.2.2.2.2.2.1 wl_X5_217 wMv_190 rfl (.inl rfl) rfl (Nat.le_trans (Nat.le_of_ble_eq_true rfl) hL) (by simp [lg_sl, w_cat, z_ci, z_cr, z_cl, z_cn, kt_M190]) (Nat.le_of_ble_eq_true rfl) h (fun w16 hle h => ?_) (fun _ _ _ h => kzx_no rfl h)
          have h := h hle
          have hlp15 := w_l_le hlp15 hle
          refine kz_goto (M := kt_M171) kX5_declaration_c11.1 (t := 219) rfl ?_
          exact kz_weak [(0, .ref (w_adr E.2.1 4 0)), (2, va_rf (v2))] ⟨rfl, ⟨rfl, trivial⟩⟩ rfl (zt_X5_declaration_p219 hL  h)
      · skip
        refine kz_aload_n (M := kt_M171) kX5_declaration_c8.2.2.2.2.2.1 rfl ?_
        refine kz_aload_nv (M := kt_M171) (x := v2) kX5_declaration_c8.2.2.2.2.2.2.1 rfl ?_
        refine kz_cv0 (M := kt_M171) (c := 4) (o := 0) (As := [va_rf (v2)]) (rest := []) kX5_declaration_c8.2.2.2.2.2.2.2.1 wl_X5_201 wMv_187 rfl (.inl rfl) rfl (Nat.le_trans (Nat.le_of_ble_eq_true rfl) hL) (by simp [lg_sl, w_cat, z_ci, z_cr, z_cl, z_cn, kt_M187]) (Nat.le_of_ble_eq_true rfl) h (fun w18 hle h => ?_) (fun _ _ _ h => kzx_no rfl h)
        have h := h hle
        refine kz_aload_n (M := kt_M171) kX5_declaration_c9.1 rfl ?_
        refine kz_aload_nv (M := kt_M171) (x := v2) kX5_declaration_c9.2.1 rfl ?_
        refine kz_getsE (M := kt_M171) (v := va_rf (some (E.1.1 26))) kX5_declaration_c9.2.2.1 zs_X5_208 ?_
        refine kz_cv0 (M := kt_M171) (c := 4) (o := 0) (As := [va_rf (v2), va_rf (some (E.1.1 26))]) (rest := []) kX5_declaration_c9.2.2.2.1 wl_X5_184 wMv_194 rfl (.inl rfl) rfl (Nat.le_trans (Nat.le_of_ble_eq_true rfl) hL) (by simp [lg_sl, w_cat, z_ci, z_cr, z_cl, z_cn, kt_M194]) (Nat.le_of_ble_eq_true rfl) h (fun w20 hle h => ?_) (fun _ _ _ h => kzx_no rfl h)
        have h := h hle
        refine kz_goto (M := kt_M171) kX5_declaration_c9.2.2.2.2.1 (t := 219) rfl ?_
        exact kz_weak [(0, .ref (w_adr E.2.1 4 0)), (2, va_rf (v2))] ⟨rfl, ⟨rfl, trivial⟩⟩ rfl (zt_X5_declaration_p219 hL  h)
    · skip
      refine kz_aload_n (M := kt_M171) kX5_declaration_c4.2.2.2.2.1 rfl ?_
      refine kz_cv0 (M := kt_M171) (c := 4) (o := 0) (As := []) (rest := []) kX5_declaration_c4.2.2.2.2.2.1 wl_X5_188 wMv_175 rfl (.inl rfl) rfl (Nat.le_trans (Nat.le_of_ble_eq_true rfl) hL) (Nat.le_of_ble_eq_true rfl) (Nat.le_of_ble_eq_true rfl) h (fun w22 hle h => ?_) (fun _ _ _ h => kzx_no rfl h)
      have h := h hle
      refine kz_aload_nv (M := kt_M171) (x := v2) kX5_declaration_c4.2.2.2.2.2.2.1 rfl ?_
      refine kz_aload_n (M := kt_M171) kX5_declaration_c4.2.2.2.2.2.2.2.1 rfl ?_
      refine kz_bi (M := kt_M171) 39 kX5_declaration_c5.1 rfl ?_
      refine kz_cv1 (M := kt_M171) (c := 4) (o := 0) (As := [.int 39]) (rest := [va_rf (v2)]) kX5_declaration_c5.2.1 wl_X5_79 wMv_183 rfl (.inl rfl) rfl (Nat.le_trans (Nat.le_of_ble_eq_true rfl) hL) (Nat.le_of_ble_eq_true rfl) (by simp [kx_cat, w_cat, z_ci, z_cr, z_cl, z_cn]) h (fun v25 w24 hle h => ?_) (fun _ _ _ h => kzx_no rfl h)
      have h := h hle
      obtain ⟨p26, hxp26, hlp26, h⟩ := h
      refine kz_nz1 (x := v2) hxp26 ?_
      obtain ⟨h0, h⟩ := h
      refine kz_pfz (M := kt_M171) (c := 14) (o := p26) kX5_declaration_c5.2.2.1 wq_X5_191 (.inr (by exact hlp26)) h0 ?_
      refine kz_aload_nv (M := kt_M171) (x := v2) kX5_declaration_c5.2.2.2.1 rfl ?_
      refine kz_nz0 (x := v2) hxp26 ?_
      refine kz_gfiR (M := kt_M171) (c := 14) (o := p26) v25 kX5_declaration_c5.2.2.2.2.1 wf_X5_191 (.inr (by exact hlp26)) rd_i_e ?_
      refine kz_if_ne (M := kt_M171) kX5_declaration_c5.2.2.2.2.2.1 (t := 101) rfl h (fun h => ?_) (fun h => ?_)
      · skip
        exact kz_weak [(0, .ref (w_adr E.2.1 4 0)), (2, va_rf (v2))] ⟨rfl, ⟨rfl, trivial⟩⟩ rfl (zt_X5_declaration_p101 hL  h)
      · skip
        refine kz_aload_nv (M := kt_M171) (x := v2) kX5_declaration_c5.2.2.2.2.2.2.1 rfl ?_
        refine kz_aload_n (M := kt_M171) kX5_declaration_c5.2.2.2.2.2.2.2.1 rfl ?_
        refine kz_cvr (M := kt_M171) (c := 4) (o := 0) (As := []) (rest := [va_rf (v2)]) kX5_declaration_c6.1 wl_X5_194 wMv_177 rfl (.inl rfl) rfl (Nat.le_trans (Nat.le_of_ble_eq_true rfl) hL) (Nat.le_of_ble_eq_true rfl) (by simp [kx_cat, w_cat, z_ci, z_cr, z_cl, z_cn]) h (fun v28 w27 hle h => ?_) (fun _ _ _ h => kzx_no rfl h)
        have h := h hle
        have hlp26 := w_l_le hlp26 hle
        refine kz_nz1 (x := v2) hxp26 ?_
        refine kz_pfp (M := kt_M171) (n := v28) (c := 14) (o := p26) kX5_declaration_c6.2.1 wq_X5_162 (.inr (by exact hlp26)) ?_
        exact kz_weak [(0, .ref (w_adr E.2.1 4 0)), (2, va_rf (v2))] ⟨rfl, ⟨rfl, trivial⟩⟩ rfl (zt_X5_declaration_p101 hL  h)
  · skip
    refine kz_aload_nv (M := kt_M171) (x := v2) kX5_declaration_c1.2.2.2.2.2.2.1 rfl ?_
    refine kz_aload_n (M := kt_M171) kX5_declaration_c1.2.2.2.2.2.2.2.1 rfl ?_
    refine kz_cv1 (M := kt_M171) (c := 4) (o := 0) (As := []) (rest := [va_rf (v2)]) kX5_declaration_c2.1 wl_X5_174 wMv_212 rfl (.inl rfl) rfl (Nat.le_trans (Nat.le_of_ble_eq_true rfl) hL) (Nat.le_of_ble_eq_true rfl) (by simp [kx_cat, w_cat, z_ci, z_cr, z_cl, z_cn]) h (fun v30 w29 hle h => ?_) (fun _ _ _ h => kzx_no rfl h)
    have h := h hle
    obtain ⟨p31, hxp31, hlp31, h⟩ := h
    refine kz_nz1 (x := v2) hxp31 ?_
    refine kz_pfi (M := kt_M171) (c := 14) (o := p31) kX5_declaration_c2.2.1 wq_X5_177 (.inr (by exact hlp31)) ?_
    refine kz_aload_n (M := kt_M171) kX5_declaration_c2.2.2.1 rfl ?_
    refine kz_bi (M := kt_M171) 10 kX5_declaration_c2.2.2.2.1 rfl ?_
    refine kz_cv1 (M := kt_M171) (c := 4) (o := 0) (As := [.int 10]) (rest := []) kX5_declaration_c2.2.2.2.2.1 wl_X5_79 wMv_183 rfl (.inl rfl) rfl (Nat.le_trans (Nat.le_of_ble_eq_true rfl) hL) (Nat.le_of_ble_eq_true rfl) (Nat.le_of_ble_eq_true rfl) h (fun v33 w32 hle h => ?_) (fun _ _ _ h => kzx_no rfl h)
    have h := h hle
    have hlp31 := w_l_le hlp31 hle
    refine kz_if_eq (M := kt_M171) kX5_declaration_c2.2.2.2.2.2.1 (t := 52) rfl h (fun h => ?_) (fun h => ?_)
    · skip
      refine kz_aload_n (M := kt_M171) kX5_declaration_c3.2.2.2.1 rfl ?_
      refine kz_aload_nv (M := kt_M171) (x := v2) kX5_declaration_c3.2.2.2.2.1 rfl ?_
      refine kz_getsE (M := kt_M171) (v := va_rf (some (E.1.1 10))) kX5_declaration_c3.2.2.2.2.2.1 zs_X5_171 ?_
      refine kz_cv0 (M := kt_M171) (c := 4) (o := 0) (As := [va_rf (v2), va_rf (some (E.1.1 10))]) (rest := []) kX5_declaration_c3.2.2.2.2.2.2.1 wl_X5_184 wMv_194 rfl (.inl rfl) rfl (Nat.le_trans (Nat.le_of_ble_eq_true rfl) hL) (by simp [lg_sl, w_cat, z_ci, z_cr, z_cl, z_cn, kt_M194]) (Nat.le_of_ble_eq_true rfl) h (fun w34 hle h => ?_) (fun _ _ _ h => kzx_no rfl h)
      have h := h hle
      have hlp31 := w_l_le hlp31 hle
      refine kz_goto (M := kt_M171) kX5_declaration_c3.2.2.2.2.2.2.2.1 (t := 219) rfl ?_
      exact kz_weak [(0, .ref (w_adr E.2.1 4 0)), (2, va_rf (v2))] ⟨rfl, ⟨rfl, trivial⟩⟩ rfl (zt_X5_declaration_p219 hL  h)
    · skip
      refine kz_aload_n (M := kt_M171) kX5_declaration_c2.2.2.2.2.2.2.1 rfl ?_
      refine kz_aload_nv (M := kt_M171) (x := v2) kX5_declaration_c2.2.2.2.2.2.2.2.1 rfl ?_
      refine kz_iload_n (M := kt_M171) kX5_declaration_c3.1 rfl ?_
      refine kz_cvr (M := kt_M171) (c := 4) (o := 0) (As := [va_rf (v2), .int x1]) (rest := []) kX5_declaration_c3.2.1 wl_X5_180 wMv_180 rfl (.inl rfl) rfl (Nat.le_trans (Nat.le_of_ble_eq_true rfl) hL) (by simp [lg_sl, w_cat, z_ci, z_cr, z_cl, z_cn, kt_M180]) (Nat.le_of_ble_eq_true rfl) h (fun v37 w36 hle h => ?_) (fun _ _ _ h => kzx_no rfl h)
      have h := h hle
      have hlp31 := w_l_le hlp31 hle
      exact kz_areto (x := v37) (M := kt_M171) kX5_declaration_c3.2.2.1 rfl h
def zb_X5_type_p48 (E : zE) (L : Nat) (Q : kx_Rs → wS → Prop) (y0 : Int32) (w : wS) : Prop := Q (.inl (some (.int y0))) w
theorem zt_X5_type_p48 {E : zE} {L : Nat} {Q : kx_Rs → wS → Prop} {y0 : Int32} {w : wS} (hL : 20 ≤ L) (h : zb_X5_type_p48 E L Q y0 w) : kzE E L kt_M212 48 [(0, .ref (w_adr E.2.1 4 0))] [.int y0] w Q := by
  unfold zb_X5_type_p48 at h
  exact kz_iret (M := kt_M212) kX5_type_c3.2.1 rfl rfl h
def zb_X5_type_p11 (E : zE) (L : Nat) (Q : kx_Rs → wS → Prop) (w : wS) : Prop := (kx_inb (w_i w 4 0 3) (w_n w 1 0 3) = true ∧ zw E (L - 20) kt_M195 [.ref (w_adr E.2.1 4 0)] w (wk0 (fun w1 => wle w w1 → (if ¬ w_a w 1 0 3 (w_i w 4 0 3).toNatClampNeg = 12 then (if ¬ w_a w 1 0 3 (w_i w 4 0 3).toNatClampNeg = 4 then zb_X5_type_p48 E L Q 3 w1 else zb_X5_type_p48 E L Q 2 w1) else zb_X5_type_p48 E L Q 1 w1)) (fun e w => Q (.inr e) w)))
theorem zt_X5_type_p11 {E : zE} {L : Nat} {Q : kx_Rs → wS → Prop} {w : wS} (hL : 20 ≤ L) (h : zb_X5_type_p11 E L Q  w) : kzE E L kt_M212 11 [(0, .ref (w_adr E.2.1 4 0))] [] w Q := by
  unfold zb_X5_type_p11 at h
  refine kz_aload_n (M := kt_M212) kX5_type_c0.2.2.2.2.2.1 rfl ?_
  refine kz_gfc (M := kt_M212) (x := 4) (c := 4) (o := 0) kX5_type_c0.2.2.2.2.2.2.1 wf_X5_9 (.inl rfl) ?_
  refine kz_gfc (M := kt_M212) (x := 1259) (c := 1) (o := 0) kX5_type_c0.2.2.2.2.2.2.2.1 wf_X5_67 (.inl rfl) ?_
  refine kz_aload_n (M := kt_M212) kX5_type_c1.1 rfl ?_
  refine kz_gfi (M := kt_M212) (c := 4) (o := 0) kX5_type_c1.2.1 wf_X5_29 (.inl rfl) ?_
  refine kz_iald (M := kt_M212) (c := 1) (o := 0) (k := 3) (a := (E.2.1 1259)) kX5_type_c1.2.2.1 ow_1_0_3 oa_1_0_3 ot_0 h (fun h => ?_)
  refine kz_sti_n (M := kt_M212) [(0, .ref (w_adr E.2.1 4 0))] kX5_type_c1.2.2.2.1 (Nat.le_of_ble_eq_true rfl) ⟨⟨rfl, rfl, .inr rfl⟩, trivial⟩ rfl ?_
  refine kz_aload_n (M := kt_M212) kX5_type_c1.2.2.2.2.1 rfl ?_
  refine kz_cv0 (M := kt_M212) (c := 4) (o := 0) (As := []) (rest := []) kX5_type_c1.2.2.2.2.2.1 wl_X5_85 wMv_195 rfl (.inl rfl) rfl (Nat.le_trans (Nat.le_of_ble_eq_true rfl) hL) (Nat.le_of_ble_eq_true rfl) (Nat.le_of_ble_eq_true rfl) h (fun w1 hle h => ?_) (fun _ _ _ h => kzx_no rfl h)
  have h := h hle
  refine kz_iload_n (M := kt_M212) kX5_type_c1.2.2.2.2.2.2.1 rfl ?_
  refine kz_bi (M := kt_M212) 12 kX5_type_c1.2.2.2.2.2.2.2.1 rfl ?_
  refine kz_icmp_ne (M := kt_M212) kX5_type_c2.1 (t := 38) rfl h (fun h => ?_) (fun h => ?_)
  · skip
    refine kz_iload_n (M := kt_M212) kX5_type_c2.2.2.2.1 rfl ?_
    refine kz_ic (M := kt_M212) 4 kX5_type_c2.2.2.2.2.1 rfl ?_
    refine kz_icmp_ne (M := kt_M212) kX5_type_c2.2.2.2.2.2.1 (t := 47) rfl h (fun h => ?_) (fun h => ?_)
    · skip
      refine kz_ic (M := kt_M212) 3 kX5_type_c3.1 rfl ?_
      exact kz_weak [(0, .ref (w_adr E.2.1 4 0))] ⟨rfl, trivial⟩ rfl (zt_X5_type_p48 hL  h)
    · skip
      refine kz_ic (M := kt_M212) 2 kX5_type_c2.2.2.2.2.2.2.1 rfl ?_
      refine kz_goto (M := kt_M212) kX5_type_c2.2.2.2.2.2.2.2.1 (t := 48) rfl ?_
      exact kz_weak [(0, .ref (w_adr E.2.1 4 0))] ⟨rfl, trivial⟩ rfl (zt_X5_type_p48 hL  h)
  · skip
    refine kz_ic (M := kt_M212) 1 kX5_type_c2.2.1 rfl ?_
    refine kz_goto (M := kt_M212) kX5_type_c2.2.2.1 (t := 48) rfl ?_
    exact kz_weak [(0, .ref (w_adr E.2.1 4 0))] ⟨rfl, trivial⟩ rfl (zt_X5_type_p48 hL  h)
def zb_X5_type_p0 (E : zE) (L : Nat) (Q : kx_Rs → wS → Prop) (w : wS) : Prop := zw E (L - 20) kt_M186 [.ref (w_adr E.2.1 4 0)] w (wk1 (fun v2 w1 => wle w w1 → (if ¬ v2 = 0 then zb_X5_type_p11 E L Q w1 else zw E (L - 20) kt_M213 [.ref (w_adr E.2.1 4 0)] w1 (wk0 (fun w3 => wle w1 w3 → zb_X5_type_p11 E L Q w3) (fun e w => Q (.inr e) w)))) (fun e w => Q (.inr e) w))
theorem zt_X5_type_p0 {E : zE} {L : Nat} {Q : kx_Rs → wS → Prop} {w : wS} (hL : 20 ≤ L) (h : zb_X5_type_p0 E L Q  w) : kzE E L kt_M212 0 [(0, .ref (w_adr E.2.1 4 0))] [] w Q := by
  unfold zb_X5_type_p0 at h
  refine kz_aload_n (M := kt_M212) kX5_type_c0.1 rfl ?_
  refine kz_cv1 (M := kt_M212) (c := 4) (o := 0) (As := []) (rest := []) kX5_type_c0.2.1 wl_X5_95 wMv_186 rfl (.inl rfl) rfl (Nat.le_trans (Nat.le_of_ble_eq_true rfl) hL) (Nat.le_of_ble_eq_true rfl) (Nat.le_of_ble_eq_true rfl) h (fun v2 w1 hle h => ?_) (fun _ _ _ h => kzx_no rfl h)
  have h := h hle
  refine kz_if_ne (M := kt_M212) kX5_type_c0.2.2.1 (t := 11) rfl h (fun h => ?_) (fun h => ?_)
  · skip
    exact kz_weak [(0, .ref (w_adr E.2.1 4 0))] ⟨rfl, trivial⟩ rfl (zt_X5_type_p11 hL  h)
  · skip
    refine kz_aload_n (M := kt_M212) kX5_type_c0.2.2.2.1 rfl ?_
    refine kz_cv0 (M := kt_M212) (c := 4) (o := 0) (As := []) (rest := []) kX5_type_c0.2.2.2.2.1 wl_X5_82 wMv_213 rfl (.inl rfl) rfl (Nat.le_trans (Nat.le_of_ble_eq_true rfl) hL) (Nat.le_of_ble_eq_true rfl) (Nat.le_of_ble_eq_true rfl) h (fun w3 hle h => ?_) (fun _ _ _ h => kzx_no rfl h)
    have h := h hle
    exact kz_weak [(0, .ref (w_adr E.2.1 4 0))] ⟨rfl, trivial⟩ rfl (zt_X5_type_p11 hL  h)
def zb_X5_next_p0 (E : zE) (L : Nat) (Q : kx_Rs → wS → Prop) (w : wS) : Prop := zw E (L - 20) kt_M191 [.ref (w_adr E.2.1 4 0)] (ws_i w 4 0 3 ((w_i w 4 0 3) + 1)) (wk0 (fun w1 => wle (ws_i w 4 0 3 ((w_i w 4 0 3) + 1)) w1 → Q (.inl none) w1) (fun e w => Q (.inr e) w))
theorem zt_X5_next_p0 {E : zE} {L : Nat} {Q : kx_Rs → wS → Prop} {w : wS} (hL : 20 ≤ L) (h : zb_X5_next_p0 E L Q  w) : kzE E L kt_M195 0 [(0, .ref (w_adr E.2.1 4 0))] [] w Q := by
  unfold zb_X5_next_p0 at h
  refine kz_aload_n (M := kt_M195) kX5_next_c0.1 rfl ?_
  refine kz_dup (M := kt_M195) kX5_next_c0.2.1 rfl ?_
  refine kz_gfi (M := kt_M195) (c := 4) (o := 0) kX5_next_c0.2.2.1 wf_X5_29 (.inl rfl) ?_
  refine kz_ic (M := kt_M195) 1 kX5_next_c0.2.2.2.1 rfl ?_
  refine kz_iadd (M := kt_M195) kX5_next_c0.2.2.2.2.1 ?_
  refine kz_pfi (M := kt_M195) (c := 4) (o := 0) kX5_next_c0.2.2.2.2.2.1 wq_X5_29 (.inl rfl) ?_
  refine kz_aload_n (M := kt_M195) kX5_next_c0.2.2.2.2.2.2.1 rfl ?_
  refine kz_cv0 (M := kt_M195) (c := 4) (o := 0) (As := []) (rest := []) kX5_next_c0.2.2.2.2.2.2.2.1 wl_X5_58 wMv_191 rfl (.inl rfl) rfl (Nat.le_trans (Nat.le_of_ble_eq_true rfl) hL) (Nat.le_of_ble_eq_true rfl) (Nat.le_of_ble_eq_true rfl) h (fun w1 hle h => ?_) (fun _ _ _ h => kzx_no rfl h)
  have h := h hle
  exact kz_ret (M := kt_M195) kX5_next_c1.1 rfl h
def zL_X5_function_p109 (E : zE) (L : Nat) (Q : kx_Rs → wS → Prop) (x1 : Option Nat) (x2 : Int32) (x3 : Option Nat) (w : wS) : Prop := kzE E L kt_M180 109 [(0, .ref (w_adr E.2.1 4 0)), (1, va_rf (x1)), (2, .int x2), (3, va_rf (x3))] [] w Q
def zb_X5_function_p140 (E : zE) (L : Nat) (Q : kx_Rs → wS → Prop) (x1 : Option Nat) (x2 : Int32) (x3 : Option Nat) (w : wS) : Prop := zw E (L - 21) kt_M210 [.ref (w_adr E.2.1 4 0), .int (x2 + 1)] w (wk0 (fun w1 => wle w w1 → zL_X5_function_p109 E L Q x1 x2 x3 w1) (fun e w => Q (.inr e) w))
theorem zt_X5_function_p140 {E : zE} {L : Nat} {Q : kx_Rs → wS → Prop} {x1 : Option Nat} {x2 : Int32} {x3 : Option Nat} {w : wS} (hL : 25 ≤ L) (h : zb_X5_function_p140 E L Q x1 x2 x3 w) : kzE E L kt_M180 140 [(0, .ref (w_adr E.2.1 4 0)), (1, va_rf (x1)), (2, .int x2), (3, va_rf (x3))] [] w Q := by
  unfold zb_X5_function_p140 at h
  refine kz_aload_n (M := kt_M180) kX5_function_c9.2.2.2.1 rfl ?_
  refine kz_iload_n (M := kt_M180) kX5_function_c9.2.2.2.2.1 rfl ?_
  refine kz_ic (M := kt_M180) 1 kX5_function_c9.2.2.2.2.2.1 rfl ?_
  refine kz_iadd (M := kt_M180) kX5_function_c9.2.2.2.2.2.2.1 ?_
  refine kz_cv0 (M := kt_M180) (c := 4) (o := 0) (As := [.int (x2 + 1)]) (rest := []) kX5_function_c9.2.2.2.2.2.2.2.1 wl_X5_113 wMv_210 rfl (.inl rfl) rfl (Nat.le_trans (Nat.le_of_ble_eq_true rfl) hL) (Nat.le_of_ble_eq_true rfl) (Nat.le_of_ble_eq_true rfl) h (fun w1 hle h => ?_) (fun _ _ _ h => kzx_no rfl h)
  have h := h hle
  refine kz_goto (M := kt_M180) kX5_function_c10.1 (t := 109) rfl ?_
  exact kz_weak [(0, .ref (w_adr E.2.1 4 0)), (1, va_rf (x1)), (2, .int x2), (3, va_rf (x3))] ⟨rfl, ⟨rfl, ⟨rfl, ⟨rfl, trivial⟩⟩⟩⟩ rfl h
def zb_X5_function_p109 (E : zE) (L : Nat) (Q : kx_Rs → wS → Prop) (x1 : Option Nat) (x2 : Int32) (x3 : Option Nat) (w : wS) : Prop := zw E (L - 20) kt_M164 [.ref (w_adr E.2.1 4 0)] w (wk1 (fun v2 w1 => wle w w1 → (if v2 = 0 then zw E (L - 21) kt_M176 [.ref (w_adr E.2.1 4 0), .int 34] w1 (wk0 (fun w3 => wle w1 w3 → zw E (L - 20) kt_M174 [.ref (w_adr E.2.1 4 0)] w3 (wk0 (fun w5 => wle w3 w5 → zw E (L - 23) kt_M202 [.ref (w_adr E.2.1 4 0), .int (x2 + 2)] w5 (wkr (fun v8 w7 => wle w5 w7 → (∃ p9, x1 = some p9 ∧ w_l w7 E.2.1 14 p9 ∧ zw E (L - 21) kt_M210 [.ref (w_adr E.2.1 4 0), .int (x2 + 2)] (ws_p w7 14 p9 4 v8) (wk0 (fun w10 => wle (ws_p w7 14 p9 4 v8) w10 → zw E (L - 21) kt_M176 [.ref (w_adr E.2.1 4 0), .int 25] w10 (wk0 (fun w12 => wle w10 w12 → zw E (L - 22) kt_M177 [.ref (w_adr E.2.1 4 0)] w12 (wkr (fun v15 w14 => wle w12 w14 → zw E (L - 20) kt_M174 [.ref (w_adr E.2.1 4 0)] (ws_p w14 14 p9 6 v15) (wk0 (fun w16 => wle (ws_p w14 14 p9 6 v15) w16 → zw E (L - 21) kt_M170 [.ref (w_adr E.2.1 4 0), .int x2] w16 (wk0 (fun w18 => wle w16 w18 → Q (.inl (some (va_rf (x1)))) w18) (fun e w => Q (.inr e) w))) (fun e w => Q (.inr e) w))) (fun e w => Q (.inr e) w))) (fun e w => Q (.inr e) w))) (fun e w => Q (.inr e) w)))) (fun e w => Q (.inr e) w))) (fun e w => Q (.inr e) w))) (fun e w => Q (.inr e) w)) else zw E (L - 23) kt_M171 [.ref (w_adr E.2.1 4 0), .int (x2 + 1)] w1 (wkr (fun v21 w20 => wle w1 w20 → zw E (L - 21) kt_M166 [va_rf (x3), va_rf (v21)] w20 (wkr (fun v23 w22 => wle w20 w22 → (∃ p24, x1 = some p24 ∧ w_l w22 E.2.1 14 p24 ∧ (if ¬ (w_p w22 14 p24 5) = none then zb_X5_function_p140 E L Q x1 x2 v23 w22 else zb_X5_function_p140 E L Q x1 x2 v23 (ws_p w22 14 p24 5 v23)))) (fun e w => Q (.inr e) w))) (fun e w => Q (.inr e) w)))) (fun e w => Q (.inr e) w))
theorem zt_X5_function_p109 {E : zE} {L : Nat} {Q : kx_Rs → wS → Prop} {x1 : Option Nat} {x2 : Int32} {x3 : Option Nat} {w : wS} (hL : 25 ≤ L) (h : zb_X5_function_p109 E L Q x1 x2 x3 w) : kzE E L kt_M180 109 [(0, .ref (w_adr E.2.1 4 0)), (1, va_rf (x1)), (2, .int x2), (3, va_rf (x3))] [] w Q := by
  unfold zb_X5_function_p109 at h
  refine kz_aload_n (M := kt_M180) kX5_function_c7.2.2.1 rfl ?_
  refine kz_cv1 (M := kt_M180) (c := 4) (o := 0) (As := []) (rest := []) kX5_function_c7.2.2.2.1 wl_X5_137 wMv_164 rfl (.inl rfl) rfl (Nat.le_trans (Nat.le_of_ble_eq_true rfl) hL) (Nat.le_of_ble_eq_true rfl) (Nat.le_of_ble_eq_true rfl) h (fun v2 w1 hle h => ?_) (fun _ _ _ h => kzx_no rfl h)
  have h := h hle
  refine kz_if_eq (M := kt_M180) kX5_function_c7.2.2.2.2.1 (t := 150) rfl h (fun h => ?_) (fun h => ?_)
  · skip
    refine kz_aload_n (M := kt_M180) kX5_function_c10.2.1 rfl ?_
    refine kz_bi (M := kt_M180) 34 kX5_function_c10.2.2.1 rfl ?_
    refine kz_cv0 (M := kt_M180) (c := 4) (o := 0) (As := [.int 34]) (rest := []) kX5_function_c10.2.2.2.1 wl_X5_100 wMv_176 rfl (.inl rfl) rfl (Nat.le_trans (Nat.le_of_ble_eq_true rfl) hL) (Nat.le_of_ble_eq_true rfl) (Nat.le_of_ble_eq_true rfl) h (fun w3 hle h => ?_) (fun _ _ _ h => kzx_no rfl h)
    have h := h hle
    refine kz_aload_n (M := kt_M180) kX5_function_c10.2.2.2.2.1 rfl ?_
    refine kz_cv0 (M := kt_M180) (c := 4) (o := 0) (As := []) (rest := []) kX5_function_c10.2.2.2.2.2.1 wl_X5_229 wMv_174 rfl (.inl rfl) rfl (Nat.le_trans (Nat.le_of_ble_eq_true rfl) hL) (Nat.le_of_ble_eq_true rfl) (Nat.le_of_ble_eq_true rfl) h (fun w5 hle h => ?_) (fun _ _ _ h => kzx_no rfl h)
    have h := h hle
    refine kz_aload_nv (M := kt_M180) (x := x1) kX5_function_c10.2.2.2.2.2.2.1 rfl ?_
    refine kz_aload_n (M := kt_M180) kX5_function_c10.2.2.2.2.2.2.2.1 rfl ?_
    refine kz_iload_n (M := kt_M180) kX5_function_c11.1 rfl ?_
    refine kz_ic (M := kt_M180) 2 kX5_function_c11.2.1 rfl ?_
    refine kz_iadd (M := kt_M180) kX5_function_c11.2.2.1 ?_
    refine kz_cvr (M := kt_M180) (c := 4) (o := 0) (As := [.int (x2 + 2)]) (rest := [va_rf (x1)]) kX5_function_c11.2.2.2.1 wl_X5_133 wMv_202 rfl (.inl rfl) rfl (Nat.le_trans (Nat.le_of_ble_eq_true rfl) hL) (Nat.le_of_ble_eq_true rfl) (by simp [kx_cat, w_cat, z_ci, z_cr, z_cl, z_cn]) h (fun v8 w7 hle h => ?_) (fun _ _ _ h => kzx_no rfl h)
    have h := h hle
    obtain ⟨p9, hxp9, hlp9, h⟩ := h
    refine kz_nz1 (x := x1) hxp9 ?_
    refine kz_pfp (M := kt_M180) (n := v8) (c := 14) (o := p9) kX5_function_c11.2.2.2.2.1 wq_X5_168 (.inr (by exact hlp9)) ?_
    refine kz_aload_n (M := kt_M180) kX5_function_c11.2.2.2.2.2.1 rfl ?_
    refine kz_iload_n (M := kt_M180) kX5_function_c11.2.2.2.2.2.2.1 rfl ?_
    refine kz_ic (M := kt_M180) 2 kX5_function_c11.2.2.2.2.2.2.2.1 rfl ?_
    refine kz_iadd (M := kt_M180) kX5_function_c12.1 ?_
    refine kz_cv0 (M := kt_M180) (c := 4) (o := 0) (As := [.int (x2 + 2)]) (rest := []) kX5_function_c12.2.1 wl_X5_113 wMv_210 rfl (.inl rfl) rfl (Nat.le_trans (Nat.le_of_ble_eq_true rfl) hL) (Nat.le_of_ble_eq_true rfl) (Nat.le_of_ble_eq_true rfl) h (fun w10 hle h => ?_) (fun _ _ _ h => kzx_no rfl h)
    have h := h hle
    have hlp9 := w_l_le hlp9 hle
    refine kz_aload_n (M := kt_M180) kX5_function_c12.2.2.1 rfl ?_
    refine kz_bi (M := kt_M180) 25 kX5_function_c12.2.2.2.1 rfl ?_
    refine kz_cv0 (M := kt_M180) (c := 4) (o := 0) (As := [.int 25]) (rest := []) kX5_function_c12.2.2.2.2.1 wl_X5_100 wMv_176 rfl (.inl rfl) rfl (Nat.le_trans (Nat.le_of_ble_eq_true rfl) hL) (Nat.le_of_ble_eq_true rfl) (Nat.le_of_ble_eq_true rfl) h (fun w12 hle h => ?_) (fun _ _ _ h => kzx_no rfl h)
    have h := h hle
    have hlp9 := w_l_le hlp9 hle
    refine kz_aload_nv (M := kt_M180) (x := x1) kX5_function_c12.2.2.2.2.2.1 rfl ?_
    refine kz_aload_n (M := kt_M180) kX5_function_c12.2.2.2.2.2.2.1 rfl ?_
    refine kz_cvr (M := kt_M180) (c := 4) (o := 0) (As := []) (rest := [va_rf (x1)]) kX5_function_c12.2.2.2.2.2.2.2.1 wl_X5_194 wMv_177 rfl (.inl rfl) rfl (Nat.le_trans (Nat.le_of_ble_eq_true rfl) hL) (Nat.le_of_ble_eq_true rfl) (by simp [kx_cat, w_cat, z_ci, z_cr, z_cl, z_cn]) h (fun v15 w14 hle h => ?_) (fun _ _ _ h => kzx_no rfl h)
    have h := h hle
    have hlp9 := w_l_le hlp9 hle
    refine kz_nz1 (x := x1) hxp9 ?_
    refine kz_pfp (M := kt_M180) (n := v15) (c := 14) (o := p9) kX5_function_c13.1 wq_X5_288 (.inr (by exact hlp9)) ?_
    refine kz_aload_n (M := kt_M180) kX5_function_c13.2.1 rfl ?_
    refine kz_cv0 (M := kt_M180) (c := 4) (o := 0) (As := []) (rest := []) kX5_function_c13.2.2.1 wl_X5_229 wMv_174 rfl (.inl rfl) rfl (Nat.le_trans (Nat.le_of_ble_eq_true rfl) hL) (Nat.le_of_ble_eq_true rfl) (Nat.le_of_ble_eq_true rfl) h (fun w16 hle h => ?_) (fun _ _ _ h => kzx_no rfl h)
    have h := h hle
    have hlp9 := w_l_le hlp9 hle
    refine kz_aload_n (M := kt_M180) kX5_function_c13.2.2.2.1 rfl ?_
    refine kz_iload_n (M := kt_M180) kX5_function_c13.2.2.2.2.1 rfl ?_
    refine kz_cv0 (M := kt_M180) (c := 4) (o := 0) (As := [.int x2]) (rest := []) kX5_function_c13.2.2.2.2.2.1 wl_X5_273 wMv_170 rfl (.inl rfl) rfl (Nat.le_trans (Nat.le_of_ble_eq_true rfl) hL) (Nat.le_of_ble_eq_true rfl) (Nat.le_of_ble_eq_true rfl) h (fun w18 hle h => ?_) (fun _ _ _ h => kzx_no rfl h)
    have h := h hle
    have hlp9 := w_l_le hlp9 hle
    refine kz_aload_nv (M := kt_M180) (x := x1) kX5_function_c13.2.2.2.2.2.2.1 rfl ?_
    exact kz_areto (x := x1) (M := kt_M180) kX5_function_c13.2.2.2.2.2.2.2.1 rfl h
  · skip
    refine kz_aload_nv (M := kt_M180) (x := x3) kX5_function_c7.2.2.2.2.2.1 rfl ?_
    refine kz_aload_n (M := kt_M180) kX5_function_c7.2.2.2.2.2.2.1 rfl ?_
    refine kz_iload_n (M := kt_M180) kX5_function_c7.2.2.2.2.2.2.2.1 rfl ?_
    refine kz_ic (M := kt_M180) 1 kX5_function_c8.1 rfl ?_
    refine kz_iadd (M := kt_M180) kX5_function_c8.2.1 ?_
    refine kz_cvr (M := kt_M180) (c := 4) (o := 0) (As := [.int (x2 + 1)]) (rest := [va_rf (x3)]) kX5_function_c8.2.2.1 wl_X5_155 wMv_171 rfl (.inl rfl) rfl (Nat.le_trans (Nat.le_of_ble_eq_true rfl) hL) (Nat.le_of_ble_eq_true rfl) (by simp [kx_cat, w_cat, z_ci, z_cr, z_cl, z_cn]) h (fun v21 w20 hle h => ?_) (fun _ _ _ h => kzx_no rfl h)
    have h := h hle
    refine kz_csr (M := kt_M180) (As := [va_rf (x3), va_rf (v21)]) (rest := []) kX5_function_c8.2.2.2.1 wl_X5_158 wMs_166 rfl (Nat.le_trans (Nat.le_of_ble_eq_true rfl) hL) (by simp [lg_sl, w_cat, z_ci, z_cr, z_cl, z_cn, kt_M166]) (Nat.le_of_ble_eq_true rfl) h (fun v23 w22 hle h => ?_) (fun _ _ _ h => kzx_no rfl h)
    have h := h hle
    refine kz_stv_n (M := kt_M180) (x := v23) [(0, .ref (w_adr E.2.1 4 0)), (1, va_rf (x1)), (2, .int x2)] kX5_function_c8.2.2.2.2.1 (Nat.le_of_ble_eq_true rfl) ⟨⟨rfl, rfl, .inl rfl⟩, ⟨⟨rfl, rfl, .inl rfl⟩, ⟨⟨rfl, rfl, .inr rfl⟩, trivial⟩⟩⟩ rfl ?_
    refine kz_aload_nv (M := kt_M180) (x := x1) kX5_function_c8.2.2.2.2.2.1 rfl ?_
    obtain ⟨p24, hxp24, hlp24, h⟩ := h
    refine kz_nz0 (x := x1) hxp24 ?_
    refine kz_gfp (M := kt_M180) (c := 14) (o := p24) kX5_function_c8.2.2.2.2.2.2.1 wf_X5_234 (.inr (by exact hlp24)) ?_
    refine kz_ifnonnull (M := kt_M180) (x := w_p w22 14 p24 5) kX5_function_c8.2.2.2.2.2.2.2.1 (t := 140) rfl h (fun h => ?_) (fun h => ?_)
    · skip
      exact kz_weak [(0, .ref (w_adr E.2.1 4 0)), (1, va_rf (x1)), (2, .int x2), (3, va_rf (v23))] ⟨rfl, ⟨rfl, ⟨rfl, ⟨rfl, trivial⟩⟩⟩⟩ rfl (zt_X5_function_p140 hL  h)
    · skip
      refine kz_aload_nv (M := kt_M180) (x := x1) kX5_function_c9.1 rfl ?_
      refine kz_aload_nv (M := kt_M180) (x := v23) kX5_function_c9.2.1 rfl ?_
      refine kz_nz1 (x := x1) hxp24 ?_
      refine kz_pfp (M := kt_M180) (n := v23) (c := 14) (o := p24) kX5_function_c9.2.2.1 wq_X5_234 (.inr (by exact hlp24)) ?_
      exact kz_weak [(0, .ref (w_adr E.2.1 4 0)), (1, va_rf (x1)), (2, .int x2), (3, va_rf (v23))] ⟨rfl, ⟨rfl, ⟨rfl, ⟨rfl, trivial⟩⟩⟩⟩ rfl (zt_X5_function_p140 hL  h)
def zb_X5_function_p104 (E : zE) (L : Nat) (Q : kx_Rs → wS → Prop) (x1 : Option Nat) (x2 : Int32) (y0 : Int32) (y1 : Int32) (w : wS) : Prop := zw E (L - 22) kt_M211 [.ref (w_adr E.2.1 4 0), .int y1, .int y0] w (wk0 (fun w1 => wle w w1 → zL_X5_function_p109 E L Q x1 x2 none w1) (fun e w => Q (.inr e) w))
theorem zt_X5_function_p104 {E : zE} {L : Nat} {Q : kx_Rs → wS → Prop} {x1 : Option Nat} {x2 : Int32} {y0 : Int32} {y1 : Int32} {w : wS} (hL : 25 ≤ L) (h : zb_X5_function_p104 E L Q x1 x2 y0 y1 w) : kzE E L kt_M180 104 [(0, .ref (w_adr E.2.1 4 0)), (1, va_rf (x1)), (2, .int x2)] [.int y0, .int y1, .ref (w_adr E.2.1 4 0)] w Q := by
  unfold zb_X5_function_p104 at h
  refine kz_cv0 (M := kt_M180) (c := 4) (o := 0) (As := [.int y1, .int y0]) (rest := []) kX5_function_c6.2.2.2.2.2.2.2.1 wl_X5_143 wMv_211 rfl (.inl rfl) rfl (Nat.le_trans (Nat.le_of_ble_eq_true rfl) hL) (Nat.le_of_ble_eq_true rfl) (Nat.le_of_ble_eq_true rfl) h (fun w1 hle h => ?_) (fun _ _ _ h => kzx_no rfl h)
  have h := h hle
  refine kz_null (M := kt_M180) kX5_function_c7.1 ?_
  refine kz_stv_n (M := kt_M180) (x := none) [(0, .ref (w_adr E.2.1 4 0)), (1, va_rf (x1)), (2, .int x2)] kX5_function_c7.2.1 (Nat.le_of_ble_eq_true rfl) ⟨⟨rfl, rfl, .inl rfl⟩, ⟨⟨rfl, rfl, .inl rfl⟩, ⟨⟨rfl, rfl, .inr rfl⟩, trivial⟩⟩⟩ rfl ?_
  exact kz_weak [(0, .ref (w_adr E.2.1 4 0)), (1, va_rf (x1)), (2, .int x2), (3, va_rf (none))] ⟨rfl, ⟨rfl, ⟨rfl, ⟨rfl, trivial⟩⟩⟩⟩ rfl h
def zb_X5_function_p99 (E : zE) (L : Nat) (Q : kx_Rs → wS → Prop) (x1 : Option Nat) (x2 : Int32) (y0 : Int32) (w : wS) : Prop := zb_X5_function_p104 E L Q x1 x2 1 y0 w
theorem zt_X5_function_p99 {E : zE} {L : Nat} {Q : kx_Rs → wS → Prop} {x1 : Option Nat} {x2 : Int32} {y0 : Int32} {w : wS} (hL : 25 ≤ L) (h : zb_X5_function_p99 E L Q x1 x2 y0 w) : kzE E L kt_M180 99 [(0, .ref (w_adr E.2.1 4 0)), (1, va_rf (x1)), (2, .int x2)] [.int y0, .ref (w_adr E.2.1 4 0)] w Q := by
  unfold zb_X5_function_p99 at h
  refine kz_ic (M := kt_M180) 1 kX5_function_c6.2.2.2.2.1 rfl ?_
  refine kz_goto (M := kt_M180) kX5_function_c6.2.2.2.2.2.1 (t := 104) rfl ?_
  exact kz_weak [(0, .ref (w_adr E.2.1 4 0)), (1, va_rf (x1)), (2, .int x2)] ⟨rfl, ⟨rfl, ⟨rfl, trivial⟩⟩⟩ rfl (zt_X5_function_p104 hL  h)
def zb_X5_function_p0 (E : zE) (L : Nat) (Q : kx_Rs → wS → Prop) (x1 : Option Nat) (x2 : Int32) (w : wS) : Prop := zw E (L - 20) kt_M195 [.ref (w_adr E.2.1 4 0)] w (wk0 (fun w1 => wle w w1 → (∃ p3, x1 = some p3 ∧ w_l w1 E.2.1 14 p3 ∧ zw E (L - 21) kt_M193 [.ref (w_adr E.2.1 4 0)] (ws_p w1 14 p3 0 (some (E.1.1 11))) (wk1 (fun v5 w4 => wle (ws_p w1 14 p3 0 (some (E.1.1 11))) w4 → zw E (L - 25) kt_M179 [.ref (w_adr E.2.1 4 0)] (ws_i (ws_i w4 14 p3 9 v5) 4 0 5 ((w_i w4 4 0 5) + 1)) (wkr (fun v7 w6 => wle (ws_i (ws_i w4 14 p3 9 v5) 4 0 5 ((w_i w4 4 0 5) + 1)) w6 → zw E (L - 21) kt_M183 [.ref (w_adr E.2.1 4 0), .int 13] (ws_p w6 14 p3 3 v7) (wk1 (fun v9 w8 => wle (ws_p w6 14 p3 3 v7) w8 → (if v9 = 0 then zw E (L - 20) kt_M174 [.ref (w_adr E.2.1 4 0)] w8 (wk0 (fun w10 => wle w8 w10 → zw E (L - 20) kt_M164 [.ref (w_adr E.2.1 4 0)] w10 (wk1 (fun v13 w12 => wle w10 w12 → (if ¬ v13 = 0 then zb_X5_function_p99 E L Q x1 x2 (x2 + 1) w12 else zw E (L - 21) kt_M183 [.ref (w_adr E.2.1 4 0), .int 34] w12 (wk1 (fun v15 w14 => wle w12 w14 → (if v15 = 0 then zb_X5_function_p104 E L Q x1 x2 0 (x2 + 1) w14 else zb_X5_function_p99 E L Q x1 x2 (x2 + 1) w14)) (fun e w => Q (.inr e) w)))) (fun e w => Q (.inr e) w))) (fun e w => Q (.inr e) w)) else zw E (L - 20) kt_M195 [.ref (w_adr E.2.1 4 0)] (ws_i w8 14 p3 11 1) (wk0 (fun w16 => wle (ws_i w8 14 p3 11 1) w16 → zw E (L - 22) kt_M177 [.ref (w_adr E.2.1 4 0)] w16 (wkr (fun v19 w18 => wle w16 w18 → zw E (L - 21) kt_M176 [.ref (w_adr E.2.1 4 0), .int 42] (ws_p w18 14 p3 4 v19) (wk0 (fun w20 => wle (ws_p w18 14 p3 4 v19) w20 → zw E (L - 20) kt_M174 [.ref (w_adr E.2.1 4 0)] w20 (wk0 (fun w22 => wle w20 w22 → Q (.inl (some (va_rf (x1)))) w22) (fun e w => Q (.inr e) w))) (fun e w => Q (.inr e) w))) (fun e w => Q (.inr e) w))) (fun e w => Q (.inr e) w)))) (fun e w => Q (.inr e) w))) (fun e w => Q (.inr e) w))) (fun e w => Q (.inr e) w)))) (fun e w => Q (.inr e) w))
theorem zt_X5_function_p0 {E : zE} {L : Nat} {Q : kx_Rs → wS → Prop} {x1 : Option Nat} {x2 : Int32} {w : wS} (hL : 25 ≤ L) (h : zb_X5_function_p0 E L Q x1 x2 w) : kzE E L kt_M180 0 [(0, .ref (w_adr E.2.1 4 0)), (1, va_rf (x1)), (2, .int x2)] [] w Q := by
  unfold zb_X5_function_p0 at h
  refine kz_aload_n (M := kt_M180) kX5_function_c0.1 rfl ?_
  refine kz_cv0 (M := kt_M180) (c := 4) (o := 0) (As := []) (rest := []) kX5_function_c0.2.1 wl_X5_85 wMv_195 rfl (.inl rfl) rfl (Nat.le_trans (Nat.le_of_ble_eq_true rfl) hL) (Nat.le_of_ble_eq_true rfl) (Nat.le_of_ble_eq_true rfl) h (fun w1 hle h => ?_) (fun _ _ _ h => kzx_no rfl h)
  have h := h hle
  refine kz_aload_nv (M := kt_M180) (x := x1) kX5_function_c0.2.2.1 rfl ?_
  refine kz_getsE (M := kt_M180) (v := va_rf (some (E.1.1 11))) kX5_function_c0.2.2.2.1 zs_X5_282 ?_
  obtain ⟨p3, hxp3, hlp3, h⟩ := h
  refine kz_nz1 (x := x1) hxp3 ?_
  refine kz_pfp (M := kt_M180) (n := some (E.1.1 11)) (c := 14) (o := p3) kX5_function_c0.2.2.2.2.1 wq_X5_214 (.inr (by exact hlp3)) ?_
  refine kz_aload_nv (M := kt_M180) (x := x1) kX5_function_c0.2.2.2.2.2.1 rfl ?_
  refine kz_aload_n (M := kt_M180) kX5_function_c0.2.2.2.2.2.2.1 rfl ?_
  refine kz_cv1 (M := kt_M180) (c := 4) (o := 0) (As := []) (rest := [va_rf (x1)]) kX5_function_c0.2.2.2.2.2.2.2.1 wl_X5_237 wMv_193 rfl (.inl rfl) rfl (Nat.le_trans (Nat.le_of_ble_eq_true rfl) hL) (Nat.le_of_ble_eq_true rfl) (by simp [kx_cat, w_cat, z_ci, z_cr, z_cl, z_cn]) h (fun v5 w4 hle h => ?_) (fun _ _ _ h => kzx_no rfl h)
  have h := h hle
  have hlp3 := w_l_le hlp3 hle
  refine kz_nz1 (x := x1) hxp3 ?_
  refine kz_pfi (M := kt_M180) (c := 14) (o := p3) kX5_function_c1.1 wq_X5_240 (.inr (by exact hlp3)) ?_
  refine kz_aload_n (M := kt_M180) kX5_function_c1.2.1 rfl ?_
  refine kz_dup (M := kt_M180) kX5_function_c1.2.2.1 rfl ?_
  refine kz_gfiR (M := kt_M180) (c := 4) (o := 0) (w_i w4 4 0 5) kX5_function_c1.2.2.2.1 wf_X5_130 (.inl rfl) (rd_i_i rfl) ?_
  refine kz_ic (M := kt_M180) 1 kX5_function_c1.2.2.2.2.1 rfl ?_
  refine kz_iadd (M := kt_M180) kX5_function_c1.2.2.2.2.2.1 ?_
  refine kz_pfi (M := kt_M180) (c := 4) (o := 0) kX5_function_c1.2.2.2.2.2.2.1 wq_X5_130 (.inl rfl) ?_
  refine kz_aload_nv (M := kt_M180) (x := x1) kX5_function_c1.2.2.2.2.2.2.2.1 rfl ?_
  refine kz_aload_n (M := kt_M180) kX5_function_c2.1 rfl ?_
  refine kz_cvr (M := kt_M180) (c := 4) (o := 0) (As := []) (rest := [va_rf (x1)]) kX5_function_c2.2.1 wl_X5_279 wMv_179 rfl (.inl rfl) rfl (Nat.le_trans (Nat.le_of_ble_eq_true rfl) hL) (Nat.le_of_ble_eq_true rfl) (by simp [kx_cat, w_cat, z_ci, z_cr, z_cl, z_cn]) h (fun v7 w6 hle h => ?_) (fun _ _ _ h => kzx_no rfl h)
  have h := h hle
  have hlp3 := w_l_le hlp3 hle
  refine kz_nz1 (x := x1) hxp3 ?_
  refine kz_pfp (M := kt_M180) (n := v7) (c := 14) (o := p3) kX5_function_c2.2.2.1 wq_X5_162 (.inr (by exact hlp3)) ?_
  refine kz_aload_n (M := kt_M180) kX5_function_c2.2.2.2.1 rfl ?_
  refine kz_bi (M := kt_M180) 13 kX5_function_c2.2.2.2.2.1 rfl ?_
  refine kz_cv1 (M := kt_M180) (c := 4) (o := 0) (As := [.int 13]) (rest := []) kX5_function_c2.2.2.2.2.2.1 wl_X5_79 wMv_183 rfl (.inl rfl) rfl (Nat.le_trans (Nat.le_of_ble_eq_true rfl) hL) (Nat.le_of_ble_eq_true rfl) (Nat.le_of_ble_eq_true rfl) h (fun v9 w8 hle h => ?_) (fun _ _ _ h => kzx_no rfl h)
  have h := h hle
  have hlp3 := w_l_le hlp3 hle
  refine kz_if_eq (M := kt_M180) kX5_function_c2.2.2.2.2.2.2.1 (t := 75) rfl h (fun h => ?_) (fun h => ?_)
  · skip
    refine kz_aload_n (M := kt_M180) kX5_function_c4.2.2.2.2.2.2.2.1 rfl ?_
    refine kz_cv0 (M := kt_M180) (c := 4) (o := 0) (As := []) (rest := []) kX5_function_c5.1 wl_X5_229 wMv_174 rfl (.inl rfl) rfl (Nat.le_trans (Nat.le_of_ble_eq_true rfl) hL) (Nat.le_of_ble_eq_true rfl) (Nat.le_of_ble_eq_true rfl) h (fun w10 hle h => ?_) (fun _ _ _ h => kzx_no rfl h)
    have h := h hle
    have hlp3 := w_l_le hlp3 hle
    refine kz_aload_n (M := kt_M180) kX5_function_c5.2.1 rfl ?_
    refine kz_iload_n (M := kt_M180) kX5_function_c5.2.2.1 rfl ?_
    refine kz_ic (M := kt_M180) 1 kX5_function_c5.2.2.2.1 rfl ?_
    refine kz_iadd (M := kt_M180) kX5_function_c5.2.2.2.2.1 ?_
    refine kz_aload_n (M := kt_M180) kX5_function_c5.2.2.2.2.2.1 rfl ?_
    refine kz_cv1 (M := kt_M180) (c := 4) (o := 0) (As := []) (rest := [.int (x2 + 1), .ref (w_adr E.2.1 4 0)]) kX5_function_c5.2.2.2.2.2.2.1 wl_X5_137 wMv_164 rfl (.inl rfl) rfl (Nat.le_trans (Nat.le_of_ble_eq_true rfl) hL) (Nat.le_of_ble_eq_true rfl) (Nat.le_of_ble_eq_true rfl) h (fun v13 w12 hle h => ?_) (fun _ _ _ h => kzx_no rfl h)
    have h := h hle
    have hlp3 := w_l_le hlp3 hle
    refine kz_if_ne (M := kt_M180) kX5_function_c5.2.2.2.2.2.2.2.1 (t := 99) rfl h (fun h => ?_) (fun h => ?_)
    · skip
      exact kz_weak [(0, .ref (w_adr E.2.1 4 0)), (1, va_rf (x1)), (2, .int x2)] ⟨rfl, ⟨rfl, ⟨rfl, trivial⟩⟩⟩ rfl (zt_X5_function_p99 hL  h)
    · skip
      refine kz_aload_n (M := kt_M180) kX5_function_c6.1 rfl ?_
      refine kz_bi (M := kt_M180) 34 kX5_function_c6.2.1 rfl ?_
      refine kz_cv1 (M := kt_M180) (c := 4) (o := 0) (As := [.int 34]) (rest := [.int (x2 + 1), .ref (w_adr E.2.1 4 0)]) kX5_function_c6.2.2.1 wl_X5_79 wMv_183 rfl (.inl rfl) rfl (Nat.le_trans (Nat.le_of_ble_eq_true rfl) hL) (Nat.le_of_ble_eq_true rfl) (Nat.le_of_ble_eq_true rfl) h (fun v15 w14 hle h => ?_) (fun _ _ _ h => kzx_no rfl h)
      have h := h hle
      have hlp3 := w_l_le hlp3 hle
      refine kz_if_eq (M := kt_M180) kX5_function_c6.2.2.2.1 (t := 103) rfl h (fun h => ?_) (fun h => ?_)
      · skip
        refine kz_ic (M := kt_M180) 0 kX5_function_c6.2.2.2.2.2.2.1 rfl ?_
        exact kz_weak [(0, .ref (w_adr E.2.1 4 0)), (1, va_rf (x1)), (2, .int x2)] ⟨rfl, ⟨rfl, ⟨rfl, trivial⟩⟩⟩ rfl (zt_X5_function_p104 hL  h)
      · skip
        exact kz_weak [(0, .ref (w_adr E.2.1 4 0)), (1, va_rf (x1)), (2, .int x2)] ⟨rfl, ⟨rfl, ⟨rfl, trivial⟩⟩⟩ rfl (zt_X5_function_p99 hL  h)
  · skip
    refine kz_aload_nv (M := kt_M180) (x := x1) kX5_function_c2.2.2.2.2.2.2.2.1 rfl ?_
    refine kz_ic (M := kt_M180) 1 kX5_function_c3.1 rfl ?_
    refine kz_nz1 (x := x1) hxp3 ?_
    refine kz_pfz (M := kt_M180) (c := 14) (o := p3) kX5_function_c3.2.1 wq_X5_285 (.inr (by exact hlp3)) (by decide) ?_
    refine kz_aload_n (M := kt_M180) kX5_function_c3.2.2.1 rfl ?_
    refine kz_cv0 (M := kt_M180) (c := 4) (o := 0) (As := []) (rest := []) kX5_function_c3.2.2.2.1 wl_X5_85 wMv_195 rfl (.inl rfl) rfl (Nat.le_trans (Nat.le_of_ble_eq_true rfl) hL) (Nat.le_of_ble_eq_true rfl) (Nat.le_of_ble_eq_true rfl) h (fun w16 hle h => ?_) (fun _ _ _ h => kzx_no rfl h)
    have h := h hle
    have hlp3 := w_l_le hlp3 hle
    refine kz_aload_nv (M := kt_M180) (x := x1) kX5_function_c3.2.2.2.2.1 rfl ?_
    refine kz_aload_n (M := kt_M180) kX5_function_c3.2.2.2.2.2.1 rfl ?_
    refine kz_cvr (M := kt_M180) (c := 4) (o := 0) (As := []) (rest := [va_rf (x1)]) kX5_function_c3.2.2.2.2.2.2.1 wl_X5_194 wMv_177 rfl (.inl rfl) rfl (Nat.le_trans (Nat.le_of_ble_eq_true rfl) hL) (Nat.le_of_ble_eq_true rfl) (by simp [kx_cat, w_cat, z_ci, z_cr, z_cl, z_cn]) h (fun v19 w18 hle h => ?_) (fun _ _ _ h => kzx_no rfl h)
    have h := h hle
    have hlp3 := w_l_le hlp3 hle
    refine kz_nz1 (x := x1) hxp3 ?_
    refine kz_pfp (M := kt_M180) (n := v19) (c := 14) (o := p3) kX5_function_c3.2.2.2.2.2.2.2.1 wq_X5_168 (.inr (by exact hlp3)) ?_
    refine kz_aload_n (M := kt_M180) kX5_function_c4.1 rfl ?_
    refine kz_bi (M := kt_M180) 42 kX5_function_c4.2.1 rfl ?_
    refine kz_cv0 (M := kt_M180) (c := 4) (o := 0) (As := [.int 42]) (rest := []) kX5_function_c4.2.2.1 wl_X5_100 wMv_176 rfl (.inl rfl) rfl (Nat.le_trans (Nat.le_of_ble_eq_true rfl) hL) (Nat.le_of_ble_eq_true rfl) (Nat.le_of_ble_eq_true rfl) h (fun w20 hle h => ?_) (fun _ _ _ h => kzx_no rfl h)
    have h := h hle
    have hlp3 := w_l_le hlp3 hle
    refine kz_aload_n (M := kt_M180) kX5_function_c4.2.2.2.1 rfl ?_
    refine kz_cv0 (M := kt_M180) (c := 4) (o := 0) (As := []) (rest := []) kX5_function_c4.2.2.2.2.1 wl_X5_229 wMv_174 rfl (.inl rfl) rfl (Nat.le_trans (Nat.le_of_ble_eq_true rfl) hL) (Nat.le_of_ble_eq_true rfl) (Nat.le_of_ble_eq_true rfl) h (fun w22 hle h => ?_) (fun _ _ _ h => kzx_no rfl h)
    have h := h hle
    have hlp3 := w_l_le hlp3 hle
    refine kz_aload_nv (M := kt_M180) (x := x1) kX5_function_c4.2.2.2.2.2.1 rfl ?_
    exact kz_areto (x := x1) (M := kt_M180) kX5_function_c4.2.2.2.2.2.2.1 rfl h
def zb_X5_name_p11 (E : zE) (L : Nat) (Q : kx_Rs → wS → Prop) (w : wS) : Prop := (kx_inb (w_i w 4 0 3) (w_n w 1 0 3) = true ∧ zw E (L - 20) kt_M195 [.ref (w_adr E.2.1 4 0)] w (wk0 (fun w1 => wle w w1 → Q (.inl (some (.int (w_a w 1 0 3 (w_i w 4 0 3).toNatClampNeg)))) w1) (fun e w => Q (.inr e) w)))
theorem zt_X5_name_p11 {E : zE} {L : Nat} {Q : kx_Rs → wS → Prop} {w : wS} (hL : 20 ≤ L) (h : zb_X5_name_p11 E L Q  w) : kzE E L kt_M193 11 [(0, .ref (w_adr E.2.1 4 0))] [] w Q := by
  unfold zb_X5_name_p11 at h
  refine kz_aload_n (M := kt_M193) kX5_name_c0.2.2.2.2.2.1 rfl ?_
  refine kz_gfc (M := kt_M193) (x := 4) (c := 4) (o := 0) kX5_name_c0.2.2.2.2.2.2.1 wf_X5_9 (.inl rfl) ?_
  refine kz_gfc (M := kt_M193) (x := 1259) (c := 1) (o := 0) kX5_name_c0.2.2.2.2.2.2.2.1 wf_X5_67 (.inl rfl) ?_
  refine kz_aload_n (M := kt_M193) kX5_name_c1.1 rfl ?_
  refine kz_gfi (M := kt_M193) (c := 4) (o := 0) kX5_name_c1.2.1 wf_X5_29 (.inl rfl) ?_
  refine kz_iald (M := kt_M193) (c := 1) (o := 0) (k := 3) (a := (E.2.1 1259)) kX5_name_c1.2.2.1 ow_1_0_3 oa_1_0_3 ot_0 h (fun h => ?_)
  refine kz_sti_n (M := kt_M193) [(0, .ref (w_adr E.2.1 4 0))] kX5_name_c1.2.2.2.1 (Nat.le_of_ble_eq_true rfl) ⟨⟨rfl, rfl, .inr rfl⟩, trivial⟩ rfl ?_
  refine kz_aload_n (M := kt_M193) kX5_name_c1.2.2.2.2.1 rfl ?_
  refine kz_cv0 (M := kt_M193) (c := 4) (o := 0) (As := []) (rest := []) kX5_name_c1.2.2.2.2.2.1 wl_X5_85 wMv_195 rfl (.inl rfl) rfl (Nat.le_trans (Nat.le_of_ble_eq_true rfl) hL) (Nat.le_of_ble_eq_true rfl) (Nat.le_of_ble_eq_true rfl) h (fun w1 hle h => ?_) (fun _ _ _ h => kzx_no rfl h)
  have h := h hle
  refine kz_iload_n (M := kt_M193) kX5_name_c1.2.2.2.2.2.2.1 rfl ?_
  exact kz_iret (M := kt_M193) kX5_name_c1.2.2.2.2.2.2.2.1 rfl rfl h
def zb_X5_name_p0 (E : zE) (L : Nat) (Q : kx_Rs → wS → Prop) (w : wS) : Prop := zw E (L - 20) kt_M184 [.ref (w_adr E.2.1 4 0)] w (wk1 (fun v2 w1 => wle w w1 → (if ¬ v2 = 0 then zb_X5_name_p11 E L Q w1 else zw E (L - 20) kt_M213 [.ref (w_adr E.2.1 4 0)] w1 (wk0 (fun w3 => wle w1 w3 → zb_X5_name_p11 E L Q w3) (fun e w => Q (.inr e) w)))) (fun e w => Q (.inr e) w))
theorem zt_X5_name_p0 {E : zE} {L : Nat} {Q : kx_Rs → wS → Prop} {w : wS} (hL : 20 ≤ L) (h : zb_X5_name_p0 E L Q  w) : kzE E L kt_M193 0 [(0, .ref (w_adr E.2.1 4 0))] [] w Q := by
  unfold zb_X5_name_p0 at h
  refine kz_aload_n (M := kt_M193) kX5_name_c0.1 rfl ?_
  refine kz_cv1 (M := kt_M193) (c := 4) (o := 0) (As := []) (rest := []) kX5_name_c0.2.1 wl_X5_91 wMv_184 rfl (.inl rfl) rfl (Nat.le_trans (Nat.le_of_ble_eq_true rfl) hL) (Nat.le_of_ble_eq_true rfl) (Nat.le_of_ble_eq_true rfl) h (fun v2 w1 hle h => ?_) (fun _ _ _ h => kzx_no rfl h)
  have h := h hle
  refine kz_if_ne (M := kt_M193) kX5_name_c0.2.2.1 (t := 11) rfl h (fun h => ?_) (fun h => ?_)
  · skip
    exact kz_weak [(0, .ref (w_adr E.2.1 4 0))] ⟨rfl, trivial⟩ rfl (zt_X5_name_p11 hL  h)
  · skip
    refine kz_aload_n (M := kt_M193) kX5_name_c0.2.2.2.1 rfl ?_
    refine kz_cv0 (M := kt_M193) (c := 4) (o := 0) (As := []) (rest := []) kX5_name_c0.2.2.2.2.1 wl_X5_82 wMv_213 rfl (.inl rfl) rfl (Nat.le_trans (Nat.le_of_ble_eq_true rfl) hL) (Nat.le_of_ble_eq_true rfl) (Nat.le_of_ble_eq_true rfl) h (fun w3 hle h => ?_) (fun _ _ _ h => kzx_no rfl h)
    have h := h hle
    exact kz_weak [(0, .ref (w_adr E.2.1 4 0))] ⟨rfl, trivial⟩ rfl (zt_X5_name_p11 hL  h)
def zL_X5_formals_p39 (E : zE) (L : Nat) (Q : kx_Rs → wS → Prop) (x1 : Option Nat) (x2 : Option Nat) (x3 : Int32) (x4 : Int32) (w : wS) : Prop := kzE E L kt_M179 39 [(0, .ref (w_adr E.2.1 4 0)), (1, va_rf (x1)), (2, va_rf (x2)), (3, .int x3), (4, .int x4)] [] w Q
def zb_X5_formals_p224 (E : zE) (L : Nat) (Q : kx_Rs → wS → Prop) (x1 : Option Nat) (x2 : Option Nat) (x3 : Int32) (x4 : Int32) (w : wS) : Prop := zL_X5_formals_p39 E L Q x1 x2 x3 (x4 + 1) w
theorem zt_X5_formals_p224 {E : zE} {L : Nat} {Q : kx_Rs → wS → Prop} {x1 : Option Nat} {x2 : Option Nat} {x3 : Int32} {x4 : Int32} {w : wS} (hL : 21 ≤ L) (h : zb_X5_formals_p224 E L Q x1 x2 x3 x4 w) : kzE E L kt_M179 224 [(0, .ref (w_adr E.2.1 4 0)), (1, va_rf (x1)), (2, va_rf (x2)), (3, .int x3), (4, .int x4)] [] w Q := by
  unfold zb_X5_formals_p224 at h
  refine kz_inc (M := kt_M179) [(0, .ref (w_adr E.2.1 4 0)), (1, va_rf (x1)), (2, va_rf (x2)), (3, .int x3)] kX5_formals_c13.2.2.2.1 rfl (Nat.le_of_ble_eq_true rfl) ⟨⟨rfl, rfl, .inl rfl⟩, ⟨⟨rfl, rfl, .inl rfl⟩, ⟨⟨rfl, rfl, .inl rfl⟩, ⟨⟨rfl, rfl, .inr rfl⟩, trivial⟩⟩⟩⟩ rfl ?_
  refine kz_goto (M := kt_M179) kX5_formals_c13.2.2.2.2.1 (t := 39) rfl ?_
  exact kz_weak [(0, .ref (w_adr E.2.1 4 0)), (1, va_rf (x1)), (2, va_rf (x2)), (3, .int x3), (4, .int (x4 + 1))] ⟨rfl, ⟨rfl, ⟨rfl, ⟨rfl, ⟨rfl, trivial⟩⟩⟩⟩⟩ rfl h
def zb_X5_formals_p209 (E : zE) (L : Nat) (Q : kx_Rs → wS → Prop) (x1 : Option Nat) (x2 : Option Nat) (x4 : Int32) (w : wS) : Prop := zw E (L - 21) kt_M183 [.ref (w_adr E.2.1 4 0), .int 40] w (wk1 (fun v2 w1 => wle w w1 → (if v2 = 0 then zb_X5_formals_p224 E L Q x1 x2 v2 x4 w1 else zw E (L - 20) kt_M195 [.ref (w_adr E.2.1 4 0)] w1 (wk0 (fun w3 => wle w1 w3 → zb_X5_formals_p224 E L Q x1 x2 v2 x4 w3) (fun e w => Q (.inr e) w)))) (fun e w => Q (.inr e) w))
theorem zt_X5_formals_p209 {E : zE} {L : Nat} {Q : kx_Rs → wS → Prop} {x1 : Option Nat} {x2 : Option Nat} {x4 : Int32} {w : wS} (hL : 21 ≤ L) (h : zb_X5_formals_p209 E L Q x1 x2 x4 w) : kzE E L kt_M179 209 [(0, .ref (w_adr E.2.1 4 0)), (1, va_rf (x1)), (2, va_rf (x2)), (4, .int x4)] [] w Q := by
  unfold zb_X5_formals_p209 at h
  refine kz_aload_n (M := kt_M179) kX5_formals_c12.2.2.2.1 rfl ?_
  refine kz_bi (M := kt_M179) 40 kX5_formals_c12.2.2.2.2.1 rfl ?_
  refine kz_cv1 (M := kt_M179) (c := 4) (o := 0) (As := [.int 40]) (rest := []) kX5_formals_c12.2.2.2.2.2.1 wl_X5_79 wMv_183 rfl (.inl rfl) rfl (Nat.le_trans (Nat.le_of_ble_eq_true rfl) hL) (Nat.le_of_ble_eq_true rfl) (Nat.le_of_ble_eq_true rfl) h (fun v2 w1 hle h => ?_) (fun _ _ _ h => kzx_no rfl h)
  have h := h hle
  refine kz_sti_n (M := kt_M179) [(0, .ref (w_adr E.2.1 4 0)), (1, va_rf (x1)), (2, va_rf (x2)), (4, .int x4)] kX5_formals_c12.2.2.2.2.2.2.1 (Nat.le_of_ble_eq_true rfl) ⟨⟨rfl, rfl, .inl rfl⟩, ⟨⟨rfl, rfl, .inl rfl⟩, ⟨⟨rfl, rfl, .inr (w_cat (x2))⟩, ⟨⟨rfl, rfl, .inl rfl⟩, trivial⟩⟩⟩⟩ rfl ?_
  refine kz_iload_n (M := kt_M179) kX5_formals_c12.2.2.2.2.2.2.2.1 rfl ?_
  refine kz_if_eq (M := kt_M179) kX5_formals_c13.1 (t := 224) rfl h (fun h => ?_) (fun h => ?_)
  · skip
    exact kz_weak [(0, .ref (w_adr E.2.1 4 0)), (1, va_rf (x1)), (2, va_rf (x2)), (3, .int v2), (4, .int x4)] ⟨rfl, ⟨rfl, ⟨rfl, ⟨rfl, ⟨rfl, trivial⟩⟩⟩⟩⟩ rfl (zt_X5_formals_p224 hL  h)
  · skip
    refine kz_aload_n (M := kt_M179) kX5_formals_c13.2.1 rfl ?_
    refine kz_cv0 (M := kt_M179) (c := 4) (o := 0) (As := []) (rest := []) kX5_formals_c13.2.2.1 wl_X5_85 wMv_195 rfl (.inl rfl) rfl (Nat.le_trans (Nat.le_of_ble_eq_true rfl) hL) (Nat.le_of_ble_eq_true rfl) (Nat.le_of_ble_eq_true rfl) h (fun w3 hle h => ?_) (fun _ _ _ h => kzx_no rfl h)
    have h := h hle
    exact kz_weak [(0, .ref (w_adr E.2.1 4 0)), (1, va_rf (x1)), (2, va_rf (x2)), (3, .int v2), (4, .int x4)] ⟨rfl, ⟨rfl, ⟨rfl, ⟨rfl, ⟨rfl, trivial⟩⟩⟩⟩⟩ rfl (zt_X5_formals_p224 hL  h)
def zb_X5_formals_p177 (E : zE) (L : Nat) (Q : kx_Rs → wS → Prop) (x1 : Option Nat) (x2 : Option Nat) (x4 : Int32) (x5 : Option Nat) (w : wS) : Prop := (∃ p1, x5 = some p1 ∧ w_l w E.2.1 14 p1 ∧ zw E (L - 21) kt_M193 [.ref (w_adr E.2.1 4 0)] (ws_i w 14 p1 1 (w_i w 4 0 3)) (wk1 (fun v3 w2 => wle (ws_i w 14 p1 1 (w_i w 4 0 3)) w2 → zw E (L - 21) kt_M166 [va_rf (x2), va_rf (x5)] (ws_i w2 14 p1 9 v3) (wkr (fun v5 w4 => wle (ws_i w2 14 p1 9 v3) w4 → (if ¬ x1 = none then zb_X5_formals_p209 E L Q x1 v5 x4 w4 else zb_X5_formals_p209 E L Q x5 v5 x4 w4)) (fun e w => Q (.inr e) w))) (fun e w => Q (.inr e) w)))
theorem zt_X5_formals_p177 {E : zE} {L : Nat} {Q : kx_Rs → wS → Prop} {x1 : Option Nat} {x2 : Option Nat} {x4 : Int32} {x5 : Option Nat} {w : wS} (hL : 21 ≤ L) (h : zb_X5_formals_p177 E L Q x1 x2 x4 x5 w) : kzE E L kt_M179 177 [(0, .ref (w_adr E.2.1 4 0)), (1, va_rf (x1)), (2, va_rf (x2)), (4, .int x4), (5, va_rf (x5))] [] w Q := by
  unfold zb_X5_formals_p177 at h
  refine kz_aloadv (M := kt_M179) (x := x5) kX5_formals_c10.2.2.2.1 rfl ?_
  refine kz_aload_n (M := kt_M179) kX5_formals_c10.2.2.2.2.1 rfl ?_
  refine kz_gfi (M := kt_M179) (c := 4) (o := 0) kX5_formals_c10.2.2.2.2.2.1 wf_X5_29 (.inl rfl) ?_
  obtain ⟨p1, hxp1, hlp1, h⟩ := h
  refine kz_nz1 (x := x5) hxp1 ?_
  refine kz_pfi (M := kt_M179) (c := 14) (o := p1) kX5_formals_c10.2.2.2.2.2.2.1 wq_X5_297 (.inr (by exact hlp1)) ?_
  refine kz_aloadv (M := kt_M179) (x := x5) kX5_formals_c10.2.2.2.2.2.2.2.1 rfl ?_
  refine kz_aload_n (M := kt_M179) kX5_formals_c11.1 rfl ?_
  refine kz_cv1 (M := kt_M179) (c := 4) (o := 0) (As := []) (rest := [va_rf (x5)]) kX5_formals_c11.2.1 wl_X5_237 wMv_193 rfl (.inl rfl) rfl (Nat.le_trans (Nat.le_of_ble_eq_true rfl) hL) (Nat.le_of_ble_eq_true rfl) (by simp [kx_cat, w_cat, z_ci, z_cr, z_cl, z_cn]) h (fun v3 w2 hle h => ?_) (fun _ _ _ h => kzx_no rfl h)
  have h := h hle
  have hlp1 := w_l_le hlp1 hle
  refine kz_nz1 (x := x5) hxp1 ?_
  refine kz_pfi (M := kt_M179) (c := 14) (o := p1) kX5_formals_c11.2.2.1 wq_X5_240 (.inr (by exact hlp1)) ?_
  refine kz_aload_nv (M := kt_M179) (x := x2) kX5_formals_c11.2.2.2.1 rfl ?_
  refine kz_aloadv (M := kt_M179) (x := x5) kX5_formals_c11.2.2.2.2.1 rfl ?_
  refine kz_csr (M := kt_M179) (As := [va_rf (x2), va_rf (x5)]) (rest := []) kX5_formals_c11.2.2.2.2.2.1 wl_X5_158 wMs_166 rfl (Nat.le_trans (Nat.le_of_ble_eq_true rfl) hL) (by simp [lg_sl, w_cat, z_ci, z_cr, z_cl, z_cn, kt_M166]) (Nat.le_of_ble_eq_true rfl) h (fun v5 w4 hle h => ?_) (fun _ _ _ h => kzx_no rfl h)
  have h := h hle
  have hlp1 := w_l_le hlp1 hle
  refine kz_stv_n (M := kt_M179) (x := v5) [(0, .ref (w_adr E.2.1 4 0)), (1, va_rf (x1)), (4, .int x4), (5, va_rf (x5))] kX5_formals_c11.2.2.2.2.2.2.1 (Nat.le_of_ble_eq_true rfl) ⟨⟨rfl, rfl, .inl rfl⟩, ⟨⟨rfl, rfl, .inr (w_cat (x1))⟩, ⟨⟨rfl, rfl, .inl rfl⟩, ⟨⟨rfl, rfl, .inl rfl⟩, trivial⟩⟩⟩⟩ rfl ?_
  refine kz_aload_nv (M := kt_M179) (x := x1) kX5_formals_c11.2.2.2.2.2.2.2.1 rfl ?_
  refine kz_ifnonnull (M := kt_M179) (x := x1) kX5_formals_c12.1 (t := 209) rfl h (fun h => ?_) (fun h => ?_)
  · skip
    exact kz_weak [(0, .ref (w_adr E.2.1 4 0)), (1, va_rf (x1)), (2, va_rf (v5)), (4, .int x4)] ⟨rfl, ⟨rfl, ⟨rfl, ⟨rfl, trivial⟩⟩⟩⟩ rfl (zt_X5_formals_p209 hL  h)
  · skip
    refine kz_aloadv (M := kt_M179) (x := x5) kX5_formals_c12.2.1 rfl ?_
    refine kz_stv_n (M := kt_M179) (x := x5) [(0, .ref (w_adr E.2.1 4 0)), (2, va_rf (v5)), (4, .int x4)] kX5_formals_c12.2.2.1 (Nat.le_of_ble_eq_true rfl) ⟨⟨rfl, rfl, .inr rfl⟩, ⟨⟨rfl, rfl, .inl rfl⟩, ⟨⟨rfl, rfl, .inl rfl⟩, trivial⟩⟩⟩ rfl ?_
    exact kz_weak [(0, .ref (w_adr E.2.1 4 0)), (1, va_rf (x5)), (2, va_rf (v5)), (4, .int x4)] ⟨rfl, ⟨rfl, ⟨rfl, ⟨rfl, trivial⟩⟩⟩⟩ rfl (zt_X5_formals_p209 hL  h)
def zb_X5_formals_p145 (E : zE) (L : Nat) (Q : kx_Rs → wS → Prop) (x1 : Option Nat) (x2 : Option Nat) (x4 : Int32) (x5 : Option Nat) (w : wS) : Prop := zw E (L - 21) kt_M197 [.ref (w_adr E.2.1 4 0), va_rf (x5)] w (wk0 (fun w1 => wle w w1 → (∃ p3, x5 = some p3 ∧ w_l w1 E.2.1 14 p3 ∧ (if w_i w1 14 p3 15 = 0 then zw E (L - 21) kt_M187 [.ref (w_adr E.2.1 4 0), va_rf (x5)] w1 (wk0 (fun w4 => wle w1 w4 → zb_X5_formals_p177 E L Q x1 x2 x4 x5 w4) (fun e w => Q (.inr e) w)) else zw E (L - 21) kt_M212 [.ref (w_adr E.2.1 4 0)] w1 (wk1 (fun v7 w6 => wle w1 w6 → zb_X5_formals_p177 E L Q x1 x2 x4 x5 (ws_i w6 14 p3 8 v7)) (fun e w => Q (.inr e) w))))) (fun e w => Q (.inr e) w))
theorem zt_X5_formals_p145 {E : zE} {L : Nat} {Q : kx_Rs → wS → Prop} {x1 : Option Nat} {x2 : Option Nat} {x4 : Int32} {x5 : Option Nat} {w : wS} (hL : 21 ≤ L) (h : zb_X5_formals_p145 E L Q x1 x2 x4 x5 w) : kzE E L kt_M179 145 [(0, .ref (w_adr E.2.1 4 0)), (1, va_rf (x1)), (2, va_rf (x2)), (4, .int x4), (5, va_rf (x5))] [] w Q := by
  unfold zb_X5_formals_p145 at h
  refine kz_aload_n (M := kt_M179) kX5_formals_c8.2.2.2.2.2.1 rfl ?_
  refine kz_aloadv (M := kt_M179) (x := x5) kX5_formals_c8.2.2.2.2.2.2.1 rfl ?_
  refine kz_cv0 (M := kt_M179) (c := 4) (o := 0) (As := [va_rf (x5)]) (rest := []) kX5_formals_c8.2.2.2.2.2.2.2.1 wl_X5_255 wMv_197 rfl (.inl rfl) rfl (Nat.le_trans (Nat.le_of_ble_eq_true rfl) hL) (by simp [lg_sl, w_cat, z_ci, z_cr, z_cl, z_cn, kt_M197]) (Nat.le_of_ble_eq_true rfl) h (fun w1 hle h => ?_) (fun _ _ _ h => kzx_no rfl h)
  have h := h hle
  refine kz_aloadv (M := kt_M179) (x := x5) kX5_formals_c9.1 rfl ?_
  obtain ⟨p3, hxp3, hlp3, h⟩ := h
  refine kz_nz0 (x := x5) hxp3 ?_
  refine kz_gfi (M := kt_M179) (c := 14) (o := p3) kX5_formals_c9.2.1 wf_X5_294 (.inr (by exact hlp3)) ?_
  refine kz_if_eq (M := kt_M179) kX5_formals_c9.2.2.1 (t := 171) rfl h (fun h => ?_) (fun h => ?_)
  · skip
    refine kz_aload_n (M := kt_M179) kX5_formals_c10.1 rfl ?_
    refine kz_aloadv (M := kt_M179) (x := x5) kX5_formals_c10.2.1 rfl ?_
    refine kz_cv0 (M := kt_M179) (c := 4) (o := 0) (As := [va_rf (x5)]) (rest := []) kX5_formals_c10.2.2.1 wl_X5_201 wMv_187 rfl (.inl rfl) rfl (Nat.le_trans (Nat.le_of_ble_eq_true rfl) hL) (by simp [lg_sl, w_cat, z_ci, z_cr, z_cl, z_cn, kt_M187]) (Nat.le_of_ble_eq_true rfl) h (fun w4 hle h => ?_) (fun _ _ _ h => kzx_no rfl h)
    have h := h hle
    have hlp3 := w_l_le hlp3 hle
    exact kz_weak [(0, .ref (w_adr E.2.1 4 0)), (1, va_rf (x1)), (2, va_rf (x2)), (4, .int x4), (5, va_rf (x5))] ⟨rfl, ⟨rfl, ⟨rfl, ⟨rfl, ⟨rfl, trivial⟩⟩⟩⟩⟩ rfl (zt_X5_formals_p177 hL  h)
  · skip
    refine kz_aloadv (M := kt_M179) (x := x5) kX5_formals_c9.2.2.2.1 rfl ?_
    refine kz_aload_n (M := kt_M179) kX5_formals_c9.2.2.2.2.1 rfl ?_
    refine kz_cv1 (M := kt_M179) (c := 4) (o := 0) (As := []) (rest := [va_rf (x5)]) kX5_formals_c9.2.2.2.2.2.1 wl_X5_174 wMv_212 rfl (.inl rfl) rfl (Nat.le_trans (Nat.le_of_ble_eq_true rfl) hL) (Nat.le_of_ble_eq_true rfl) (by simp [kx_cat, w_cat, z_ci, z_cr, z_cl, z_cn]) h (fun v7 w6 hle h => ?_) (fun _ _ _ h => kzx_no rfl h)
    have h := h hle
    have hlp3 := w_l_le hlp3 hle
    refine kz_nz1 (x := x5) hxp3 ?_
    refine kz_pfi (M := kt_M179) (c := 14) (o := p3) kX5_formals_c9.2.2.2.2.2.2.1 wq_X5_177 (.inr (by exact hlp3)) ?_
    refine kz_goto (M := kt_M179) kX5_formals_c9.2.2.2.2.2.2.2.1 (t := 177) rfl ?_
    exact kz_weak [(0, .ref (w_adr E.2.1 4 0)), (1, va_rf (x1)), (2, va_rf (x2)), (4, .int x4), (5, va_rf (x5))] ⟨rfl, ⟨rfl, ⟨rfl, ⟨rfl, ⟨rfl, trivial⟩⟩⟩⟩⟩ rfl (zt_X5_formals_p177 hL  h)
def zb_X5_formals_p122 (E : zE) (L : Nat) (Q : kx_Rs → wS → Prop) (x1 : Option Nat) (x2 : Option Nat) (x4 : Int32) (x5 : Option Nat) (w : wS) : Prop := zw E (L - 21) kt_M183 [.ref (w_adr E.2.1 4 0), .int 33] w (wk1 (fun v2 w1 => wle w w1 → (∃ p3, x5 = some p3 ∧ w_l w1 E.2.1 14 p3 ∧ ((v2 = 0 ∨ v2 = 1) ∧ (if v2 = 0 then zb_X5_formals_p145 E L Q x1 x2 x4 x5 (ws_i w1 14 p3 15 v2) else zw E (L - 20) kt_M195 [.ref (w_adr E.2.1 4 0)] (ws_i w1 14 p3 15 v2) (wk0 (fun w4 => wle (ws_i w1 14 p3 15 v2) w4 → zb_X5_formals_p145 E L Q x1 x2 x4 x5 w4) (fun e w => Q (.inr e) w)))))) (fun e w => Q (.inr e) w))
theorem zt_X5_formals_p122 {E : zE} {L : Nat} {Q : kx_Rs → wS → Prop} {x1 : Option Nat} {x2 : Option Nat} {x4 : Int32} {x5 : Option Nat} {w : wS} (hL : 21 ≤ L) (h : zb_X5_formals_p122 E L Q x1 x2 x4 x5 w) : kzE E L kt_M179 122 [(0, .ref (w_adr E.2.1 4 0)), (1, va_rf (x1)), (2, va_rf (x2)), (4, .int x4), (5, va_rf (x5))] [] w Q := by
  unfold zb_X5_formals_p122 at h
  refine kz_aloadv (M := kt_M179) (x := x5) kX5_formals_c7.2.2.2.1 rfl ?_
  refine kz_aload_n (M := kt_M179) kX5_formals_c7.2.2.2.2.1 rfl ?_
  refine kz_bi (M := kt_M179) 33 kX5_formals_c7.2.2.2.2.2.1 rfl ?_
  refine kz_cv1 (M := kt_M179) (c := 4) (o := 0) (As := [.int 33]) (rest := [va_rf (x5)]) kX5_formals_c7.2.2.2.2.2.2.1 wl_X5_79 wMv_183 rfl (.inl rfl) rfl (Nat.le_trans (Nat.le_of_ble_eq_true rfl) hL) (Nat.le_of_ble_eq_true rfl) (by simp [kx_cat, w_cat, z_ci, z_cr, z_cl, z_cn]) h (fun v2 w1 hle h => ?_) (fun _ _ _ h => kzx_no rfl h)
  have h := h hle
  obtain ⟨p3, hxp3, hlp3, h⟩ := h
  refine kz_nz1 (x := x5) hxp3 ?_
  obtain ⟨h0, h⟩ := h
  refine kz_pfz (M := kt_M179) (c := 14) (o := p3) kX5_formals_c7.2.2.2.2.2.2.2.1 wq_X5_294 (.inr (by exact hlp3)) h0 ?_
  refine kz_aloadv (M := kt_M179) (x := x5) kX5_formals_c8.1 rfl ?_
  refine kz_nz0 (x := x5) hxp3 ?_
  refine kz_gfiR (M := kt_M179) (c := 14) (o := p3) v2 kX5_formals_c8.2.1 wf_X5_294 (.inr (by exact hlp3)) rd_i_e ?_
  refine kz_if_eq (M := kt_M179) kX5_formals_c8.2.2.1 (t := 145) rfl h (fun h => ?_) (fun h => ?_)
  · skip
    exact kz_weak [(0, .ref (w_adr E.2.1 4 0)), (1, va_rf (x1)), (2, va_rf (x2)), (4, .int x4), (5, va_rf (x5))] ⟨rfl, ⟨rfl, ⟨rfl, ⟨rfl, ⟨rfl, trivial⟩⟩⟩⟩⟩ rfl (zt_X5_formals_p145 hL  h)
  · skip
    refine kz_aload_n (M := kt_M179) kX5_formals_c8.2.2.2.1 rfl ?_
    refine kz_cv0 (M := kt_M179) (c := 4) (o := 0) (As := []) (rest := []) kX5_formals_c8.2.2.2.2.1 wl_X5_85 wMv_195 rfl (.inl rfl) rfl (Nat.le_trans (Nat.le_of_ble_eq_true rfl) hL) (Nat.le_of_ble_eq_true rfl) (Nat.le_of_ble_eq_true rfl) h (fun w4 hle h => ?_) (fun _ _ _ h => kzx_no rfl h)
    have h := h hle
    have hlp3 := w_l_le hlp3 hle
    exact kz_weak [(0, .ref (w_adr E.2.1 4 0)), (1, va_rf (x1)), (2, va_rf (x2)), (4, .int x4), (5, va_rf (x5))] ⟨rfl, ⟨rfl, ⟨rfl, ⟨rfl, ⟨rfl, trivial⟩⟩⟩⟩⟩ rfl (zt_X5_formals_p145 hL  h)
def zb_X5_formals_p54 (E : zE) (L : Nat) (Q : kx_Rs → wS → Prop) (x1 : Option Nat) (x2 : Option Nat) (x4 : Int32) (w : wS) : Prop := zw E (L - 21) kt_M196 [.ref (w_adr E.2.1 4 0), va_rf (some (E.1.1 12))] w (wkr (fun v2 w1 => wle w w1 → zw E (L - 20) kt_M184 [.ref (w_adr E.2.1 4 0)] w1 (wk1 (fun v4 w3 => wle w1 w3 → (if v4 = 0 then zb_X5_formals_p122 E L Q x1 x2 x4 v2 w3 else (if x2 = none then zb_X5_formals_p122 E L Q x1 x2 x4 v2 w3 else (∃ p5, x2 = some p5 ∧ w_l w3 E.2.1 14 p5 ∧ (∃ p6, v2 = some p6 ∧ w_l w3 E.2.1 14 p6 ∧ ((w_i w3 14 p5 15 = 0 ∨ w_i w3 14 p5 15 = 1) ∧ ((w_i w3 14 p5 13 = 0 ∨ w_i w3 14 p5 13 = 1) ∧ ((w_i w3 14 p5 14 = 0 ∨ w_i w3 14 p5 14 = 1) ∧ zb_X5_formals_p177 E L Q x1 x2 x4 v2 (ws_p (ws_i (ws_i (ws_i (ws_i w3 14 p6 15 (w_i w3 14 p5 15)) 14 p6 13 (w_i w3 14 p5 13)) 14 p6 14 (w_i w3 14 p5 14)) 14 p6 8 (w_i w3 14 p5 8)) 14 p6 5 (w_p w3 14 p5 5)))))))))) (fun e w => Q (.inr e) w))) (fun e w => Q (.inr e) w))
theorem zt_X5_formals_p54 {E : zE} {L : Nat} {Q : kx_Rs → wS → Prop} {x1 : Option Nat} {x2 : Option Nat} {x4 : Int32} {w : wS} (hL : 21 ≤ L) (h : zb_X5_formals_p54 E L Q x1 x2 x4 w) : kzE E L kt_M179 54 [(0, .ref (w_adr E.2.1 4 0)), (1, va_rf (x1)), (2, va_rf (x2)), (4, .int x4)] [] w Q := by
  unfold zb_X5_formals_p54 at h
  refine kz_aload_n (M := kt_M179) kX5_formals_c3.2.2.2.2.2.1 rfl ?_
  refine kz_getsE (M := kt_M179) (v := va_rf (some (E.1.1 12))) kX5_formals_c3.2.2.2.2.2.2.1 zs_X5_291 ?_
  refine kz_cvr (M := kt_M179) (c := 4) (o := 0) (As := [va_rf (some (E.1.1 12))]) (rest := []) kX5_formals_c3.2.2.2.2.2.2.2.1 wl_X5_152 wMv_196 rfl (.inl rfl) rfl (Nat.le_trans (Nat.le_of_ble_eq_true rfl) hL) (by simp [lg_sl, w_cat, z_ci, z_cr, z_cl, z_cn, kt_M196]) (Nat.le_of_ble_eq_true rfl) h (fun v2 w1 hle h => ?_) (fun _ _ _ h => kzx_no rfl h)
  have h := h hle
  refine kz_stv (M := kt_M179) (x := v2) [(0, .ref (w_adr E.2.1 4 0)), (1, va_rf (x1)), (2, va_rf (x2)), (4, .int x4)] kX5_formals_c4.1 (Nat.le_of_ble_eq_true rfl) ⟨⟨rfl, rfl, .inl rfl⟩, ⟨⟨rfl, rfl, .inl rfl⟩, ⟨⟨rfl, rfl, .inl rfl⟩, ⟨⟨rfl, rfl, .inr rfl⟩, trivial⟩⟩⟩⟩ rfl ?_
  refine kz_aload_n (M := kt_M179) kX5_formals_c4.2.1 rfl ?_
  refine kz_cv1 (M := kt_M179) (c := 4) (o := 0) (As := []) (rest := []) kX5_formals_c4.2.2.1 wl_X5_91 wMv_184 rfl (.inl rfl) rfl (Nat.le_trans (Nat.le_of_ble_eq_true rfl) hL) (Nat.le_of_ble_eq_true rfl) (Nat.le_of_ble_eq_true rfl) h (fun v4 w3 hle h => ?_) (fun _ _ _ h => kzx_no rfl h)
  have h := h hle
  refine kz_if_eq (M := kt_M179) kX5_formals_c4.2.2.2.1 (t := 122) rfl h (fun h => ?_) (fun h => ?_)
  · skip
    exact kz_weak [(0, .ref (w_adr E.2.1 4 0)), (1, va_rf (x1)), (2, va_rf (x2)), (4, .int x4), (5, va_rf (v2))] ⟨rfl, ⟨rfl, ⟨rfl, ⟨rfl, ⟨rfl, trivial⟩⟩⟩⟩⟩ rfl (zt_X5_formals_p122 hL  h)
  · skip
    refine kz_aload_nv (M := kt_M179) (x := x2) kX5_formals_c4.2.2.2.2.1 rfl ?_
    refine kz_ifnull (M := kt_M179) (x := x2) kX5_formals_c4.2.2.2.2.2.1 (t := 122) rfl h (fun h => ?_) (fun h => ?_)
    · skip
      exact kz_weak [(0, .ref (w_adr E.2.1 4 0)), (1, va_rf (x1)), (2, va_rf (x2)), (4, .int x4), (5, va_rf (v2))] ⟨rfl, ⟨rfl, ⟨rfl, ⟨rfl, ⟨rfl, trivial⟩⟩⟩⟩⟩ rfl (zt_X5_formals_p122 hL  h)
    · skip
      refine kz_aloadv (M := kt_M179) (x := v2) kX5_formals_c4.2.2.2.2.2.2.1 rfl ?_
      refine kz_aload_nv (M := kt_M179) (x := x2) kX5_formals_c4.2.2.2.2.2.2.2.1 rfl ?_
      obtain ⟨p5, hxp5, hlp5, h⟩ := h
      refine kz_nz0 (x := x2) hxp5 ?_
      refine kz_gfi (M := kt_M179) (c := 14) (o := p5) kX5_formals_c5.1 wf_X5_294 (.inr (by exact hlp5)) ?_
      obtain ⟨p6, hxp6, hlp6, h⟩ := h
      refine kz_nz1 (x := v2) hxp6 ?_
      obtain ⟨h0, h⟩ := h
      refine kz_pfz (M := kt_M179) (c := 14) (o := p6) kX5_formals_c5.2.1 wq_X5_294 (.inr (by exact hlp6)) h0 ?_
      refine kz_aloadv (M := kt_M179) (x := v2) kX5_formals_c5.2.2.1 rfl ?_
      refine kz_aload_nv (M := kt_M179) (x := x2) kX5_formals_c5.2.2.2.1 rfl ?_
      refine kz_nz0 (x := x2) hxp5 ?_
      refine kz_gfiR (M := kt_M179) (c := 14) (o := p5) (w_i w3 14 p5 13) kX5_formals_c5.2.2.2.2.1 wf_X5_191 (.inr (by exact hlp5)) (rd_i_i rfl) ?_
      refine kz_nz1 (x := v2) hxp6 ?_
      obtain ⟨h0, h⟩ := h
      refine kz_pfz (M := kt_M179) (c := 14) (o := p6) kX5_formals_c5.2.2.2.2.2.1 wq_X5_191 (.inr (by exact hlp6)) h0 ?_
      refine kz_aloadv (M := kt_M179) (x := v2) kX5_formals_c5.2.2.2.2.2.2.1 rfl ?_
      refine kz_aload_nv (M := kt_M179) (x := x2) kX5_formals_c5.2.2.2.2.2.2.2.1 rfl ?_
      refine kz_nz0 (x := x2) hxp5 ?_
      refine kz_gfiR (M := kt_M179) (c := 14) (o := p5) (w_i w3 14 p5 14) kX5_formals_c6.1 wf_X5_205 (.inr (by exact hlp5)) ((rd_i_i rfl).trans (rd_i_i rfl)) ?_
      refine kz_nz1 (x := v2) hxp6 ?_
      obtain ⟨h0, h⟩ := h
      refine kz_pfz (M := kt_M179) (c := 14) (o := p6) kX5_formals_c6.2.1 wq_X5_205 (.inr (by exact hlp6)) h0 ?_
      refine kz_aloadv (M := kt_M179) (x := v2) kX5_formals_c6.2.2.1 rfl ?_
      refine kz_aload_nv (M := kt_M179) (x := x2) kX5_formals_c6.2.2.2.1 rfl ?_
      refine kz_nz0 (x := x2) hxp5 ?_
      refine kz_gfiR (M := kt_M179) (c := 14) (o := p5) (w_i w3 14 p5 8) kX5_formals_c6.2.2.2.2.1 wf_X5_177 (.inr (by exact hlp5)) ((rd_i_i rfl).trans ((rd_i_i rfl).trans (rd_i_i rfl))) ?_
      refine kz_nz1 (x := v2) hxp6 ?_
      refine kz_pfi (M := kt_M179) (c := 14) (o := p6) kX5_formals_c6.2.2.2.2.2.1 wq_X5_177 (.inr (by exact hlp6)) ?_
      refine kz_aloadv (M := kt_M179) (x := v2) kX5_formals_c6.2.2.2.2.2.2.1 rfl ?_
      refine kz_aload_nv (M := kt_M179) (x := x2) kX5_formals_c6.2.2.2.2.2.2.2.1 rfl ?_
      refine kz_nz0 (x := x2) hxp5 ?_
      refine kz_gfpR (M := kt_M179) (c := 14) (o := p5) (w_p w3 14 p5 5) kX5_formals_c7.1 wf_X5_234 (.inr (by exact hlp5)) (rd_p_i.trans (rd_p_i.trans (rd_p_i.trans rd_p_i))) ?_
      refine kz_nz1 (x := v2) hxp6 ?_
      refine kz_pfp (M := kt_M179) (n := w_p w3 14 p5 5) (c := 14) (o := p6) kX5_formals_c7.2.1 wq_X5_234 (.inr (by exact hlp6)) ?_
      refine kz_goto (M := kt_M179) kX5_formals_c7.2.2.1 (t := 177) rfl ?_
      exact kz_weak [(0, .ref (w_adr E.2.1 4 0)), (1, va_rf (x1)), (2, va_rf (x2)), (4, .int x4), (5, va_rf (v2))] ⟨rfl, ⟨rfl, ⟨rfl, ⟨rfl, ⟨rfl, trivial⟩⟩⟩⟩⟩ rfl (zt_X5_formals_p177 hL  h)
def zb_X5_formals_p39 (E : zE) (L : Nat) (Q : kx_Rs → wS → Prop) (x1 : Option Nat) (x2 : Option Nat) (x3 : Int32) (x4 : Int32) (w : wS) : Prop := (if x3 = 0 then zw E (L - 21) kt_M188 [.ref (w_adr E.2.1 4 0), .int 37] w (wk0 (fun w1 => wle w w1 → Q (.inl (some (va_rf (x1)))) w1) (fun e w => Q (.inr e) w)) else (if ¬ x4 = 8 then zb_X5_formals_p54 E L Q x1 x2 x4 w else zw E (L - 20) kt_M213 [.ref (w_adr E.2.1 4 0)] w (wk0 (fun w3 => wle w w3 → zb_X5_formals_p54 E L Q x1 x2 x4 w3) (fun e w => Q (.inr e) w))))
theorem zt_X5_formals_p39 {E : zE} {L : Nat} {Q : kx_Rs → wS → Prop} {x1 : Option Nat} {x2 : Option Nat} {x3 : Int32} {x4 : Int32} {w : wS} (hL : 21 ≤ L) (h : zb_X5_formals_p39 E L Q x1 x2 x3 x4 w) : kzE E L kt_M179 39 [(0, .ref (w_adr E.2.1 4 0)), (1, va_rf (x1)), (2, va_rf (x2)), (3, .int x3), (4, .int x4)] [] w Q := by
  unfold zb_X5_formals_p39 at h
  refine kz_iload_n (M := kt_M179) kX5_formals_c2.2.2.2.2.2.2.1 rfl ?_
  refine kz_if_eq (M := kt_M179) kX5_formals_c2.2.2.2.2.2.2.2.1 (t := 230) rfl h (fun h => ?_) (fun h => ?_)
  · skip
    refine kz_aload_n (M := kt_M179) kX5_formals_c13.2.2.2.2.2.1 rfl ?_
    refine kz_bi (M := kt_M179) 37 kX5_formals_c13.2.2.2.2.2.2.1 rfl ?_
    refine kz_cv0 (M := kt_M179) (c := 4) (o := 0) (As := [.int 37]) (rest := []) kX5_formals_c13.2.2.2.2.2.2.2.1 wl_X5_198 wMv_188 rfl (.inl rfl) rfl (Nat.le_trans (Nat.le_of_ble_eq_true rfl) hL) (Nat.le_of_ble_eq_true rfl) (Nat.le_of_ble_eq_true rfl) h (fun w1 hle h => ?_) (fun _ _ _ h => kzx_no rfl h)
    have h := h hle
    refine kz_aload_nv (M := kt_M179) (x := x1) kX5_formals_c14.1 rfl ?_
    exact kz_areto (x := x1) (M := kt_M179) kX5_formals_c14.2.1 rfl h
  · skip
    refine kz_iload (M := kt_M179) kX5_formals_c3.1 rfl ?_
    refine kz_bi (M := kt_M179) 8 kX5_formals_c3.2.1 rfl ?_
    refine kz_icmp_ne (M := kt_M179) kX5_formals_c3.2.2.1 (t := 54) rfl h (fun h => ?_) (fun h => ?_)
    · skip
      exact kz_weak [(0, .ref (w_adr E.2.1 4 0)), (1, va_rf (x1)), (2, va_rf (x2)), (4, .int x4)] ⟨rfl, ⟨rfl, ⟨rfl, ⟨rfl, trivial⟩⟩⟩⟩ rfl (zt_X5_formals_p54 hL  h)
    · skip
      refine kz_aload_n (M := kt_M179) kX5_formals_c3.2.2.2.1 rfl ?_
      refine kz_cv0 (M := kt_M179) (c := 4) (o := 0) (As := []) (rest := []) kX5_formals_c3.2.2.2.2.1 wl_X5_82 wMv_213 rfl (.inl rfl) rfl (Nat.le_trans (Nat.le_of_ble_eq_true rfl) hL) (Nat.le_of_ble_eq_true rfl) (Nat.le_of_ble_eq_true rfl) h (fun w3 hle h => ?_) (fun _ _ _ h => kzx_no rfl h)
      have h := h hle
      exact kz_weak [(0, .ref (w_adr E.2.1 4 0)), (1, va_rf (x1)), (2, va_rf (x2)), (4, .int x4)] ⟨rfl, ⟨rfl, ⟨rfl, ⟨rfl, trivial⟩⟩⟩⟩ rfl (zt_X5_formals_p54 hL  h)
def zb_X5_formals_p35 (E : zE) (L : Nat) (Q : kx_Rs → wS → Prop) (x1 : Option Nat) (x2 : Option Nat) (y0 : Int32) (w : wS) : Prop := zL_X5_formals_p39 E L Q x1 x2 y0 0 w
theorem zt_X5_formals_p35 {E : zE} {L : Nat} {Q : kx_Rs → wS → Prop} {x1 : Option Nat} {x2 : Option Nat} {y0 : Int32} {w : wS} (hL : 21 ≤ L) (h : zb_X5_formals_p35 E L Q x1 x2 y0 w) : kzE E L kt_M179 35 [(0, .ref (w_adr E.2.1 4 0)), (1, va_rf (x1)), (2, va_rf (x2))] [.int y0] w Q := by
  unfold zb_X5_formals_p35 at h
  refine kz_sti_n (M := kt_M179) [(0, .ref (w_adr E.2.1 4 0)), (1, va_rf (x1)), (2, va_rf (x2))] kX5_formals_c2.2.2.2.1 (Nat.le_of_ble_eq_true rfl) ⟨⟨rfl, rfl, .inl rfl⟩, ⟨⟨rfl, rfl, .inl rfl⟩, ⟨⟨rfl, rfl, .inr (w_cat (x2))⟩, trivial⟩⟩⟩ rfl ?_
  refine kz_ic (M := kt_M179) 0 kX5_formals_c2.2.2.2.2.1 rfl ?_
  refine kz_sti (M := kt_M179) [(0, .ref (w_adr E.2.1 4 0)), (1, va_rf (x1)), (2, va_rf (x2)), (3, .int y0)] kX5_formals_c2.2.2.2.2.2.1 (Nat.le_of_ble_eq_true rfl) ⟨⟨rfl, rfl, .inl rfl⟩, ⟨⟨rfl, rfl, .inl rfl⟩, ⟨⟨rfl, rfl, .inl rfl⟩, ⟨⟨rfl, rfl, .inr rfl⟩, trivial⟩⟩⟩⟩ rfl ?_
  exact kz_weak [(0, .ref (w_adr E.2.1 4 0)), (1, va_rf (x1)), (2, va_rf (x2)), (3, .int y0), (4, .int 0)] ⟨rfl, ⟨rfl, ⟨rfl, ⟨rfl, ⟨rfl, trivial⟩⟩⟩⟩⟩ rfl h
def zb_X5_formals_p13 (E : zE) (L : Nat) (Q : kx_Rs → wS → Prop) (w : wS) : Prop := zw E (L - 20) kt_M175 [.ref (w_adr E.2.1 4 0)] w (wk0 (fun w1 => wle w w1 → zw E (L - 21) kt_M183 [.ref (w_adr E.2.1 4 0), .int 37] w1 (wk1 (fun v4 w3 => wle w1 w3 → (if ¬ v4 = 0 then zb_X5_formals_p35 E L Q none none 0 w3 else zb_X5_formals_p35 E L Q none none 1 w3)) (fun e w => Q (.inr e) w))) (fun e w => Q (.inr e) w))
theorem zt_X5_formals_p13 {E : zE} {L : Nat} {Q : kx_Rs → wS → Prop} {w : wS} (hL : 21 ≤ L) (h : zb_X5_formals_p13 E L Q  w) : kzE E L kt_M179 13 [(0, .ref (w_adr E.2.1 4 0))] [] w Q := by
  unfold zb_X5_formals_p13 at h
  refine kz_aload_n (M := kt_M179) kX5_formals_c0.2.2.2.2.2.2.1 rfl ?_
  refine kz_cv0 (M := kt_M179) (c := 4) (o := 0) (As := []) (rest := []) kX5_formals_c0.2.2.2.2.2.2.2.1 wl_X5_188 wMv_175 rfl (.inl rfl) rfl (Nat.le_trans (Nat.le_of_ble_eq_true rfl) hL) (Nat.le_of_ble_eq_true rfl) (Nat.le_of_ble_eq_true rfl) h (fun w1 hle h => ?_) (fun _ _ _ h => kzx_no rfl h)
  have h := h hle
  refine kz_null (M := kt_M179) kX5_formals_c1.1 ?_
  refine kz_stv_n (M := kt_M179) (x := none) [(0, .ref (w_adr E.2.1 4 0))] kX5_formals_c1.2.1 (Nat.le_of_ble_eq_true rfl) ⟨⟨rfl, rfl, .inr rfl⟩, trivial⟩ rfl ?_
  refine kz_null (M := kt_M179) kX5_formals_c1.2.2.1 ?_
  refine kz_stv_n (M := kt_M179) (x := none) [(0, .ref (w_adr E.2.1 4 0)), (1, va_rf (none))] kX5_formals_c1.2.2.2.1 (Nat.le_of_ble_eq_true rfl) ⟨⟨rfl, rfl, .inl rfl⟩, ⟨⟨rfl, rfl, .inr (w_cat (none))⟩, trivial⟩⟩ rfl ?_
  refine kz_aload_n (M := kt_M179) kX5_formals_c1.2.2.2.2.1 rfl ?_
  refine kz_bi (M := kt_M179) 37 kX5_formals_c1.2.2.2.2.2.1 rfl ?_
  refine kz_cv1 (M := kt_M179) (c := 4) (o := 0) (As := [.int 37]) (rest := []) kX5_formals_c1.2.2.2.2.2.2.1 wl_X5_79 wMv_183 rfl (.inl rfl) rfl (Nat.le_trans (Nat.le_of_ble_eq_true rfl) hL) (Nat.le_of_ble_eq_true rfl) (Nat.le_of_ble_eq_true rfl) h (fun v4 w3 hle h => ?_) (fun _ _ _ h => kzx_no rfl h)
  have h := h hle
  refine kz_if_ne (M := kt_M179) kX5_formals_c1.2.2.2.2.2.2.2.1 (t := 34) rfl h (fun h => ?_) (fun h => ?_)
  · skip
    refine kz_ic (M := kt_M179) 0 kX5_formals_c2.2.2.1 rfl ?_
    exact kz_weak [(0, .ref (w_adr E.2.1 4 0)), (1, va_rf (none)), (2, va_rf (none))] ⟨rfl, ⟨rfl, ⟨rfl, trivial⟩⟩⟩ rfl (zt_X5_formals_p35 hL  h)
  · skip
    refine kz_ic (M := kt_M179) 1 kX5_formals_c2.1 rfl ?_
    refine kz_goto (M := kt_M179) kX5_formals_c2.2.1 (t := 35) rfl ?_
    exact kz_weak [(0, .ref (w_adr E.2.1 4 0)), (1, va_rf (none)), (2, va_rf (none))] ⟨rfl, ⟨rfl, ⟨rfl, trivial⟩⟩⟩ rfl (zt_X5_formals_p35 hL  h)
def zb_X5_formals_p0 (E : zE) (L : Nat) (Q : kx_Rs → wS → Prop) (w : wS) : Prop := zw E (L - 21) kt_M183 [.ref (w_adr E.2.1 4 0), .int 36] w (wk1 (fun v2 w1 => wle w w1 → (if ¬ v2 = 0 then zb_X5_formals_p13 E L Q w1 else zw E (L - 20) kt_M213 [.ref (w_adr E.2.1 4 0)] w1 (wk0 (fun w3 => wle w1 w3 → zb_X5_formals_p13 E L Q w3) (fun e w => Q (.inr e) w)))) (fun e w => Q (.inr e) w))
theorem zt_X5_formals_p0 {E : zE} {L : Nat} {Q : kx_Rs → wS → Prop} {w : wS} (hL : 21 ≤ L) (h : zb_X5_formals_p0 E L Q  w) : kzE E L kt_M179 0 [(0, .ref (w_adr E.2.1 4 0))] [] w Q := by
  unfold zb_X5_formals_p0 at h
  refine kz_aload_n (M := kt_M179) kX5_formals_c0.1 rfl ?_
  refine kz_bi (M := kt_M179) 36 kX5_formals_c0.2.1 rfl ?_
  refine kz_cv1 (M := kt_M179) (c := 4) (o := 0) (As := [.int 36]) (rest := []) kX5_formals_c0.2.2.1 wl_X5_79 wMv_183 rfl (.inl rfl) rfl (Nat.le_trans (Nat.le_of_ble_eq_true rfl) hL) (Nat.le_of_ble_eq_true rfl) (Nat.le_of_ble_eq_true rfl) h (fun v2 w1 hle h => ?_) (fun _ _ _ h => kzx_no rfl h)
  have h := h hle
  refine kz_if_ne (M := kt_M179) kX5_formals_c0.2.2.2.1 (t := 13) rfl h (fun h => ?_) (fun h => ?_)
  · skip
    exact kz_weak [(0, .ref (w_adr E.2.1 4 0))] ⟨rfl, trivial⟩ rfl (zt_X5_formals_p13 hL  h)
  · skip
    refine kz_aload_n (M := kt_M179) kX5_formals_c0.2.2.2.2.1 rfl ?_
    refine kz_cv0 (M := kt_M179) (c := 4) (o := 0) (As := []) (rest := []) kX5_formals_c0.2.2.2.2.2.1 wl_X5_82 wMv_213 rfl (.inl rfl) rfl (Nat.le_trans (Nat.le_of_ble_eq_true rfl) hL) (Nat.le_of_ble_eq_true rfl) (Nat.le_of_ble_eq_true rfl) h (fun w3 hle h => ?_) (fun _ _ _ h => kzx_no rfl h)
    have h := h hle
    exact kz_weak [(0, .ref (w_adr E.2.1 4 0))] ⟨rfl, trivial⟩ rfl (zt_X5_formals_p13 hL  h)
def zb_X5_enter_p21 (E : zE) (L : Nat) (Q : kx_Rs → wS → Prop) (w : wS) : Prop := zw E (L - 20) kt_M195 [.ref (w_adr E.2.1 4 0)] (ws_i w 4 0 4 ((w_i w 4 0 4) + 1)) (wk0 (fun w1 => wle (ws_i w 4 0 4 ((w_i w 4 0 4) + 1)) w1 → Q (.inl none) w1) (fun e w => Q (.inr e) w))
theorem zt_X5_enter_p21 {E : zE} {L : Nat} {Q : kx_Rs → wS → Prop} {w : wS} (hL : 22 ≤ L) (h : zb_X5_enter_p21 E L Q  w) : kzE E L kt_M175 21 [(0, .ref (w_adr E.2.1 4 0))] [] w Q := by
  unfold zb_X5_enter_p21 at h
  refine kz_aload_n (M := kt_M175) kX5_enter_c1.2.2.1 rfl ?_
  refine kz_dup (M := kt_M175) kX5_enter_c1.2.2.2.1 rfl ?_
  refine kz_gfi (M := kt_M175) (c := 4) (o := 0) kX5_enter_c1.2.2.2.2.1 wf_X5_97 (.inl rfl) ?_
  refine kz_ic (M := kt_M175) 1 kX5_enter_c1.2.2.2.2.2.1 rfl ?_
  refine kz_iadd (M := kt_M175) kX5_enter_c1.2.2.2.2.2.2.1 ?_
  refine kz_pfi (M := kt_M175) (c := 4) (o := 0) kX5_enter_c1.2.2.2.2.2.2.2.1 wq_X5_97 (.inl rfl) ?_
  refine kz_aload_n (M := kt_M175) kX5_enter_c2.1 rfl ?_
  refine kz_cv0 (M := kt_M175) (c := 4) (o := 0) (As := []) (rest := []) kX5_enter_c2.2.1 wl_X5_85 wMv_195 rfl (.inl rfl) rfl (Nat.le_trans (Nat.le_of_ble_eq_true rfl) hL) (Nat.le_of_ble_eq_true rfl) (Nat.le_of_ble_eq_true rfl) h (fun w1 hle h => ?_) (fun _ _ _ h => kzx_no rfl h)
  have h := h hle
  exact kz_ret (M := kt_M175) kX5_enter_c2.2.2.1 rfl h
def zb_X5_enter_p0 (E : zE) (L : Nat) (Q : kx_Rs → wS → Prop) (w : wS) : Prop := (if ¬ w_i w 4 0 4 = 20 then zb_X5_enter_p21 E L Q w else zw E (L - 20) kt_M189 [.ref (w_adr E.2.1 4 0)] w (wk1 (fun v2 w1 => wle w w1 → zw E (L - 22) kt_M55 [.ref (w_adr E.2.1 2 0), .int 3, .int v2] w1 (wk0 (fun w3 => wle w1 w3 → zb_X5_enter_p21 E L Q w3) (fun e w => Q (.inr e) w))) (fun e w => Q (.inr e) w)))
theorem zt_X5_enter_p0 {E : zE} {L : Nat} {Q : kx_Rs → wS → Prop} {w : wS} (hL : 22 ≤ L) (h : zb_X5_enter_p0 E L Q  w) : kzE E L kt_M175 0 [(0, .ref (w_adr E.2.1 4 0))] [] w Q := by
  unfold zb_X5_enter_p0 at h
  refine kz_aload_n (M := kt_M175) kX5_enter_c0.1 rfl ?_
  refine kz_gfi (M := kt_M175) (c := 4) (o := 0) kX5_enter_c0.2.1 wf_X5_97 (.inl rfl) ?_
  refine kz_bi (M := kt_M175) 20 kX5_enter_c0.2.2.1 rfl ?_
  refine kz_icmp_ne (M := kt_M175) kX5_enter_c0.2.2.2.1 (t := 21) rfl h (fun h => ?_) (fun h => ?_)
  · skip
    exact kz_weak [(0, .ref (w_adr E.2.1 4 0))] ⟨rfl, trivial⟩ rfl (zt_X5_enter_p21 hL  h)
  · skip
    refine kz_aload_n (M := kt_M175) kX5_enter_c0.2.2.2.2.1 rfl ?_
    refine kz_gfc (M := kt_M175) (x := 8) (c := 4) (o := 0) kX5_enter_c0.2.2.2.2.2.1 wf_X5_15 (.inl rfl) ?_
    refine kz_ic (M := kt_M175) 3 kX5_enter_c0.2.2.2.2.2.2.1 rfl ?_
    refine kz_aload_n (M := kt_M175) kX5_enter_c0.2.2.2.2.2.2.2.1 rfl ?_
    refine kz_cv1 (M := kt_M175) (c := 4) (o := 0) (As := []) (rest := [.int 3, .ref (w_adr E.2.1 2 0)]) kX5_enter_c1.1 wl_X5_33 wMv_189 rfl (.inl rfl) rfl (Nat.le_trans (Nat.le_of_ble_eq_true rfl) hL) (Nat.le_of_ble_eq_true rfl) (Nat.le_of_ble_eq_true rfl) h (fun v2 w1 hle h => ?_) (fun _ _ _ h => kzx_no rfl h)
    have h := h hle
    refine kz_cv0 (M := kt_M175) (c := 2) (o := 0) (As := [.int 3, .int v2]) (rest := []) kX5_enter_c1.2.1 wl_X5_42 wMv_55 rfl (.inl rfl) rfl (Nat.le_trans (Nat.le_of_ble_eq_true rfl) hL) (Nat.le_of_ble_eq_true rfl) (Nat.le_of_ble_eq_true rfl) h (fun w3 hle h => ?_) (fun _ _ _ h => kzx_no rfl h)
    have h := h hle
    exact kz_weak [(0, .ref (w_adr E.2.1 4 0))] ⟨rfl, trivial⟩ rfl (zt_X5_enter_p21 hL  h)
def zb_X5_openSpec_p0 (E : zE) (L : Nat) (Q : kx_Rs → wS → Prop) (x1 : Option Nat) (w : wS) : Prop := zw E (L - 21) kt_M183 [.ref (w_adr E.2.1 4 0), .int 38] w (wk1 (fun v2 w1 => wle w w1 → (if ¬ v2 = 0 then zw E (L - 20) kt_M175 [.ref (w_adr E.2.1 4 0)] w1 (wk0 (fun w3 => wle w1 w3 → zw E (L - 21) kt_M188 [.ref (w_adr E.2.1 4 0), .int 39] w3 (wk0 (fun w5 => wle w3 w5 → (∃ p7, x1 = some p7 ∧ w_l w5 E.2.1 14 p7 ∧ Q (.inl none) (ws_i w5 14 p7 13 1))) (fun e w => Q (.inr e) w))) (fun e w => Q (.inr e) w)) else Q (.inl none) w1)) (fun e w => Q (.inr e) w))
theorem zt_X5_openSpec_p0 {E : zE} {L : Nat} {Q : kx_Rs → wS → Prop} {x1 : Option Nat} {w : wS} (hL : 21 ≤ L) (h : zb_X5_openSpec_p0 E L Q x1 w) : kzE E L kt_M197 0 [(0, .ref (w_adr E.2.1 4 0)), (1, va_rf (x1))] [] w Q := by
  unfold zb_X5_openSpec_p0 at h
  refine kz_aload_n (M := kt_M197) kX5_openSpec_c0.1 rfl ?_
  refine kz_bi (M := kt_M197) 38 kX5_openSpec_c0.2.1 rfl ?_
  refine kz_cv1 (M := kt_M197) (c := 4) (o := 0) (As := [.int 38]) (rest := []) kX5_openSpec_c0.2.2.1 wl_X5_79 wMv_183 rfl (.inl rfl) rfl (Nat.le_trans (Nat.le_of_ble_eq_true rfl) hL) (Nat.le_of_ble_eq_true rfl) (Nat.le_of_ble_eq_true rfl) h (fun v2 w1 hle h => ?_) (fun _ _ _ h => kzx_no rfl h)
  have h := h hle
  refine kz_if_ne (M := kt_M197) kX5_openSpec_c0.2.2.2.1 (t := 10) rfl h (fun h => ?_) (fun h => ?_)
  · skip
    refine kz_aload_n (M := kt_M197) kX5_openSpec_c0.2.2.2.2.2.1 rfl ?_
    refine kz_cv0 (M := kt_M197) (c := 4) (o := 0) (As := []) (rest := []) kX5_openSpec_c0.2.2.2.2.2.2.1 wl_X5_188 wMv_175 rfl (.inl rfl) rfl (Nat.le_trans (Nat.le_of_ble_eq_true rfl) hL) (Nat.le_of_ble_eq_true rfl) (Nat.le_of_ble_eq_true rfl) h (fun w3 hle h => ?_) (fun _ _ _ h => kzx_no rfl h)
    have h := h hle
    refine kz_aload_n (M := kt_M197) kX5_openSpec_c0.2.2.2.2.2.2.2.1 rfl ?_
    refine kz_bi (M := kt_M197) 39 kX5_openSpec_c1.1 rfl ?_
    refine kz_cv0 (M := kt_M197) (c := 4) (o := 0) (As := [.int 39]) (rest := []) kX5_openSpec_c1.2.1 wl_X5_198 wMv_188 rfl (.inl rfl) rfl (Nat.le_trans (Nat.le_of_ble_eq_true rfl) hL) (Nat.le_of_ble_eq_true rfl) (Nat.le_of_ble_eq_true rfl) h (fun w5 hle h => ?_) (fun _ _ _ h => kzx_no rfl h)
    have h := h hle
    refine kz_aload_nv (M := kt_M197) (x := x1) kX5_openSpec_c1.2.2.1 rfl ?_
    refine kz_ic (M := kt_M197) 1 kX5_openSpec_c1.2.2.2.1 rfl ?_
    obtain ⟨p7, hxp7, hlp7, h⟩ := h
    refine kz_nz1 (x := x1) hxp7 ?_
    refine kz_pfz (M := kt_M197) (c := 14) (o := p7) kX5_openSpec_c1.2.2.2.2.1 wq_X5_191 (.inr (by exact hlp7)) (by decide) ?_
    exact kz_ret (M := kt_M197) kX5_openSpec_c1.2.2.2.2.2.1 rfl h
  · skip
    exact kz_ret (M := kt_M197) kX5_openSpec_c0.2.2.2.2.1 rfl h
def zb_X5_leave_p0 (E : zE) (L : Nat) (Q : kx_Rs → wS → Prop) (x1 : Int32) (w : wS) : Prop := zw E (L - 21) kt_M176 [.ref (w_adr E.2.1 4 0), .int x1] w (wk0 (fun w1 => wle w w1 → Q (.inl none) (ws_i w1 4 0 4 ((w_i w1 4 0 4) - 1))) (fun e w => Q (.inr e) w))
theorem zt_X5_leave_p0 {E : zE} {L : Nat} {Q : kx_Rs → wS → Prop} {x1 : Int32} {w : wS} (hL : 21 ≤ L) (h : zb_X5_leave_p0 E L Q x1 w) : kzE E L kt_M188 0 [(0, .ref (w_adr E.2.1 4 0)), (1, .int x1)] [] w Q := by
  unfold zb_X5_leave_p0 at h
  refine kz_aload_n (M := kt_M188) kX5_leave_c0.1 rfl ?_
  refine kz_iload_n (M := kt_M188) kX5_leave_c0.2.1 rfl ?_
  refine kz_cv0 (M := kt_M188) (c := 4) (o := 0) (As := [.int x1]) (rest := []) kX5_leave_c0.2.2.1 wl_X5_100 wMv_176 rfl (.inl rfl) rfl (Nat.le_trans (Nat.le_of_ble_eq_true rfl) hL) (Nat.le_of_ble_eq_true rfl) (Nat.le_of_ble_eq_true rfl) h (fun w1 hle h => ?_) (fun _ _ _ h => kzx_no rfl h)
  have h := h hle
  refine kz_aload_n (M := kt_M188) kX5_leave_c0.2.2.2.1 rfl ?_
  refine kz_dup (M := kt_M188) kX5_leave_c0.2.2.2.2.1 rfl ?_
  refine kz_gfi (M := kt_M188) (c := 4) (o := 0) kX5_leave_c0.2.2.2.2.2.1 wf_X5_97 (.inl rfl) ?_
  refine kz_ic (M := kt_M188) 1 kX5_leave_c0.2.2.2.2.2.2.1 rfl ?_
  refine kz_isub (M := kt_M188) kX5_leave_c0.2.2.2.2.2.2.2.1 ?_
  refine kz_pfi (M := kt_M188) (c := 4) (o := 0) kX5_leave_c1.1 wq_X5_97 (.inl rfl) ?_
  exact kz_ret (M := kt_M188) kX5_leave_c1.2.1 rfl h
def zb_X5_expect_p12 (E : zE) (L : Nat) (Q : kx_Rs → wS → Prop) (w : wS) : Prop := zw E (L - 20) kt_M195 [.ref (w_adr E.2.1 4 0)] w (wk0 (fun w1 => wle w w1 → Q (.inl none) w1) (fun e w => Q (.inr e) w))
theorem zt_X5_expect_p12 {E : zE} {L : Nat} {Q : kx_Rs → wS → Prop} {w : wS} (hL : 21 ≤ L) (h : zb_X5_expect_p12 E L Q  w) : kzE E L kt_M176 12 [(0, .ref (w_adr E.2.1 4 0))] [] w Q := by
  unfold zb_X5_expect_p12 at h
  refine kz_aload_n (M := kt_M176) kX5_expect_c0.2.2.2.2.2.2.1 rfl ?_
  refine kz_cv0 (M := kt_M176) (c := 4) (o := 0) (As := []) (rest := []) kX5_expect_c0.2.2.2.2.2.2.2.1 wl_X5_85 wMv_195 rfl (.inl rfl) rfl (Nat.le_trans (Nat.le_of_ble_eq_true rfl) hL) (Nat.le_of_ble_eq_true rfl) (Nat.le_of_ble_eq_true rfl) h (fun w1 hle h => ?_) (fun _ _ _ h => kzx_no rfl h)
  have h := h hle
  exact kz_ret (M := kt_M176) kX5_expect_c1.1 rfl h
def zb_X5_expect_p0 (E : zE) (L : Nat) (Q : kx_Rs → wS → Prop) (x1 : Int32) (w : wS) : Prop := zw E (L - 21) kt_M183 [.ref (w_adr E.2.1 4 0), .int x1] w (wk1 (fun v2 w1 => wle w w1 → (if ¬ v2 = 0 then zb_X5_expect_p12 E L Q w1 else zw E (L - 20) kt_M213 [.ref (w_adr E.2.1 4 0)] w1 (wk0 (fun w3 => wle w1 w3 → zb_X5_expect_p12 E L Q w3) (fun e w => Q (.inr e) w)))) (fun e w => Q (.inr e) w))
theorem zt_X5_expect_p0 {E : zE} {L : Nat} {Q : kx_Rs → wS → Prop} {x1 : Int32} {w : wS} (hL : 21 ≤ L) (h : zb_X5_expect_p0 E L Q x1 w) : kzE E L kt_M176 0 [(0, .ref (w_adr E.2.1 4 0)), (1, .int x1)] [] w Q := by
  unfold zb_X5_expect_p0 at h
  refine kz_aload_n (M := kt_M176) kX5_expect_c0.1 rfl ?_
  refine kz_iload_n (M := kt_M176) kX5_expect_c0.2.1 rfl ?_
  refine kz_cv1 (M := kt_M176) (c := 4) (o := 0) (As := [.int x1]) (rest := []) kX5_expect_c0.2.2.1 wl_X5_79 wMv_183 rfl (.inl rfl) rfl (Nat.le_trans (Nat.le_of_ble_eq_true rfl) hL) (Nat.le_of_ble_eq_true rfl) (Nat.le_of_ble_eq_true rfl) h (fun v2 w1 hle h => ?_) (fun _ _ _ h => kzx_no rfl h)
  have h := h hle
  refine kz_if_ne (M := kt_M176) kX5_expect_c0.2.2.2.1 (t := 12) rfl h (fun h => ?_) (fun h => ?_)
  · skip
    exact kz_weak [(0, .ref (w_adr E.2.1 4 0))] ⟨rfl, trivial⟩ rfl (zt_X5_expect_p12 hL  h)
  · skip
    refine kz_aload_n (M := kt_M176) kX5_expect_c0.2.2.2.2.1 rfl ?_
    refine kz_cv0 (M := kt_M176) (c := 4) (o := 0) (As := []) (rest := []) kX5_expect_c0.2.2.2.2.2.1 wl_X5_82 wMv_213 rfl (.inl rfl) rfl (Nat.le_trans (Nat.le_of_ble_eq_true rfl) hL) (Nat.le_of_ble_eq_true rfl) (Nat.le_of_ble_eq_true rfl) h (fun w3 hle h => ?_) (fun _ _ _ h => kzx_no rfl h)
    have h := h hle
    exact kz_weak [(0, .ref (w_adr E.2.1 4 0))] ⟨rfl, trivial⟩ rfl (zt_X5_expect_p12 hL  h)
def zb_X5_kindOf_p76 (E : zE) (L : Nat) (Q : kx_Rs → wS → Prop) (w : wS) : Prop := Q (.inl none) w
theorem zt_X5_kindOf_p76 {E : zE} {L : Nat} {Q : kx_Rs → wS → Prop} {w : wS} (hL : 21 ≤ L) (h : zb_X5_kindOf_p76 E L Q  w) : kzE E L kt_M187 76 [(0, .ref (w_adr E.2.1 4 0))] [] w Q := by
  unfold zb_X5_kindOf_p76 at h
  exact kz_ret (M := kt_M187) kX5_kindOf_c4.2.2.2.2.1 rfl h
def zb_X5_kindOf_p0 (E : zE) (L : Nat) (Q : kx_Rs → wS → Prop) (x1 : Option Nat) (w : wS) : Prop := zw E (L - 21) kt_M183 [.ref (w_adr E.2.1 4 0), .int 6] w (wk1 (fun v2 w1 => wle w w1 → (if ¬ v2 = 0 then (∃ p3, x1 = some p3 ∧ w_l w1 E.2.1 14 p3 ∧ zw E (L - 20) kt_M195 [.ref (w_adr E.2.1 4 0)] (ws_i w1 14 p3 14 1) (wk0 (fun w4 => wle (ws_i w1 14 p3 14 1) w4 → zw E (L - 21) kt_M176 [.ref (w_adr E.2.1 4 0), .int 18] w4 (wk0 (fun w6 => wle w4 w6 → zw E (L - 21) kt_M196 [.ref (w_adr E.2.1 4 0), va_rf (some (E.1.1 13))] w6 (wkr (fun v9 w8 => wle w6 w8 → zw E (L - 20) kt_M186 [.ref (w_adr E.2.1 4 0)] (ws_p w8 14 p3 5 v9) (wk1 (fun v11 w10 => wle (ws_p w8 14 p3 5 v9) w10 → (if v11 = 0 then zw E (L - 21) kt_M193 [.ref (w_adr E.2.1 4 0)] w10 (wk1 (fun v13 w12 => wle w10 w12 → (∃ p14, w_p w10 14 p3 5 = some p14 ∧ w_l w12 E.2.1 14 p14 ∧ zb_X5_kindOf_p76 E L Q (ws_i w12 14 p14 9 v13))) (fun e w => Q (.inr e) w)) else zw E (L - 21) kt_M212 [.ref (w_adr E.2.1 4 0)] w10 (wk1 (fun v16 w15 => wle w10 w15 → (∃ p17, w_p w10 14 p3 5 = some p17 ∧ w_l w15 E.2.1 14 p17 ∧ zb_X5_kindOf_p76 E L Q (ws_i w15 14 p17 8 v16))) (fun e w => Q (.inr e) w)))) (fun e w => Q (.inr e) w))) (fun e w => Q (.inr e) w))) (fun e w => Q (.inr e) w))) (fun e w => Q (.inr e) w))) else zw E (L - 21) kt_M212 [.ref (w_adr E.2.1 4 0)] w1 (wk1 (fun v19 w18 => wle w1 w18 → (∃ p20, x1 = some p20 ∧ w_l w18 E.2.1 14 p20 ∧ Q (.inl none) (ws_i w18 14 p20 8 v19))) (fun e w => Q (.inr e) w)))) (fun e w => Q (.inr e) w))
theorem zt_X5_kindOf_p0 {E : zE} {L : Nat} {Q : kx_Rs → wS → Prop} {x1 : Option Nat} {w : wS} (hL : 21 ≤ L) (h : zb_X5_kindOf_p0 E L Q x1 w) : kzE E L kt_M187 0 [(0, .ref (w_adr E.2.1 4 0)), (1, va_rf (x1))] [] w Q := by
  unfold zb_X5_kindOf_p0 at h
  refine kz_aload_n (M := kt_M187) kX5_kindOf_c0.1 rfl ?_
  refine kz_bi (M := kt_M187) 6 kX5_kindOf_c0.2.1 rfl ?_
  refine kz_cv1 (M := kt_M187) (c := 4) (o := 0) (As := [.int 6]) (rest := []) kX5_kindOf_c0.2.2.1 wl_X5_79 wMv_183 rfl (.inl rfl) rfl (Nat.le_trans (Nat.le_of_ble_eq_true rfl) hL) (Nat.le_of_ble_eq_true rfl) (Nat.le_of_ble_eq_true rfl) h (fun v2 w1 hle h => ?_) (fun _ _ _ h => kzx_no rfl h)
  have h := h hle
  refine kz_if_ne (M := kt_M187) kX5_kindOf_c0.2.2.2.1 (t := 18) rfl h (fun h => ?_) (fun h => ?_)
  · skip
    refine kz_aload_nv (M := kt_M187) (x := x1) kX5_kindOf_c1.2.1 rfl ?_
    refine kz_ic (M := kt_M187) 1 kX5_kindOf_c1.2.2.1 rfl ?_
    obtain ⟨p3, hxp3, hlp3, h⟩ := h
    refine kz_nz1 (x := x1) hxp3 ?_
    refine kz_pfz (M := kt_M187) (c := 14) (o := p3) kX5_kindOf_c1.2.2.2.1 wq_X5_205 (.inr (by exact hlp3)) (by decide) ?_
    refine kz_aload_n (M := kt_M187) kX5_kindOf_c1.2.2.2.2.1 rfl ?_
    refine kz_cv0 (M := kt_M187) (c := 4) (o := 0) (As := []) (rest := []) kX5_kindOf_c1.2.2.2.2.2.1 wl_X5_85 wMv_195 rfl (.inl rfl) rfl (Nat.le_trans (Nat.le_of_ble_eq_true rfl) hL) (Nat.le_of_ble_eq_true rfl) (Nat.le_of_ble_eq_true rfl) h (fun w4 hle h => ?_) (fun _ _ _ h => kzx_no rfl h)
    have h := h hle
    have hlp3 := w_l_le hlp3 hle
    refine kz_aload_n (M := kt_M187) kX5_kindOf_c1.2.2.2.2.2.2.1 rfl ?_
    refine kz_bi (M := kt_M187) 18 kX5_kindOf_c1.2.2.2.2.2.2.2.1 rfl ?_
    refine kz_cv0 (M := kt_M187) (c := 4) (o := 0) (As := [.int 18]) (rest := []) kX5_kindOf_c2.1 wl_X5_100 wMv_176 rfl (.inl rfl) rfl (Nat.le_trans (Nat.le_of_ble_eq_true rfl) hL) (Nat.le_of_ble_eq_true rfl) (Nat.le_of_ble_eq_true rfl) h (fun w6 hle h => ?_) (fun _ _ _ h => kzx_no rfl h)
    have h := h hle
    have hlp3 := w_l_le hlp3 hle
    refine kz_aload_nv (M := kt_M187) (x := x1) kX5_kindOf_c2.2.1 rfl ?_
    refine kz_aload_n (M := kt_M187) kX5_kindOf_c2.2.2.1 rfl ?_
    refine kz_getsE (M := kt_M187) (v := va_rf (some (E.1.1 13))) kX5_kindOf_c2.2.2.2.1 zs_X5_232 ?_
    refine kz_cvr (M := kt_M187) (c := 4) (o := 0) (As := [va_rf (some (E.1.1 13))]) (rest := [va_rf (x1)]) kX5_kindOf_c2.2.2.2.2.1 wl_X5_152 wMv_196 rfl (.inl rfl) rfl (Nat.le_trans (Nat.le_of_ble_eq_true rfl) hL) (by simp [lg_sl, w_cat, z_ci, z_cr, z_cl, z_cn, kt_M196]) (by simp [kx_cat, w_cat, z_ci, z_cr, z_cl, z_cn]) h (fun v9 w8 hle h => ?_) (fun _ _ _ h => kzx_no rfl h)
    have h := h hle
    have hlp3 := w_l_le hlp3 hle
    refine kz_nz1 (x := x1) hxp3 ?_
    refine kz_pfp (M := kt_M187) (n := v9) (c := 14) (o := p3) kX5_kindOf_c2.2.2.2.2.2.1 wq_X5_234 (.inr (by exact hlp3)) ?_
    refine kz_aload_n (M := kt_M187) kX5_kindOf_c2.2.2.2.2.2.2.1 rfl ?_
    refine kz_cv1 (M := kt_M187) (c := 4) (o := 0) (As := []) (rest := []) kX5_kindOf_c2.2.2.2.2.2.2.2.1 wl_X5_95 wMv_186 rfl (.inl rfl) rfl (Nat.le_trans (Nat.le_of_ble_eq_true rfl) hL) (Nat.le_of_ble_eq_true rfl) (Nat.le_of_ble_eq_true rfl) h (fun v11 w10 hle h => ?_) (fun _ _ _ h => kzx_no rfl h)
    have h := h hle
    have hlp3 := w_l_le hlp3 hle
    refine kz_if_eq (M := kt_M187) kX5_kindOf_c3.1 (t := 65) rfl h (fun h => ?_) (fun h => ?_)
    · skip
      refine kz_aload_nv (M := kt_M187) (x := x1) kX5_kindOf_c3.2.2.2.2.2.2.2.1 rfl ?_
      refine kz_nz0 (x := x1) hxp3 ?_
      refine kz_gfp (M := kt_M187) (c := 14) (o := p3) kX5_kindOf_c4.1 wf_X5_234 (.inr (by exact hlp3)) ?_
      refine kz_aload_n (M := kt_M187) kX5_kindOf_c4.2.1 rfl ?_
      refine kz_cv1 (M := kt_M187) (c := 4) (o := 0) (As := []) (rest := [va_rf (w_p w10 14 p3 5)]) kX5_kindOf_c4.2.2.1 wl_X5_237 wMv_193 rfl (.inl rfl) rfl (Nat.le_trans (Nat.le_of_ble_eq_true rfl) hL) (Nat.le_of_ble_eq_true rfl) (by simp [kx_cat, w_cat, z_ci, z_cr, z_cl, z_cn]) h (fun v13 w12 hle h => ?_) (fun _ _ _ h => kzx_no rfl h)
      have h := h hle
      have hlp3 := w_l_le hlp3 hle
      obtain ⟨p14, hxp14, hlp14, h⟩ := h
      refine kz_nz1 (x := w_p w10 14 p3 5) hxp14 ?_
      refine kz_pfi (M := kt_M187) (c := 14) (o := p14) kX5_kindOf_c4.2.2.2.1 wq_X5_240 (.inr (by exact hlp14)) ?_
      exact kz_weak [(0, .ref (w_adr E.2.1 4 0))] ⟨rfl, trivial⟩ rfl (zt_X5_kindOf_p76 hL  h)
    · skip
      refine kz_aload_nv (M := kt_M187) (x := x1) kX5_kindOf_c3.2.1 rfl ?_
      refine kz_nz0 (x := x1) hxp3 ?_
      refine kz_gfp (M := kt_M187) (c := 14) (o := p3) kX5_kindOf_c3.2.2.1 wf_X5_234 (.inr (by exact hlp3)) ?_
      refine kz_aload_n (M := kt_M187) kX5_kindOf_c3.2.2.2.1 rfl ?_
      refine kz_cv1 (M := kt_M187) (c := 4) (o := 0) (As := []) (rest := [va_rf (w_p w10 14 p3 5)]) kX5_kindOf_c3.2.2.2.2.1 wl_X5_174 wMv_212 rfl (.inl rfl) rfl (Nat.le_trans (Nat.le_of_ble_eq_true rfl) hL) (Nat.le_of_ble_eq_true rfl) (by simp [kx_cat, w_cat, z_ci, z_cr, z_cl, z_cn]) h (fun v16 w15 hle h => ?_) (fun _ _ _ h => kzx_no rfl h)
      have h := h hle
      have hlp3 := w_l_le hlp3 hle
      obtain ⟨p17, hxp17, hlp17, h⟩ := h
      refine kz_nz1 (x := w_p w10 14 p3 5) hxp17 ?_
      refine kz_pfi (M := kt_M187) (c := 14) (o := p17) kX5_kindOf_c3.2.2.2.2.2.1 wq_X5_177 (.inr (by exact hlp17)) ?_
      refine kz_goto (M := kt_M187) kX5_kindOf_c3.2.2.2.2.2.2.1 (t := 76) rfl ?_
      exact kz_weak [(0, .ref (w_adr E.2.1 4 0))] ⟨rfl, trivial⟩ rfl (zt_X5_kindOf_p76 hL  h)
  · skip
    refine kz_aload_nv (M := kt_M187) (x := x1) kX5_kindOf_c0.2.2.2.2.1 rfl ?_
    refine kz_aload_n (M := kt_M187) kX5_kindOf_c0.2.2.2.2.2.1 rfl ?_
    refine kz_cv1 (M := kt_M187) (c := 4) (o := 0) (As := []) (rest := [va_rf (x1)]) kX5_kindOf_c0.2.2.2.2.2.2.1 wl_X5_174 wMv_212 rfl (.inl rfl) rfl (Nat.le_trans (Nat.le_of_ble_eq_true rfl) hL) (Nat.le_of_ble_eq_true rfl) (by simp [kx_cat, w_cat, z_ci, z_cr, z_cl, z_cn]) h (fun v19 w18 hle h => ?_) (fun _ _ _ h => kzx_no rfl h)
    have h := h hle
    obtain ⟨p20, hxp20, hlp20, h⟩ := h
    refine kz_nz1 (x := x1) hxp20 ?_
    refine kz_pfi (M := kt_M187) (c := 14) (o := p20) kX5_kindOf_c0.2.2.2.2.2.2.2.1 wq_X5_177 (.inr (by exact hlp20)) ?_
    exact kz_ret (M := kt_M187) kX5_kindOf_c1.1 rfl h
def zb_X5_behind_p9 (E : zE) (L : Nat) (Q : kx_Rs → wS → Prop) (x1 : Option Nat) (w : wS) : Prop := Q (.inl (some (va_rf (x1)))) w
theorem zt_X5_behind_p9 {E : zE} {L : Nat} {Q : kx_Rs → wS → Prop} {x1 : Option Nat} {w : wS} (hL : 19 ≤ L) (h : zb_X5_behind_p9 E L Q x1 w) : kzE E L kt_M166 9 [(1, va_rf (x1))] [] w Q := by
  unfold zb_X5_behind_p9 at h
  refine kz_aload_nv (M := kt_M166) (x := x1) kX5_behind_c0.2.2.2.2.2.1 rfl ?_
  exact kz_areto (x := x1) (M := kt_M166) kX5_behind_c0.2.2.2.2.2.2.1 rfl h
def zb_X5_behind_p0 (E : zE) (L : Nat) (Q : kx_Rs → wS → Prop) (x0 : Option Nat) (x1 : Option Nat) (w : wS) : Prop := (if x0 = none then zb_X5_behind_p9 E L Q x1 w else (∃ p1, x0 = some p1 ∧ w_l w E.2.1 14 p1 ∧ zb_X5_behind_p9 E L Q x1 (ws_p w 14 p1 7 x1)))
theorem zt_X5_behind_p0 {E : zE} {L : Nat} {Q : kx_Rs → wS → Prop} {x0 : Option Nat} {x1 : Option Nat} {w : wS} (hL : 19 ≤ L) (h : zb_X5_behind_p0 E L Q x0 x1 w) : kzE E L kt_M166 0 [(0, va_rf (x0)), (1, va_rf (x1))] [] w Q := by
  unfold zb_X5_behind_p0 at h
  refine kz_aload_nv (M := kt_M166) (x := x0) kX5_behind_c0.1 rfl ?_
  refine kz_ifnull (M := kt_M166) (x := x0) kX5_behind_c0.2.1 (t := 9) rfl h (fun h => ?_) (fun h => ?_)
  · skip
    exact kz_weak [(1, va_rf (x1))] ⟨rfl, trivial⟩ rfl (zt_X5_behind_p9 hL  h)
  · skip
    refine kz_aload_nv (M := kt_M166) (x := x0) kX5_behind_c0.2.2.1 rfl ?_
    refine kz_aload_nv (M := kt_M166) (x := x1) kX5_behind_c0.2.2.2.1 rfl ?_
    obtain ⟨p1, hxp1, hlp1, h⟩ := h
    refine kz_nz1 (x := x0) hxp1 ?_
    refine kz_pfp (M := kt_M166) (n := x1) (c := 14) (o := p1) kX5_behind_c0.2.2.2.2.1 wq_X5_125 (.inr (by exact hlp1)) ?_
    exact kz_weak [(1, va_rf (x1))] ⟨rfl, trivial⟩ rfl (zt_X5_behind_p9 hL  h)
def zb_X5_expression_p105 (E : zE) (L : Nat) (Q : kx_Rs → wS → Prop) (x1 : Option Nat) (w : wS) : Prop := zw E (L - 23) kt_M168 [.ref (w_adr E.2.1 4 0), va_rf (x1)] w (wkr (fun v2 w1 => wle w w1 → Q (.inl (some (va_rf (v2)))) w1) (fun e w => Q (.inr e) w))
theorem zt_X5_expression_p105 {E : zE} {L : Nat} {Q : kx_Rs → wS → Prop} {x1 : Option Nat} {w : wS} (hL : 23 ≤ L) (h : zb_X5_expression_p105 E L Q x1 w) : kzE E L kt_M177 105 [(0, .ref (w_adr E.2.1 4 0)), (1, va_rf (x1))] [] w Q := by
  unfold zb_X5_expression_p105 at h
  refine kz_aload_n (M := kt_M177) kX5_expression_c6.2.2.2.1 rfl ?_
  refine kz_aload_nv (M := kt_M177) (x := x1) kX5_expression_c6.2.2.2.2.1 rfl ?_
  refine kz_cvr (M := kt_M177) (c := 4) (o := 0) (As := [va_rf (x1)]) (rest := []) kX5_expression_c6.2.2.2.2.2.1 wl_X5_416 wMv_168 rfl (.inl rfl) rfl (Nat.le_trans (Nat.le_of_ble_eq_true rfl) hL) (by simp [lg_sl, w_cat, z_ci, z_cr, z_cl, z_cn, kt_M168]) (Nat.le_of_ble_eq_true rfl) h (fun v2 w1 hle h => ?_) (fun _ _ _ h => kzx_no rfl h)
  have h := h hle
  exact kz_areto (x := v2) (M := kt_M177) kX5_expression_c6.2.2.2.2.2.2.1 rfl h
def zb_X5_expression_p45 (E : zE) (L : Nat) (Q : kx_Rs → wS → Prop) (w : wS) : Prop := zw E (L - 21) kt_M196 [.ref (w_adr E.2.1 4 0), va_rf (some (E.1.1 14))] w (wkr (fun v2 w1 => wle w w1 → (kx_inb (w_i w1 4 0 3) (w_n w1 1 0 3) = true ∧ (∃ p3, v2 = some p3 ∧ w_l w1 E.2.1 14 p3 ∧ zw E (L - 20) kt_M195 [.ref (w_adr E.2.1 4 0)] (ws_i w1 14 p3 8 (w_a w1 1 0 3 (w_i w1 4 0 3).toNatClampNeg)) (wk0 (fun w4 => wle (ws_i w1 14 p3 8 (w_a w1 1 0 3 (w_i w1 4 0 3).toNatClampNeg)) w4 → zw E (L - 21) kt_M198 [.ref (w_adr E.2.1 4 0)] w4 (wkr (fun v7 w6 => wle w4 w6 → Q (.inl (some (va_rf (v2)))) (ws_p w6 14 p3 3 v7)) (fun e w => Q (.inr e) w))) (fun e w => Q (.inr e) w))))) (fun e w => Q (.inr e) w))
theorem zt_X5_expression_p45 {E : zE} {L : Nat} {Q : kx_Rs → wS → Prop} {w : wS} (hL : 23 ≤ L) (h : zb_X5_expression_p45 E L Q  w) : kzE E L kt_M177 45 [(0, .ref (w_adr E.2.1 4 0))] [] w Q := by
  unfold zb_X5_expression_p45 at h
  refine kz_aload_n (M := kt_M177) kX5_expression_c2.2.2.2.2.1 rfl ?_
  refine kz_getsE (M := kt_M177) (v := va_rf (some (E.1.1 14))) kX5_expression_c2.2.2.2.2.2.1 zs_X5_410 ?_
  refine kz_cvr (M := kt_M177) (c := 4) (o := 0) (As := [va_rf (some (E.1.1 14))]) (rest := []) kX5_expression_c2.2.2.2.2.2.2.1 wl_X5_152 wMv_196 rfl (.inl rfl) rfl (Nat.le_trans (Nat.le_of_ble_eq_true rfl) hL) (by simp [lg_sl, w_cat, z_ci, z_cr, z_cl, z_cn, kt_M196]) (Nat.le_of_ble_eq_true rfl) h (fun v2 w1 hle h => ?_) (fun _ _ _ h => kzx_no rfl h)
  have h := h hle
  refine kz_stv_n (M := kt_M177) (x := v2) [(0, .ref (w_adr E.2.1 4 0))] kX5_expression_c2.2.2.2.2.2.2.2.1 (Nat.le_of_ble_eq_true rfl) ⟨⟨rfl, rfl, .inr rfl⟩, trivial⟩ rfl ?_
  refine kz_aload_nv (M := kt_M177) (x := v2) kX5_expression_c3.1 rfl ?_
  refine kz_aload_n (M := kt_M177) kX5_expression_c3.2.1 rfl ?_
  refine kz_gfc (M := kt_M177) (x := 4) (c := 4) (o := 0) kX5_expression_c3.2.2.1 wf_X5_9 (.inl rfl) ?_
  refine kz_gfc (M := kt_M177) (x := 1259) (c := 1) (o := 0) kX5_expression_c3.2.2.2.1 wf_X5_67 (.inl rfl) ?_
  refine kz_aload_n (M := kt_M177) kX5_expression_c3.2.2.2.2.1 rfl ?_
  refine kz_gfi (M := kt_M177) (c := 4) (o := 0) kX5_expression_c3.2.2.2.2.2.1 wf_X5_29 (.inl rfl) ?_
  refine kz_iald (M := kt_M177) (c := 1) (o := 0) (k := 3) (a := (E.2.1 1259)) kX5_expression_c3.2.2.2.2.2.2.1 ow_1_0_3 oa_1_0_3 ot_0 h (fun h => ?_)
  obtain ⟨p3, hxp3, hlp3, h⟩ := h
  refine kz_nz1 (x := v2) hxp3 ?_
  refine kz_pfi (M := kt_M177) (c := 14) (o := p3) kX5_expression_c3.2.2.2.2.2.2.2.1 wq_X5_177 (.inr (by exact hlp3)) ?_
  refine kz_aload_n (M := kt_M177) kX5_expression_c4.1 rfl ?_
  refine kz_cv0 (M := kt_M177) (c := 4) (o := 0) (As := []) (rest := []) kX5_expression_c4.2.1 wl_X5_85 wMv_195 rfl (.inl rfl) rfl (Nat.le_trans (Nat.le_of_ble_eq_true rfl) hL) (Nat.le_of_ble_eq_true rfl) (Nat.le_of_ble_eq_true rfl) h (fun w4 hle h => ?_) (fun _ _ _ h => kzx_no rfl h)
  have h := h hle
  have hlp3 := w_l_le hlp3 hle
  refine kz_aload_nv (M := kt_M177) (x := v2) kX5_expression_c4.2.2.1 rfl ?_
  refine kz_aload_n (M := kt_M177) kX5_expression_c4.2.2.2.1 rfl ?_
  refine kz_cvr (M := kt_M177) (c := 4) (o := 0) (As := []) (rest := [va_rf (v2)]) kX5_expression_c4.2.2.2.2.1 wl_X5_413 wMv_198 rfl (.inl rfl) rfl (Nat.le_trans (Nat.le_of_ble_eq_true rfl) hL) (Nat.le_of_ble_eq_true rfl) (by simp [kx_cat, w_cat, z_ci, z_cr, z_cl, z_cn]) h (fun v7 w6 hle h => ?_) (fun _ _ _ h => kzx_no rfl h)
  have h := h hle
  have hlp3 := w_l_le hlp3 hle
  refine kz_nz1 (x := v2) hxp3 ?_
  refine kz_pfp (M := kt_M177) (n := v7) (c := 14) (o := p3) kX5_expression_c4.2.2.2.2.2.1 wq_X5_162 (.inr (by exact hlp3)) ?_
  refine kz_aload_nv (M := kt_M177) (x := v2) kX5_expression_c4.2.2.2.2.2.2.1 rfl ?_
  exact kz_areto (x := v2) (M := kt_M177) kX5_expression_c4.2.2.2.2.2.2.2.1 rfl h
def zb_X5_expression_p0 (E : zE) (L : Nat) (Q : kx_Rs → wS → Prop) (w : wS) : Prop := zw E (L - 21) kt_M183 [.ref (w_adr E.2.1 4 0), .int 54] w (wk1 (fun v2 w1 => wle w w1 → (if ¬ v2 = 0 then zb_X5_expression_p45 E L Q w1 else zw E (L - 21) kt_M183 [.ref (w_adr E.2.1 4 0), .int 63] w1 (wk1 (fun v4 w3 => wle w1 w3 → (if ¬ v4 = 0 then zb_X5_expression_p45 E L Q w3 else zw E (L - 21) kt_M183 [.ref (w_adr E.2.1 4 0), .int 17] w3 (wk1 (fun v6 w5 => wle w3 w5 → (if ¬ v6 = 0 then zb_X5_expression_p45 E L Q w5 else zw E (L - 21) kt_M183 [.ref (w_adr E.2.1 4 0), .int 14] w5 (wk1 (fun v8 w7 => wle w5 w7 → (if ¬ v8 = 0 then zb_X5_expression_p45 E L Q w7 else zw E (L - 21) kt_M183 [.ref (w_adr E.2.1 4 0), .int 27] w7 (wk1 (fun v10 w9 => wle w7 w9 → (if v10 = 0 then zw E (L - 21) kt_M198 [.ref (w_adr E.2.1 4 0)] w9 (wkr (fun v12 w11 => wle w9 w11 → zw E (L - 21) kt_M183 [.ref (w_adr E.2.1 4 0), .int 2] w11 (wk1 (fun v14 w13 => wle w11 w13 → (if ¬ v14 = 0 then zb_X5_expression_p105 E L Q v12 w13 else zw E (L - 21) kt_M183 [.ref (w_adr E.2.1 4 0), .int 19] w13 (wk1 (fun v16 w15 => wle w13 w15 → (if v16 = 0 then zw E (L - 21) kt_M185 [.ref (w_adr E.2.1 4 0)] w15 (wk1 (fun v18 w17 => wle w15 w17 → (if ¬ v18 = 0 then zw E (L - 21) kt_M196 [.ref (w_adr E.2.1 4 0), va_rf (some (E.1.1 24))] w17 (wkr (fun v20 w19 => wle w17 w19 → (kx_inb (w_i w19 4 0 3) (w_n w19 1 0 3) = true ∧ (∃ p21, v20 = some p21 ∧ w_l w19 E.2.1 14 p21 ∧ zw E (L - 20) kt_M195 [.ref (w_adr E.2.1 4 0)] (ws_i w19 14 p21 8 (w_a w19 1 0 3 (w_i w19 4 0 3).toNatClampNeg)) (wk0 (fun w22 => wle (ws_i w19 14 p21 8 (w_a w19 1 0 3 (w_i w19 4 0 3).toNatClampNeg)) w22 → zw E (L - 21) kt_M198 [.ref (w_adr E.2.1 4 0)] (ws_p w22 14 p21 3 v12) (wkr (fun v25 w24 => wle (ws_p w22 14 p21 3 v12) w24 → Q (.inl (some (va_rf (v20)))) (ws_p w24 14 p21 4 v25)) (fun e w => Q (.inr e) w))) (fun e w => Q (.inr e) w))))) (fun e w => Q (.inr e) w)) else Q (.inl (some (va_rf (v12)))) w17)) (fun e w => Q (.inr e) w)) else zb_X5_expression_p105 E L Q v12 w15)) (fun e w => Q (.inr e) w)))) (fun e w => Q (.inr e) w))) (fun e w => Q (.inr e) w)) else zb_X5_expression_p45 E L Q w9)) (fun e w => Q (.inr e) w)))) (fun e w => Q (.inr e) w)))) (fun e w => Q (.inr e) w)))) (fun e w => Q (.inr e) w)))) (fun e w => Q (.inr e) w))
theorem zt_X5_expression_p0 {E : zE} {L : Nat} {Q : kx_Rs → wS → Prop} {w : wS} (hL : 23 ≤ L) (h : zb_X5_expression_p0 E L Q  w) : kzE E L kt_M177 0 [(0, .ref (w_adr E.2.1 4 0))] [] w Q := by
  unfold zb_X5_expression_p0 at h
  refine kz_aload_n (M := kt_M177) kX5_expression_c0.1 rfl ?_
  refine kz_bi (M := kt_M177) 54 kX5_expression_c0.2.1 rfl ?_
  refine kz_cv1 (M := kt_M177) (c := 4) (o := 0) (As := [.int 54]) (rest := []) kX5_expression_c0.2.2.1 wl_X5_79 wMv_183 rfl (.inl rfl) rfl (Nat.le_trans (Nat.le_of_ble_eq_true rfl) hL) (Nat.le_of_ble_eq_true rfl) (Nat.le_of_ble_eq_true rfl) h (fun v2 w1 hle h => ?_) (fun _ _ _ h => kzx_no rfl h)
  have h := h hle
  refine kz_if_ne (M := kt_M177) kX5_expression_c0.2.2.2.1 (t := 45) rfl h (fun h => ?_) (fun h => ?_)
  · skip
    exact kz_weak [(0, .ref (w_adr E.2.1 4 0))] ⟨rfl, trivial⟩ rfl (zt_X5_expression_p45 hL  h)
  · skip
    refine kz_aload_n (M := kt_M177) kX5_expression_c0.2.2.2.2.1 rfl ?_
    refine kz_bi (M := kt_M177) 63 kX5_expression_c0.2.2.2.2.2.1 rfl ?_
    refine kz_cv1 (M := kt_M177) (c := 4) (o := 0) (As := [.int 63]) (rest := []) kX5_expression_c0.2.2.2.2.2.2.1 wl_X5_79 wMv_183 rfl (.inl rfl) rfl (Nat.le_trans (Nat.le_of_ble_eq_true rfl) hL) (Nat.le_of_ble_eq_true rfl) (Nat.le_of_ble_eq_true rfl) h (fun v4 w3 hle h => ?_) (fun _ _ _ h => kzx_no rfl h)
    have h := h hle
    refine kz_if_ne (M := kt_M177) kX5_expression_c0.2.2.2.2.2.2.2.1 (t := 45) rfl h (fun h => ?_) (fun h => ?_)
    · skip
      exact kz_weak [(0, .ref (w_adr E.2.1 4 0))] ⟨rfl, trivial⟩ rfl (zt_X5_expression_p45 hL  h)
    · skip
      refine kz_aload_n (M := kt_M177) kX5_expression_c1.1 rfl ?_
      refine kz_bi (M := kt_M177) 17 kX5_expression_c1.2.1 rfl ?_
      refine kz_cv1 (M := kt_M177) (c := 4) (o := 0) (As := [.int 17]) (rest := []) kX5_expression_c1.2.2.1 wl_X5_79 wMv_183 rfl (.inl rfl) rfl (Nat.le_trans (Nat.le_of_ble_eq_true rfl) hL) (Nat.le_of_ble_eq_true rfl) (Nat.le_of_ble_eq_true rfl) h (fun v6 w5 hle h => ?_) (fun _ _ _ h => kzx_no rfl h)
      have h := h hle
      refine kz_if_ne (M := kt_M177) kX5_expression_c1.2.2.2.1 (t := 45) rfl h (fun h => ?_) (fun h => ?_)
      · skip
        exact kz_weak [(0, .ref (w_adr E.2.1 4 0))] ⟨rfl, trivial⟩ rfl (zt_X5_expression_p45 hL  h)
      · skip
        refine kz_aload_n (M := kt_M177) kX5_expression_c1.2.2.2.2.1 rfl ?_
        refine kz_bi (M := kt_M177) 14 kX5_expression_c1.2.2.2.2.2.1 rfl ?_
        refine kz_cv1 (M := kt_M177) (c := 4) (o := 0) (As := [.int 14]) (rest := []) kX5_expression_c1.2.2.2.2.2.2.1 wl_X5_79 wMv_183 rfl (.inl rfl) rfl (Nat.le_trans (Nat.le_of_ble_eq_true rfl) hL) (Nat.le_of_ble_eq_true rfl) (Nat.le_of_ble_eq_true rfl) h (fun v8 w7 hle h => ?_) (fun _ _ _ h => kzx_no rfl h)
        have h := h hle
        refine kz_if_ne (M := kt_M177) kX5_expression_c1.2.2.2.2.2.2.2.1 (t := 45) rfl h (fun h => ?_) (fun h => ?_)
        · skip
          exact kz_weak [(0, .ref (w_adr E.2.1 4 0))] ⟨rfl, trivial⟩ rfl (zt_X5_expression_p45 hL  h)
        · skip
          refine kz_aload_n (M := kt_M177) kX5_expression_c2.1 rfl ?_
          refine kz_bi (M := kt_M177) 27 kX5_expression_c2.2.1 rfl ?_
          refine kz_cv1 (M := kt_M177) (c := 4) (o := 0) (As := [.int 27]) (rest := []) kX5_expression_c2.2.2.1 wl_X5_79 wMv_183 rfl (.inl rfl) rfl (Nat.le_trans (Nat.le_of_ble_eq_true rfl) hL) (Nat.le_of_ble_eq_true rfl) (Nat.le_of_ble_eq_true rfl) h (fun v10 w9 hle h => ?_) (fun _ _ _ h => kzx_no rfl h)
          have h := h hle
          refine kz_if_eq (M := kt_M177) kX5_expression_c2.2.2.2.1 (t := 83) rfl h (fun h => ?_) (fun h => ?_)
          · skip
            refine kz_aload_n (M := kt_M177) kX5_expression_c5.1 rfl ?_
            refine kz_cvr (M := kt_M177) (c := 4) (o := 0) (As := []) (rest := []) kX5_expression_c5.2.1 wl_X5_413 wMv_198 rfl (.inl rfl) rfl (Nat.le_trans (Nat.le_of_ble_eq_true rfl) hL) (Nat.le_of_ble_eq_true rfl) (Nat.le_of_ble_eq_true rfl) h (fun v12 w11 hle h => ?_) (fun _ _ _ h => kzx_no rfl h)
            have h := h hle
            refine kz_stv_n (M := kt_M177) (x := v12) [(0, .ref (w_adr E.2.1 4 0))] kX5_expression_c5.2.2.1 (Nat.le_of_ble_eq_true rfl) ⟨⟨rfl, rfl, .inr rfl⟩, trivial⟩ rfl ?_
            refine kz_aload_n (M := kt_M177) kX5_expression_c5.2.2.2.1 rfl ?_
            refine kz_ic (M := kt_M177) 2 kX5_expression_c5.2.2.2.2.1 rfl ?_
            refine kz_cv1 (M := kt_M177) (c := 4) (o := 0) (As := [.int 2]) (rest := []) kX5_expression_c5.2.2.2.2.2.1 wl_X5_79 wMv_183 rfl (.inl rfl) rfl (Nat.le_trans (Nat.le_of_ble_eq_true rfl) hL) (Nat.le_of_ble_eq_true rfl) (Nat.le_of_ble_eq_true rfl) h (fun v14 w13 hle h => ?_) (fun _ _ _ h => kzx_no rfl h)
            have h := h hle
            refine kz_if_ne (M := kt_M177) kX5_expression_c5.2.2.2.2.2.2.1 (t := 105) rfl h (fun h => ?_) (fun h => ?_)
            · skip
              exact kz_weak [(0, .ref (w_adr E.2.1 4 0)), (1, va_rf (v12))] ⟨rfl, ⟨rfl, trivial⟩⟩ rfl (zt_X5_expression_p105 hL  h)
            · skip
              refine kz_aload_n (M := kt_M177) kX5_expression_c5.2.2.2.2.2.2.2.1 rfl ?_
              refine kz_bi (M := kt_M177) 19 kX5_expression_c6.1 rfl ?_
              refine kz_cv1 (M := kt_M177) (c := 4) (o := 0) (As := [.int 19]) (rest := []) kX5_expression_c6.2.1 wl_X5_79 wMv_183 rfl (.inl rfl) rfl (Nat.le_trans (Nat.le_of_ble_eq_true rfl) hL) (Nat.le_of_ble_eq_true rfl) (Nat.le_of_ble_eq_true rfl) h (fun v16 w15 hle h => ?_) (fun _ _ _ h => kzx_no rfl h)
              have h := h hle
              refine kz_if_eq (M := kt_M177) kX5_expression_c6.2.2.1 (t := 111) rfl h (fun h => ?_) (fun h => ?_)
              · skip
                refine kz_aload_n (M := kt_M177) kX5_expression_c6.2.2.2.2.2.2.2.1 rfl ?_
                refine kz_cv1 (M := kt_M177) (c := 4) (o := 0) (As := []) (rest := []) kX5_expression_c7.1 wl_X5_420 wMv_185 rfl (.inl rfl) rfl (Nat.le_trans (Nat.le_of_ble_eq_true rfl) hL) (Nat.le_of_ble_eq_true rfl) (Nat.le_of_ble_eq_true rfl) h (fun v18 w17 hle h => ?_) (fun _ _ _ h => kzx_no rfl h)
                have h := h hle
                refine kz_if_ne (M := kt_M177) kX5_expression_c7.2.1 (t := 120) rfl h (fun h => ?_) (fun h => ?_)
                · skip
                  refine kz_aload_n (M := kt_M177) kX5_expression_c7.2.2.2.2.1 rfl ?_
                  refine kz_getsE (M := kt_M177) (v := va_rf (some (E.1.1 24))) kX5_expression_c7.2.2.2.2.2.1 zs_X5_423 ?_
                  refine kz_cvr (M := kt_M177) (c := 4) (o := 0) (As := [va_rf (some (E.1.1 24))]) (rest := []) kX5_expression_c7.2.2.2.2.2.2.1 wl_X5_152 wMv_196 rfl (.inl rfl) rfl (Nat.le_trans (Nat.le_of_ble_eq_true rfl) hL) (by simp [lg_sl, w_cat, z_ci, z_cr, z_cl, z_cn, kt_M196]) (Nat.le_of_ble_eq_true rfl) h (fun v20 w19 hle h => ?_) (fun _ _ _ h => kzx_no rfl h)
                  have h := h hle
                  refine kz_stv_n (M := kt_M177) (x := v20) [(0, .ref (w_adr E.2.1 4 0)), (1, va_rf (v12))] kX5_expression_c7.2.2.2.2.2.2.2.1 (Nat.le_of_ble_eq_true rfl) ⟨⟨rfl, rfl, .inl rfl⟩, ⟨⟨rfl, rfl, .inr (w_cat (v12))⟩, trivial⟩⟩ rfl ?_
                  refine kz_aload_nv (M := kt_M177) (x := v20) kX5_expression_c8.1 rfl ?_
                  refine kz_aload_n (M := kt_M177) kX5_expression_c8.2.1 rfl ?_
                  refine kz_gfc (M := kt_M177) (x := 4) (c := 4) (o := 0) kX5_expression_c8.2.2.1 wf_X5_9 (.inl rfl) ?_
                  refine kz_gfc (M := kt_M177) (x := 1259) (c := 1) (o := 0) kX5_expression_c8.2.2.2.1 wf_X5_67 (.inl rfl) ?_
                  refine kz_aload_n (M := kt_M177) kX5_expression_c8.2.2.2.2.1 rfl ?_
                  refine kz_gfi (M := kt_M177) (c := 4) (o := 0) kX5_expression_c8.2.2.2.2.2.1 wf_X5_29 (.inl rfl) ?_
                  refine kz_iald (M := kt_M177) (c := 1) (o := 0) (k := 3) (a := (E.2.1 1259)) kX5_expression_c8.2.2.2.2.2.2.1 ow_1_0_3 oa_1_0_3 ot_0 h (fun h => ?_)
                  obtain ⟨p21, hxp21, hlp21, h⟩ := h
                  refine kz_nz1 (x := v20) hxp21 ?_
                  refine kz_pfi (M := kt_M177) (c := 14) (o := p21) kX5_expression_c8.2.2.2.2.2.2.2.1 wq_X5_177 (.inr (by exact hlp21)) ?_
                  refine kz_aload_n (M := kt_M177) kX5_expression_c9.1 rfl ?_
                  refine kz_cv0 (M := kt_M177) (c := 4) (o := 0) (As := []) (rest := []) kX5_expression_c9.2.1 wl_X5_85 wMv_195 rfl (.inl rfl) rfl (Nat.le_trans (Nat.le_of_ble_eq_true rfl) hL) (Nat.le_of_ble_eq_true rfl) (Nat.le_of_ble_eq_true rfl) h (fun w22 hle h => ?_) (fun _ _ _ h => kzx_no rfl h)
                  have h := h hle
                  have hlp21 := w_l_le hlp21 hle
                  refine kz_aload_nv (M := kt_M177) (x := v20) kX5_expression_c9.2.2.1 rfl ?_
                  refine kz_aload_nv (M := kt_M177) (x := v12) kX5_expression_c9.2.2.2.1 rfl ?_
                  refine kz_nz1 (x := v20) hxp21 ?_
                  refine kz_pfp (M := kt_M177) (n := v12) (c := 14) (o := p21) kX5_expression_c9.2.2.2.2.1 wq_X5_162 (.inr (by exact hlp21)) ?_
                  refine kz_aload_nv (M := kt_M177) (x := v20) kX5_expression_c9.2.2.2.2.2.1 rfl ?_
                  refine kz_aload_n (M := kt_M177) kX5_expression_c9.2.2.2.2.2.2.1 rfl ?_
                  refine kz_cvr (M := kt_M177) (c := 4) (o := 0) (As := []) (rest := [va_rf (v20)]) kX5_expression_c9.2.2.2.2.2.2.2.1 wl_X5_413 wMv_198 rfl (.inl rfl) rfl (Nat.le_trans (Nat.le_of_ble_eq_true rfl) hL) (Nat.le_of_ble_eq_true rfl) (by simp [kx_cat, w_cat, z_ci, z_cr, z_cl, z_cn]) h (fun v25 w24 hle h => ?_) (fun _ _ _ h => kzx_no rfl h)
                  have h := h hle
                  have hlp21 := w_l_le hlp21 hle
                  refine kz_nz1 (x := v20) hxp21 ?_
                  refine kz_pfp (M := kt_M177) (n := v25) (c := 14) (o := p21) kX5_expression_c10.1 wq_X5_168 (.inr (by exact hlp21)) ?_
                  refine kz_aload_nv (M := kt_M177) (x := v20) kX5_expression_c10.2.1 rfl ?_
                  exact kz_areto (x := v20) (M := kt_M177) kX5_expression_c10.2.2.1 rfl h
                · skip
                  refine kz_aload_nv (M := kt_M177) (x := v12) kX5_expression_c7.2.2.1 rfl ?_
                  exact kz_areto (x := v12) (M := kt_M177) kX5_expression_c7.2.2.2.1 rfl h
              · skip
                exact kz_weak [(0, .ref (w_adr E.2.1 4 0)), (1, va_rf (v12))] ⟨rfl, ⟨rfl, trivial⟩⟩ rfl (zt_X5_expression_p105 hL  h)
          · skip
            exact kz_weak [(0, .ref (w_adr E.2.1 4 0))] ⟨rfl, trivial⟩ rfl (zt_X5_expression_p45 hL  h)
def zb_X5_operand_p112 (E : zE) (L : Nat) (Q : kx_Rs → wS → Prop) (x1 : Option Nat) (y0 : Option Nat) (y1 : Option Nat) (w : wS) : Prop := (∃ p1, y1 = some p1 ∧ w_l w E.2.1 14 p1 ∧ (kx_inb (w_i w 4 0 3) (w_n w 1 0 3) = true ∧ (∃ p2, x1 = some p2 ∧ w_l (ws_p w 14 p1 0 y0) E.2.1 14 p2 ∧ (kx_inb (w_i w 4 0 3) (w_n w 1 0 4) = true ∧ zw E (L - 20) kt_M195 [.ref (w_adr E.2.1 4 0)] (ws_i (ws_i (ws_p w 14 p1 0 y0) 14 p2 10 (w_a w 1 0 3 (w_i w 4 0 3).toNatClampNeg)) 14 p2 18 (w_a w 1 0 4 (w_i w 4 0 3).toNatClampNeg)) (wk0 (fun w3 => wle (ws_i (ws_i (ws_p w 14 p1 0 y0) 14 p2 10 (w_a w 1 0 3 (w_i w 4 0 3).toNatClampNeg)) 14 p2 18 (w_a w 1 0 4 (w_i w 4 0 3).toNatClampNeg)) w3 → Q (.inl (some (va_rf (x1)))) w3) (fun e w => Q (.inr e) w))))))
theorem zt_X5_operand_p112 {E : zE} {L : Nat} {Q : kx_Rs → wS → Prop} {x1 : Option Nat} {y0 : Option Nat} {y1 : Option Nat} {w : wS} (hL : 23 ≤ L) (h : zb_X5_operand_p112 E L Q x1 y0 y1 w) : kzE E L kt_M198 112 [(0, .ref (w_adr E.2.1 4 0)), (1, va_rf (x1))] [va_rf (y0), va_rf (y1)] w Q := by
  unfold zb_X5_operand_p112 at h
  obtain ⟨p1, hxp1, hlp1, h⟩ := h
  refine kz_nz1 (x := y1) hxp1 ?_
  refine kz_pfp (M := kt_M198) (n := y0) (c := 14) (o := p1) kX5_operand_c4.2.2.1 wq_X5_214 (.inr (by exact hlp1)) ?_
  refine kz_aload_nv (M := kt_M198) (x := x1) kX5_operand_c4.2.2.2.1 rfl ?_
  refine kz_aload_n (M := kt_M198) kX5_operand_c4.2.2.2.2.1 rfl ?_
  refine kz_gfc (M := kt_M198) (x := 4) (c := 4) (o := 0) kX5_operand_c4.2.2.2.2.2.1 wf_X5_9 (.inl rfl) ?_
  refine kz_gfc (M := kt_M198) (x := 1259) (c := 1) (o := 0) kX5_operand_c4.2.2.2.2.2.2.1 wf_X5_67 (.inl rfl) ?_
  refine kz_aload_n (M := kt_M198) kX5_operand_c4.2.2.2.2.2.2.2.1 rfl ?_
  refine kz_gfiR (M := kt_M198) (c := 4) (o := 0) (w_i w 4 0 3) kX5_operand_c5.1 wf_X5_29 (.inl rfl) rd_i_p ?_
  refine kz_ialdR (M := kt_M198) (n := w_n w 1 0 3) (c := 1) (o := 0) (k := 3) (a := (E.2.1 1259)) (w_a w 1 0 3 (w_i w 4 0 3).toNatClampNeg) kX5_operand_c5.2.1 ow_1_0_3 oa_1_0_3 ot_0 rd_n_p rd_a_p h (fun h => ?_)
  obtain ⟨p2, hxp2, hlp2, h⟩ := h
  refine kz_nz1 (x := x1) hxp2 ?_
  refine kz_pfi (M := kt_M198) (c := 14) (o := p2) kX5_operand_c5.2.2.1 wq_X5_370 (.inr (by exact hlp2)) ?_
  refine kz_aload_nv (M := kt_M198) (x := x1) kX5_operand_c5.2.2.2.1 rfl ?_
  refine kz_aload_n (M := kt_M198) kX5_operand_c5.2.2.2.2.1 rfl ?_
  refine kz_gfc (M := kt_M198) (x := 4) (c := 4) (o := 0) kX5_operand_c5.2.2.2.2.2.1 wf_X5_9 (.inl rfl) ?_
  refine kz_gfc (M := kt_M198) (x := 1260) (c := 1) (o := 0) kX5_operand_c5.2.2.2.2.2.2.1 wf_X5_438 (.inl rfl) ?_
  refine kz_aload_n (M := kt_M198) kX5_operand_c5.2.2.2.2.2.2.2.1 rfl ?_
  refine kz_gfiR (M := kt_M198) (c := 4) (o := 0) (w_i w 4 0 3) kX5_operand_c6.1 wf_X5_29 (.inl rfl) ((rd_i_i rfl).trans rd_i_p) ?_
  refine kz_ialdR (M := kt_M198) (n := w_n w 1 0 4) (c := 1) (o := 0) (k := 4) (a := (E.2.1 1260)) (w_a w 1 0 4 (w_i w 4 0 3).toNatClampNeg) kX5_operand_c6.2.1 ow_1_0_4 oa_1_0_4 ot_0 (rd_n_i.trans rd_n_p) (rd_a_i.trans rd_a_p) h (fun h => ?_)
  refine kz_nz1 (x := x1) hxp2 ?_
  refine kz_pfi (M := kt_M198) (c := 14) (o := p2) kX5_operand_c6.2.2.1 wq_X5_441 (.inr (by exact hlp2)) ?_
  refine kz_aload_n (M := kt_M198) kX5_operand_c6.2.2.2.1 rfl ?_
  refine kz_cv0 (M := kt_M198) (c := 4) (o := 0) (As := []) (rest := []) kX5_operand_c6.2.2.2.2.1 wl_X5_85 wMv_195 rfl (.inl rfl) rfl (Nat.le_trans (Nat.le_of_ble_eq_true rfl) hL) (Nat.le_of_ble_eq_true rfl) (Nat.le_of_ble_eq_true rfl) h (fun w3 hle h => ?_) (fun _ _ _ h => kzx_no rfl h)
  have h := h hle
  have hlp1 := w_l_le hlp1 hle
  have hlp2 := w_l_le hlp2 hle
  refine kz_aload_nv (M := kt_M198) (x := x1) kX5_operand_c6.2.2.2.2.2.1 rfl ?_
  exact kz_areto (x := x1) (M := kt_M198) kX5_operand_c6.2.2.2.2.2.2.1 rfl h
def zb_X5_operand_p0 (E : zE) (L : Nat) (Q : kx_Rs → wS → Prop) (w : wS) : Prop := zw E (L - 21) kt_M196 [.ref (w_adr E.2.1 4 0), va_rf (some (E.1.1 15))] w (wkr (fun v2 w1 => wle w w1 → (kx_inb (w_i w1 4 0 3) (w_n w1 1 0 2) = true ∧ (∃ i3, zO E "MeetingHouse$Sort" (w_r w1 1 0 2 (w_i w1 4 0 3).toNatClampNeg) i3 ∧ (if (kw_on i3) = 1 then (∃ p4, v2 = some p4 ∧ w_l w1 E.2.1 14 p4 ∧ zw E (L - 21) kt_M193 [.ref (w_adr E.2.1 4 0)] (ws_p w1 14 p4 0 (some (E.1.1 18))) (wk1 (fun v6 w5 => wle (ws_p w1 14 p4 0 (some (E.1.1 18))) w5 → zw E (L - 21) kt_M183 [.ref (w_adr E.2.1 4 0), .int 36] (ws_i w5 14 p4 9 v6) (wk1 (fun v8 w7 => wle (ws_i w5 14 p4 9 v6) w7 → (if ¬ v8 = 0 then zw E (L - 21) kt_M162 [.ref (w_adr E.2.1 4 0)] (ws_p w7 14 p4 0 (some (E.1.1 19))) (wkr (fun v10 w9 => wle (ws_p w7 14 p4 0 (some (E.1.1 19))) w9 → Q (.inl (some (va_rf (v2)))) (ws_p w9 14 p4 4 v10)) (fun e w => Q (.inr e) w)) else zw E (L - 22) kt_M182 [.ref (w_adr E.2.1 4 0), va_rf (v2), .int (w_i w7 14 p4 9)] w7 (wkr (fun v12 w11 => wle w7 w11 → Q (.inl (some (va_rf (v12)))) w11) (fun e w => Q (.inr e) w)))) (fun e w => Q (.inr e) w))) (fun e w => Q (.inr e) w))) else (if (kw_on i3) = 2 then (kx_inb (w_i w1 4 0 3) (w_n w1 1 0 2) = true ∧ (if ¬ w_r w1 1 0 2 (w_i w1 4 0 3).toNatClampNeg = some (E.1.1 2) then (kx_inb (w_i w1 4 0 3) (w_n w1 1 0 2) = true ∧ (if ¬ w_r w1 1 0 2 (w_i w1 4 0 3).toNatClampNeg = some (E.1.1 3) then zb_X5_operand_p112 E L Q v2 (some (E.1.1 17)) v2 w1 else zb_X5_operand_p112 E L Q v2 (some (E.1.1 16)) v2 w1)) else zb_X5_operand_p112 E L Q v2 (some (E.1.1 15)) v2 w1)) else (if (kw_on i3) = 3 then (kx_inb (w_i w1 4 0 3) (w_n w1 1 0 2) = true ∧ (if ¬ w_r w1 1 0 2 (w_i w1 4 0 3).toNatClampNeg = some (E.1.1 2) then (kx_inb (w_i w1 4 0 3) (w_n w1 1 0 2) = true ∧ (if ¬ w_r w1 1 0 2 (w_i w1 4 0 3).toNatClampNeg = some (E.1.1 3) then zb_X5_operand_p112 E L Q v2 (some (E.1.1 17)) v2 w1 else zb_X5_operand_p112 E L Q v2 (some (E.1.1 16)) v2 w1)) else zb_X5_operand_p112 E L Q v2 (some (E.1.1 15)) v2 w1)) else (if (kw_on i3) = 4 then (kx_inb (w_i w1 4 0 3) (w_n w1 1 0 2) = true ∧ (if ¬ w_r w1 1 0 2 (w_i w1 4 0 3).toNatClampNeg = some (E.1.1 2) then (kx_inb (w_i w1 4 0 3) (w_n w1 1 0 2) = true ∧ (if ¬ w_r w1 1 0 2 (w_i w1 4 0 3).toNatClampNeg = some (E.1.1 3) then zb_X5_operand_p112 E L Q v2 (some (E.1.1 17)) v2 w1 else zb_X5_operand_p112 E L Q v2 (some (E.1.1 16)) v2 w1)) else zb_X5_operand_p112 E L Q v2 (some (E.1.1 15)) v2 w1)) else (if (kw_on i3) = 5 then zw E (L - 23) kt_M209 [.ref (w_adr E.2.1 4 0), va_rf (v2)] w1 (wkr (fun v14 w13 => wle w1 w13 → Q (.inl (some (va_rf (v14)))) w13) (fun e w => Q (.inr e) w)) else (if (kw_on i3) = 6 then zw E (L - 23) kt_M209 [.ref (w_adr E.2.1 4 0), va_rf (v2)] w1 (wkr (fun v16 w15 => wle w1 w15 → Q (.inl (some (va_rf (v16)))) w15) (fun e w => Q (.inr e) w)) else zw E (L - 20) kt_M213 [.ref (w_adr E.2.1 4 0)] w1 (wk0 (fun w17 => wle w1 w17 → Q (.inl (some (va_rf (v2)))) w17) (fun e w => Q (.inr e) w))))))))))) (fun e w => Q (.inr e) w))
theorem zt_X5_operand_p0 {E : zE} {L : Nat} {Q : kx_Rs → wS → Prop} {w : wS} (hL : 23 ≤ L) (h : zb_X5_operand_p0 E L Q  w) : kzE E L kt_M198 0 [(0, .ref (w_adr E.2.1 4 0))] [] w Q := by
  unfold zb_X5_operand_p0 at h
  refine kz_aload_n (M := kt_M198) kX5_operand_c0.1 rfl ?_
  refine kz_getsE (M := kt_M198) (v := va_rf (some (E.1.1 15))) kX5_operand_c0.2.1 zs_X5_429 ?_
  refine kz_cvr (M := kt_M198) (c := 4) (o := 0) (As := [va_rf (some (E.1.1 15))]) (rest := []) kX5_operand_c0.2.2.1 wl_X5_152 wMv_196 rfl (.inl rfl) rfl (Nat.le_trans (Nat.le_of_ble_eq_true rfl) hL) (by simp [lg_sl, w_cat, z_ci, z_cr, z_cl, z_cn, kt_M196]) (Nat.le_of_ble_eq_true rfl) h (fun v2 w1 hle h => ?_) (fun _ _ _ h => kzx_no rfl h)
  have h := h hle
  refine kz_stv_n (M := kt_M198) (x := v2) [(0, .ref (w_adr E.2.1 4 0))] kX5_operand_c0.2.2.2.1 (Nat.le_of_ble_eq_true rfl) ⟨⟨rfl, rfl, .inr rfl⟩, trivial⟩ rfl ?_
  refine kz_aload_n (M := kt_M198) kX5_operand_c0.2.2.2.2.1 rfl ?_
  refine kz_gfc (M := kt_M198) (x := 4) (c := 4) (o := 0) kX5_operand_c0.2.2.2.2.2.1 wf_X5_9 (.inl rfl) ?_
  refine kz_gfc (M := kt_M198) (x := 1258) (c := 1) (o := 0) kX5_operand_c0.2.2.2.2.2.2.1 wf_X5_48 (.inl rfl) ?_
  refine kz_aload_n (M := kt_M198) kX5_operand_c0.2.2.2.2.2.2.2.1 rfl ?_
  refine kz_gfi (M := kt_M198) (c := 4) (o := 0) kX5_operand_c1.1 wf_X5_29 (.inl rfl) ?_
  refine kz_aald (M := kt_M198) (τ := 0) (c := 1) (o := 0) (k := 2) (a := (E.2.1 1258)) kX5_operand_c1.2.1 ow_1_0_2 oa_1_0_2 ot_4 rfl h (fun h => ?_)
  obtain ⟨i3, ho, h⟩ := h
  refine kz_ord (M := kt_M198) (x := w_r w1 1 0 2 (w_i w1 4 0 3).toNatClampNeg) (i := i3) (C := "MeetingHouse$Sort") kX5_operand_c1.2.2.1 zo_l_X5 zo_m_X5 zo_s_Sort zo_u_X5 (Nat.le_trans (Nat.le_of_ble_eq_true rfl) hL) (Nat.le_of_ble_eq_true rfl) ho ?_
  refine kz_tsw (M := kt_M198) [(1, 153), (2, 60), (3, 60), (4, 60), (5, 204), (6, 204)] [_, _, _, _, _, _] 210 dX5_operand_p23 (by decide +kernel) h ⟨fun h => ?_, fun h => ?_, fun h => ?_, fun h => ?_, fun h => ?_, fun h => ?_, trivial⟩ (fun h => ?_)
  · skip
    refine kz_aload_nv (M := kt_M198) (x := v2) kX5_operand_c6.2.2.2.2.2.2.2.1 rfl ?_
    refine kz_getsE (M := kt_M198) (v := va_rf (some (E.1.1 18))) kX5_operand_c7.1 zs_X5_364 ?_
    obtain ⟨p4, hxp4, hlp4, h⟩ := h
    refine kz_nz1 (x := v2) hxp4 ?_
    refine kz_pfp (M := kt_M198) (n := some (E.1.1 18)) (c := 14) (o := p4) kX5_operand_c7.2.1 wq_X5_214 (.inr (by exact hlp4)) ?_
    refine kz_aload_nv (M := kt_M198) (x := v2) kX5_operand_c7.2.2.1 rfl ?_
    refine kz_aload_n (M := kt_M198) kX5_operand_c7.2.2.2.1 rfl ?_
    refine kz_cv1 (M := kt_M198) (c := 4) (o := 0) (As := []) (rest := [va_rf (v2)]) kX5_operand_c7.2.2.2.2.1 wl_X5_237 wMv_193 rfl (.inl rfl) rfl (Nat.le_trans (Nat.le_of_ble_eq_true rfl) hL) (Nat.le_of_ble_eq_true rfl) (by simp [kx_cat, w_cat, z_ci, z_cr, z_cl, z_cn]) h (fun v6 w5 hle h => ?_) (fun _ _ _ h => kzx_no rfl h)
    have h := h hle
    have hlp4 := w_l_le hlp4 hle
    refine kz_nz1 (x := v2) hxp4 ?_
    refine kz_pfi (M := kt_M198) (c := 14) (o := p4) kX5_operand_c7.2.2.2.2.2.1 wq_X5_240 (.inr (by exact hlp4)) ?_
    refine kz_aload_n (M := kt_M198) kX5_operand_c7.2.2.2.2.2.2.1 rfl ?_
    refine kz_bi (M := kt_M198) 36 kX5_operand_c7.2.2.2.2.2.2.2.1 rfl ?_
    refine kz_cv1 (M := kt_M198) (c := 4) (o := 0) (As := [.int 36]) (rest := []) kX5_operand_c8.1 wl_X5_79 wMv_183 rfl (.inl rfl) rfl (Nat.le_trans (Nat.le_of_ble_eq_true rfl) hL) (Nat.le_of_ble_eq_true rfl) (Nat.le_of_ble_eq_true rfl) h (fun v8 w7 hle h => ?_) (fun _ _ _ h => kzx_no rfl h)
    have h := h hle
    have hlp4 := w_l_le hlp4 hle
    refine kz_if_ne (M := kt_M198) kX5_operand_c8.2.1 (t := 187) rfl h (fun h => ?_) (fun h => ?_)
    · skip
      refine kz_aload_nv (M := kt_M198) (x := v2) kX5_operand_c9.1 rfl ?_
      refine kz_getsE (M := kt_M198) (v := va_rf (some (E.1.1 19))) kX5_operand_c9.2.1 zs_X5_444 ?_
      refine kz_nz1 (x := v2) hxp4 ?_
      refine kz_pfp (M := kt_M198) (n := some (E.1.1 19)) (c := 14) (o := p4) kX5_operand_c9.2.2.1 wq_X5_214 (.inr (by exact hlp4)) ?_
      refine kz_aload_nv (M := kt_M198) (x := v2) kX5_operand_c9.2.2.2.1 rfl ?_
      refine kz_aload_n (M := kt_M198) kX5_operand_c9.2.2.2.2.1 rfl ?_
      refine kz_cvr (M := kt_M198) (c := 4) (o := 0) (As := []) (rest := [va_rf (v2)]) kX5_operand_c9.2.2.2.2.2.1 wl_X5_385 wMv_162 rfl (.inl rfl) rfl (Nat.le_trans (Nat.le_of_ble_eq_true rfl) hL) (Nat.le_of_ble_eq_true rfl) (by simp [kx_cat, w_cat, z_ci, z_cr, z_cl, z_cn]) h (fun v10 w9 hle h => ?_) (fun _ _ _ h => kzx_no rfl h)
      have h := h hle
      have hlp4 := w_l_le hlp4 hle
      refine kz_nz1 (x := v2) hxp4 ?_
      refine kz_pfp (M := kt_M198) (n := v10) (c := 14) (o := p4) kX5_operand_c9.2.2.2.2.2.2.1 wq_X5_168 (.inr (by exact hlp4)) ?_
      refine kz_aload_nv (M := kt_M198) (x := v2) kX5_operand_c9.2.2.2.2.2.2.2.1 rfl ?_
      exact kz_areto (x := v2) (M := kt_M198) kX5_operand_c10.1 rfl h
    · skip
      refine kz_aload_n (M := kt_M198) kX5_operand_c8.2.2.1 rfl ?_
      refine kz_aload_nv (M := kt_M198) (x := v2) kX5_operand_c8.2.2.2.1 rfl ?_
      refine kz_aload_nv (M := kt_M198) (x := v2) kX5_operand_c8.2.2.2.2.1 rfl ?_
      refine kz_nz0 (x := v2) hxp4 ?_
      refine kz_gfi (M := kt_M198) (c := 14) (o := p4) kX5_operand_c8.2.2.2.2.2.1 wf_X5_240 (.inr (by exact hlp4)) ?_
      refine kz_cvr (M := kt_M198) (c := 4) (o := 0) (As := [va_rf (v2), .int (w_i w7 14 p4 9)]) (rest := []) kX5_operand_c8.2.2.2.2.2.2.1 wl_X5_388 wMv_182 rfl (.inl rfl) rfl (Nat.le_trans (Nat.le_of_ble_eq_true rfl) hL) (by simp [lg_sl, w_cat, z_ci, z_cr, z_cl, z_cn, kt_M182]) (Nat.le_of_ble_eq_true rfl) h (fun v12 w11 hle h => ?_) (fun _ _ _ h => kzx_no rfl h)
      have h := h hle
      have hlp4 := w_l_le hlp4 hle
      exact kz_areto (x := v12) (M := kt_M198) kX5_operand_c8.2.2.2.2.2.2.2.1 rfl h
  · skip
    refine kz_aload_nv (M := kt_M198) (x := v2) kX5_operand_c1.2.2.2.2.1 rfl ?_
    refine kz_aload_n (M := kt_M198) kX5_operand_c1.2.2.2.2.2.1 rfl ?_
    refine kz_gfc (M := kt_M198) (x := 4) (c := 4) (o := 0) kX5_operand_c1.2.2.2.2.2.2.1 wf_X5_9 (.inl rfl) ?_
    refine kz_gfc (M := kt_M198) (x := 1258) (c := 1) (o := 0) kX5_operand_c1.2.2.2.2.2.2.2.1 wf_X5_48 (.inl rfl) ?_
    refine kz_aload_n (M := kt_M198) kX5_operand_c2.1 rfl ?_
    refine kz_gfi (M := kt_M198) (c := 4) (o := 0) kX5_operand_c2.2.1 wf_X5_29 (.inl rfl) ?_
    refine kz_aald (M := kt_M198) (τ := 0) (c := 1) (o := 0) (k := 2) (a := (E.2.1 1258)) kX5_operand_c2.2.2.1 ow_1_0_2 oa_1_0_2 ot_4 rfl h (fun h => ?_)
    refine kz_getsE (M := kt_M198) (v := va_rf (some (E.1.1 2))) kX5_operand_c2.2.2.2.1 zs_X5_116 ?_
    refine kz_acmp_ne (M := kt_M198) (x := w_r w1 1 0 2 (w_i w1 4 0 3).toNatClampNeg) (y := some (E.1.1 2)) kX5_operand_c2.2.2.2.2.1 (t := 85) rfl h (fun h => ?_) (fun h => ?_)
    · skip
      refine kz_aload_n (M := kt_M198) kX5_operand_c2.2.2.2.2.2.2.2.1 rfl ?_
      refine kz_gfc (M := kt_M198) (x := 4) (c := 4) (o := 0) kX5_operand_c3.1 wf_X5_9 (.inl rfl) ?_
      refine kz_gfc (M := kt_M198) (x := 1258) (c := 1) (o := 0) kX5_operand_c3.2.1 wf_X5_48 (.inl rfl) ?_
      refine kz_aload_n (M := kt_M198) kX5_operand_c3.2.2.1 rfl ?_
      refine kz_gfi (M := kt_M198) (c := 4) (o := 0) kX5_operand_c3.2.2.2.1 wf_X5_29 (.inl rfl) ?_
      refine kz_aald (M := kt_M198) (τ := 0) (c := 1) (o := 0) (k := 2) (a := (E.2.1 1258)) kX5_operand_c3.2.2.2.2.1 ow_1_0_2 oa_1_0_2 ot_4 rfl h (fun h => ?_)
      refine kz_getsE (M := kt_M198) (v := va_rf (some (E.1.1 3))) kX5_operand_c3.2.2.2.2.2.1 zs_X5_122 ?_
      refine kz_acmp_ne (M := kt_M198) (x := w_r w1 1 0 2 (w_i w1 4 0 3).toNatClampNeg) (y := some (E.1.1 3)) kX5_operand_c3.2.2.2.2.2.2.1 (t := 109) rfl h (fun h => ?_) (fun h => ?_)
      · skip
        refine kz_getsE (M := kt_M198) (v := va_rf (some (E.1.1 17))) kX5_operand_c4.2.1 zs_X5_436 ?_
        exact kz_weak [(0, .ref (w_adr E.2.1 4 0)), (1, va_rf (v2))] ⟨rfl, ⟨rfl, trivial⟩⟩ rfl (zt_X5_operand_p112 hL  h)
      · skip
        refine kz_getsE (M := kt_M198) (v := va_rf (some (E.1.1 16))) kX5_operand_c3.2.2.2.2.2.2.2.1 zs_X5_434 ?_
        refine kz_goto (M := kt_M198) kX5_operand_c4.1 (t := 112) rfl ?_
        exact kz_weak [(0, .ref (w_adr E.2.1 4 0)), (1, va_rf (v2))] ⟨rfl, ⟨rfl, trivial⟩⟩ rfl (zt_X5_operand_p112 hL  h)
    · skip
      refine kz_getsE (M := kt_M198) (v := va_rf (some (E.1.1 15))) kX5_operand_c2.2.2.2.2.2.1 zs_X5_429 ?_
      refine kz_goto (M := kt_M198) kX5_operand_c2.2.2.2.2.2.2.1 (t := 112) rfl ?_
      exact kz_weak [(0, .ref (w_adr E.2.1 4 0)), (1, va_rf (v2))] ⟨rfl, ⟨rfl, trivial⟩⟩ rfl (zt_X5_operand_p112 hL  h)
  · skip
    refine kz_aload_nv (M := kt_M198) (x := v2) kX5_operand_c1.2.2.2.2.1 rfl ?_
    refine kz_aload_n (M := kt_M198) kX5_operand_c1.2.2.2.2.2.1 rfl ?_
    refine kz_gfc (M := kt_M198) (x := 4) (c := 4) (o := 0) kX5_operand_c1.2.2.2.2.2.2.1 wf_X5_9 (.inl rfl) ?_
    refine kz_gfc (M := kt_M198) (x := 1258) (c := 1) (o := 0) kX5_operand_c1.2.2.2.2.2.2.2.1 wf_X5_48 (.inl rfl) ?_
    refine kz_aload_n (M := kt_M198) kX5_operand_c2.1 rfl ?_
    refine kz_gfi (M := kt_M198) (c := 4) (o := 0) kX5_operand_c2.2.1 wf_X5_29 (.inl rfl) ?_
    refine kz_aald (M := kt_M198) (τ := 0) (c := 1) (o := 0) (k := 2) (a := (E.2.1 1258)) kX5_operand_c2.2.2.1 ow_1_0_2 oa_1_0_2 ot_4 rfl h (fun h => ?_)
    refine kz_getsE (M := kt_M198) (v := va_rf (some (E.1.1 2))) kX5_operand_c2.2.2.2.1 zs_X5_116 ?_
    refine kz_acmp_ne (M := kt_M198) (x := w_r w1 1 0 2 (w_i w1 4 0 3).toNatClampNeg) (y := some (E.1.1 2)) kX5_operand_c2.2.2.2.2.1 (t := 85) rfl h (fun h => ?_) (fun h => ?_)
    · skip
      refine kz_aload_n (M := kt_M198) kX5_operand_c2.2.2.2.2.2.2.2.1 rfl ?_
      refine kz_gfc (M := kt_M198) (x := 4) (c := 4) (o := 0) kX5_operand_c3.1 wf_X5_9 (.inl rfl) ?_
      refine kz_gfc (M := kt_M198) (x := 1258) (c := 1) (o := 0) kX5_operand_c3.2.1 wf_X5_48 (.inl rfl) ?_
      refine kz_aload_n (M := kt_M198) kX5_operand_c3.2.2.1 rfl ?_
      refine kz_gfi (M := kt_M198) (c := 4) (o := 0) kX5_operand_c3.2.2.2.1 wf_X5_29 (.inl rfl) ?_
      refine kz_aald (M := kt_M198) (τ := 0) (c := 1) (o := 0) (k := 2) (a := (E.2.1 1258)) kX5_operand_c3.2.2.2.2.1 ow_1_0_2 oa_1_0_2 ot_4 rfl h (fun h => ?_)
      refine kz_getsE (M := kt_M198) (v := va_rf (some (E.1.1 3))) kX5_operand_c3.2.2.2.2.2.1 zs_X5_122 ?_
      refine kz_acmp_ne (M := kt_M198) (x := w_r w1 1 0 2 (w_i w1 4 0 3).toNatClampNeg) (y := some (E.1.1 3)) kX5_operand_c3.2.2.2.2.2.2.1 (t := 109) rfl h (fun h => ?_) (fun h => ?_)
      · skip
        refine kz_getsE (M := kt_M198) (v := va_rf (some (E.1.1 17))) kX5_operand_c4.2.1 zs_X5_436 ?_
        exact kz_weak [(0, .ref (w_adr E.2.1 4 0)), (1, va_rf (v2))] ⟨rfl, ⟨rfl, trivial⟩⟩ rfl (zt_X5_operand_p112 hL  h)
      · skip
        refine kz_getsE (M := kt_M198) (v := va_rf (some (E.1.1 16))) kX5_operand_c3.2.2.2.2.2.2.2.1 zs_X5_434 ?_
        refine kz_goto (M := kt_M198) kX5_operand_c4.1 (t := 112) rfl ?_
        exact kz_weak [(0, .ref (w_adr E.2.1 4 0)), (1, va_rf (v2))] ⟨rfl, ⟨rfl, trivial⟩⟩ rfl (zt_X5_operand_p112 hL  h)
    · skip
      refine kz_getsE (M := kt_M198) (v := va_rf (some (E.1.1 15))) kX5_operand_c2.2.2.2.2.2.1 zs_X5_429 ?_
      refine kz_goto (M := kt_M198) kX5_operand_c2.2.2.2.2.2.2.1 (t := 112) rfl ?_
      exact kz_weak [(0, .ref (w_adr E.2.1 4 0)), (1, va_rf (v2))] ⟨rfl, ⟨rfl, trivial⟩⟩ rfl (zt_X5_operand_p112 hL  h)
  · skip
    refine kz_aload_nv (M := kt_M198) (x := v2) kX5_operand_c1.2.2.2.2.1 rfl ?_
    refine kz_aload_n (M := kt_M198) kX5_operand_c1.2.2.2.2.2.1 rfl ?_
    refine kz_gfc (M := kt_M198) (x := 4) (c := 4) (o := 0) kX5_operand_c1.2.2.2.2.2.2.1 wf_X5_9 (.inl rfl) ?_
    refine kz_gfc (M := kt_M198) (x := 1258) (c := 1) (o := 0) kX5_operand_c1.2.2.2.2.2.2.2.1 wf_X5_48 (.inl rfl) ?_
    refine kz_aload_n (M := kt_M198) kX5_operand_c2.1 rfl ?_
    refine kz_gfi (M := kt_M198) (c := 4) (o := 0) kX5_operand_c2.2.1 wf_X5_29 (.inl rfl) ?_
    refine kz_aald (M := kt_M198) (τ := 0) (c := 1) (o := 0) (k := 2) (a := (E.2.1 1258)) kX5_operand_c2.2.2.1 ow_1_0_2 oa_1_0_2 ot_4 rfl h (fun h => ?_)
    refine kz_getsE (M := kt_M198) (v := va_rf (some (E.1.1 2))) kX5_operand_c2.2.2.2.1 zs_X5_116 ?_
    refine kz_acmp_ne (M := kt_M198) (x := w_r w1 1 0 2 (w_i w1 4 0 3).toNatClampNeg) (y := some (E.1.1 2)) kX5_operand_c2.2.2.2.2.1 (t := 85) rfl h (fun h => ?_) (fun h => ?_)
    · skip
      refine kz_aload_n (M := kt_M198) kX5_operand_c2.2.2.2.2.2.2.2.1 rfl ?_
      refine kz_gfc (M := kt_M198) (x := 4) (c := 4) (o := 0) kX5_operand_c3.1 wf_X5_9 (.inl rfl) ?_
      refine kz_gfc (M := kt_M198) (x := 1258) (c := 1) (o := 0) kX5_operand_c3.2.1 wf_X5_48 (.inl rfl) ?_
      refine kz_aload_n (M := kt_M198) kX5_operand_c3.2.2.1 rfl ?_
      refine kz_gfi (M := kt_M198) (c := 4) (o := 0) kX5_operand_c3.2.2.2.1 wf_X5_29 (.inl rfl) ?_
      refine kz_aald (M := kt_M198) (τ := 0) (c := 1) (o := 0) (k := 2) (a := (E.2.1 1258)) kX5_operand_c3.2.2.2.2.1 ow_1_0_2 oa_1_0_2 ot_4 rfl h (fun h => ?_)
      refine kz_getsE (M := kt_M198) (v := va_rf (some (E.1.1 3))) kX5_operand_c3.2.2.2.2.2.1 zs_X5_122 ?_
      refine kz_acmp_ne (M := kt_M198) (x := w_r w1 1 0 2 (w_i w1 4 0 3).toNatClampNeg) (y := some (E.1.1 3)) kX5_operand_c3.2.2.2.2.2.2.1 (t := 109) rfl h (fun h => ?_) (fun h => ?_)
      · skip
        refine kz_getsE (M := kt_M198) (v := va_rf (some (E.1.1 17))) kX5_operand_c4.2.1 zs_X5_436 ?_
        exact kz_weak [(0, .ref (w_adr E.2.1 4 0)), (1, va_rf (v2))] ⟨rfl, ⟨rfl, trivial⟩⟩ rfl (zt_X5_operand_p112 hL  h)
      · skip
        refine kz_getsE (M := kt_M198) (v := va_rf (some (E.1.1 16))) kX5_operand_c3.2.2.2.2.2.2.2.1 zs_X5_434 ?_
        refine kz_goto (M := kt_M198) kX5_operand_c4.1 (t := 112) rfl ?_
        exact kz_weak [(0, .ref (w_adr E.2.1 4 0)), (1, va_rf (v2))] ⟨rfl, ⟨rfl, trivial⟩⟩ rfl (zt_X5_operand_p112 hL  h)
    · skip
      refine kz_getsE (M := kt_M198) (v := va_rf (some (E.1.1 15))) kX5_operand_c2.2.2.2.2.2.1 zs_X5_429 ?_
      refine kz_goto (M := kt_M198) kX5_operand_c2.2.2.2.2.2.2.1 (t := 112) rfl ?_
      exact kz_weak [(0, .ref (w_adr E.2.1 4 0)), (1, va_rf (v2))] ⟨rfl, ⟨rfl, trivial⟩⟩ rfl (zt_X5_operand_p112 hL  h)
  · skip
    refine kz_aload_n (M := kt_M198) kX5_operand_c10.2.1 rfl ?_
    refine kz_aload_nv (M := kt_M198) (x := v2) kX5_operand_c10.2.2.1 rfl ?_
    refine kz_cvr (M := kt_M198) (c := 4) (o := 0) (As := [va_rf (v2)]) (rest := []) kX5_operand_c10.2.2.2.1 wl_X5_447 wMv_209 rfl (.inl rfl) rfl (Nat.le_trans (Nat.le_of_ble_eq_true rfl) hL) (by simp [lg_sl, w_cat, z_ci, z_cr, z_cl, z_cn, kt_M209]) (Nat.le_of_ble_eq_true rfl) h (fun v14 w13 hle h => ?_) (fun _ _ _ h => kzx_no rfl h)
    have h := h hle
    exact kz_areto (x := v14) (M := kt_M198) kX5_operand_c10.2.2.2.2.1 rfl h
  · skip
    refine kz_aload_n (M := kt_M198) kX5_operand_c10.2.1 rfl ?_
    refine kz_aload_nv (M := kt_M198) (x := v2) kX5_operand_c10.2.2.1 rfl ?_
    refine kz_cvr (M := kt_M198) (c := 4) (o := 0) (As := [va_rf (v2)]) (rest := []) kX5_operand_c10.2.2.2.1 wl_X5_447 wMv_209 rfl (.inl rfl) rfl (Nat.le_trans (Nat.le_of_ble_eq_true rfl) hL) (by simp [lg_sl, w_cat, z_ci, z_cr, z_cl, z_cn, kt_M209]) (Nat.le_of_ble_eq_true rfl) h (fun v16 w15 hle h => ?_) (fun _ _ _ h => kzx_no rfl h)
    have h := h hle
    exact kz_areto (x := v16) (M := kt_M198) kX5_operand_c10.2.2.2.2.1 rfl h
  · skip
    refine kz_aload_n (M := kt_M198) kX5_operand_c10.2.2.2.2.2.1 rfl ?_
    refine kz_cv0 (M := kt_M198) (c := 4) (o := 0) (As := []) (rest := []) kX5_operand_c10.2.2.2.2.2.2.1 wl_X5_82 wMv_213 rfl (.inl rfl) rfl (Nat.le_trans (Nat.le_of_ble_eq_true rfl) hL) (Nat.le_of_ble_eq_true rfl) (Nat.le_of_ble_eq_true rfl) h (fun w17 hle h => ?_) (fun _ _ _ h => kzx_no rfl h)
    have h := h hle
    refine kz_aload_nv (M := kt_M198) (x := v2) kX5_operand_c10.2.2.2.2.2.2.2.1 rfl ?_
    exact kz_areto (x := v2) (M := kt_M198) kX5_operand_c11.1 rfl h
def zb_X5_indexed_p0 (E : zE) (L : Nat) (Q : kx_Rs → wS → Prop) (x1 : Option Nat) (x2 : Int32) (w : wS) : Prop := (∃ p1, x1 = some p1 ∧ w_l w E.2.1 14 p1 ∧ zw E (L - 21) kt_M183 [.ref (w_adr E.2.1 4 0), .int 38] (ws_i w 14 p1 9 x2) (wk1 (fun v3 w2 => wle (ws_i w 14 p1 9 x2) w2 → (if ¬ v3 = 0 then zw E (L - 20) kt_M175 [.ref (w_adr E.2.1 4 0)] w2 (wk0 (fun w4 => wle w2 w4 → zw E (L - 22) kt_M177 [.ref (w_adr E.2.1 4 0)] w4 (wkr (fun v7 w6 => wle w4 w6 → zw E (L - 21) kt_M188 [.ref (w_adr E.2.1 4 0), .int 39] (ws_p w6 14 p1 3 v7) (wk0 (fun w8 => wle (ws_p w6 14 p1 3 v7) w8 → Q (.inl (some (va_rf (x1)))) w8) (fun e w => Q (.inr e) w))) (fun e w => Q (.inr e) w))) (fun e w => Q (.inr e) w)) else Q (.inl (some (va_rf (x1)))) w2)) (fun e w => Q (.inr e) w)))
theorem zt_X5_indexed_p0 {E : zE} {L : Nat} {Q : kx_Rs → wS → Prop} {x1 : Option Nat} {x2 : Int32} {w : wS} (hL : 22 ≤ L) (h : zb_X5_indexed_p0 E L Q x1 x2 w) : kzE E L kt_M182 0 [(0, .ref (w_adr E.2.1 4 0)), (1, va_rf (x1)), (2, .int x2)] [] w Q := by
  unfold zb_X5_indexed_p0 at h
  refine kz_aload_nv (M := kt_M182) (x := x1) kX5_indexed_c0.1 rfl ?_
  refine kz_iload_n (M := kt_M182) kX5_indexed_c0.2.1 rfl ?_
  obtain ⟨p1, hxp1, hlp1, h⟩ := h
  refine kz_nz1 (x := x1) hxp1 ?_
  refine kz_pfi (M := kt_M182) (c := 14) (o := p1) kX5_indexed_c0.2.2.1 wq_X5_240 (.inr (by exact hlp1)) ?_
  refine kz_aload_n (M := kt_M182) kX5_indexed_c0.2.2.2.1 rfl ?_
  refine kz_bi (M := kt_M182) 38 kX5_indexed_c0.2.2.2.2.1 rfl ?_
  refine kz_cv1 (M := kt_M182) (c := 4) (o := 0) (As := [.int 38]) (rest := []) kX5_indexed_c0.2.2.2.2.2.1 wl_X5_79 wMv_183 rfl (.inl rfl) rfl (Nat.le_trans (Nat.le_of_ble_eq_true rfl) hL) (Nat.le_of_ble_eq_true rfl) (Nat.le_of_ble_eq_true rfl) h (fun v3 w2 hle h => ?_) (fun _ _ _ h => kzx_no rfl h)
  have h := h hle
  have hlp1 := w_l_le hlp1 hle
  refine kz_if_ne (M := kt_M182) kX5_indexed_c0.2.2.2.2.2.2.1 (t := 16) rfl h (fun h => ?_) (fun h => ?_)
  · skip
    refine kz_aload_n (M := kt_M182) kX5_indexed_c1.2.1 rfl ?_
    refine kz_cv0 (M := kt_M182) (c := 4) (o := 0) (As := []) (rest := []) kX5_indexed_c1.2.2.1 wl_X5_188 wMv_175 rfl (.inl rfl) rfl (Nat.le_trans (Nat.le_of_ble_eq_true rfl) hL) (Nat.le_of_ble_eq_true rfl) (Nat.le_of_ble_eq_true rfl) h (fun w4 hle h => ?_) (fun _ _ _ h => kzx_no rfl h)
    have h := h hle
    have hlp1 := w_l_le hlp1 hle
    refine kz_aload_nv (M := kt_M182) (x := x1) kX5_indexed_c1.2.2.2.1 rfl ?_
    refine kz_aload_n (M := kt_M182) kX5_indexed_c1.2.2.2.2.1 rfl ?_
    refine kz_cvr (M := kt_M182) (c := 4) (o := 0) (As := []) (rest := [va_rf (x1)]) kX5_indexed_c1.2.2.2.2.2.1 wl_X5_194 wMv_177 rfl (.inl rfl) rfl (Nat.le_trans (Nat.le_of_ble_eq_true rfl) hL) (Nat.le_of_ble_eq_true rfl) (by simp [kx_cat, w_cat, z_ci, z_cr, z_cl, z_cn]) h (fun v7 w6 hle h => ?_) (fun _ _ _ h => kzx_no rfl h)
    have h := h hle
    have hlp1 := w_l_le hlp1 hle
    refine kz_nz1 (x := x1) hxp1 ?_
    refine kz_pfp (M := kt_M182) (n := v7) (c := 14) (o := p1) kX5_indexed_c1.2.2.2.2.2.2.1 wq_X5_162 (.inr (by exact hlp1)) ?_
    refine kz_aload_n (M := kt_M182) kX5_indexed_c1.2.2.2.2.2.2.2.1 rfl ?_
    refine kz_bi (M := kt_M182) 39 kX5_indexed_c2.1 rfl ?_
    refine kz_cv0 (M := kt_M182) (c := 4) (o := 0) (As := [.int 39]) (rest := []) kX5_indexed_c2.2.1 wl_X5_198 wMv_188 rfl (.inl rfl) rfl (Nat.le_trans (Nat.le_of_ble_eq_true rfl) hL) (Nat.le_of_ble_eq_true rfl) (Nat.le_of_ble_eq_true rfl) h (fun w8 hle h => ?_) (fun _ _ _ h => kzx_no rfl h)
    have h := h hle
    have hlp1 := w_l_le hlp1 hle
    refine kz_aload_nv (M := kt_M182) (x := x1) kX5_indexed_c2.2.2.1 rfl ?_
    exact kz_areto (x := x1) (M := kt_M182) kX5_indexed_c2.2.2.2.1 rfl h
  · skip
    refine kz_aload_nv (M := kt_M182) (x := x1) kX5_indexed_c0.2.2.2.2.2.2.2.1 rfl ?_
    exact kz_areto (x := x1) (M := kt_M182) kX5_indexed_c1.1 rfl h
def zb_X5_arguments_p21 (E : zE) (L : Nat) (Q : kx_Rs → wS → Prop) (y0 : Option Nat) (w : wS) : Prop := zw E (L - 21) kt_M188 [.ref (w_adr E.2.1 4 0), .int 37] w (wk0 (fun w1 => wle w w1 → Q (.inl (some (va_rf (y0)))) w1) (fun e w => Q (.inr e) w))
theorem zt_X5_arguments_p21 {E : zE} {L : Nat} {Q : kx_Rs → wS → Prop} {y0 : Option Nat} {w : wS} (hL : 21 ≤ L) (h : zb_X5_arguments_p21 E L Q y0 w) : kzE E L kt_M162 21 [(0, .ref (w_adr E.2.1 4 0))] [va_rf (y0)] w Q := by
  unfold zb_X5_arguments_p21 at h
  refine kz_stv_n (M := kt_M162) (x := y0) [(0, .ref (w_adr E.2.1 4 0))] kX5_arguments_c1.2.2.1 (Nat.le_of_ble_eq_true rfl) ⟨⟨rfl, rfl, .inr rfl⟩, trivial⟩ rfl ?_
  refine kz_aload_n (M := kt_M162) kX5_arguments_c1.2.2.2.1 rfl ?_
  refine kz_bi (M := kt_M162) 37 kX5_arguments_c1.2.2.2.2.1 rfl ?_
  refine kz_cv0 (M := kt_M162) (c := 4) (o := 0) (As := [.int 37]) (rest := []) kX5_arguments_c1.2.2.2.2.2.1 wl_X5_198 wMv_188 rfl (.inl rfl) rfl (Nat.le_trans (Nat.le_of_ble_eq_true rfl) hL) (Nat.le_of_ble_eq_true rfl) (Nat.le_of_ble_eq_true rfl) h (fun w1 hle h => ?_) (fun _ _ _ h => kzx_no rfl h)
  have h := h hle
  refine kz_aload_nv (M := kt_M162) (x := y0) kX5_arguments_c1.2.2.2.2.2.2.1 rfl ?_
  exact kz_areto (x := y0) (M := kt_M162) kX5_arguments_c1.2.2.2.2.2.2.2.1 rfl h
def zb_X5_arguments_p0 (E : zE) (L : Nat) (Q : kx_Rs → wS → Prop) (w : wS) : Prop := zw E (L - 20) kt_M175 [.ref (w_adr E.2.1 4 0)] w (wk0 (fun w1 => wle w w1 → zw E (L - 21) kt_M183 [.ref (w_adr E.2.1 4 0), .int 37] w1 (wk1 (fun v4 w3 => wle w1 w3 → (if v4 = 0 then zw E (L - 20) kt_M178 [.ref (w_adr E.2.1 4 0)] w3 (wkr (fun v6 w5 => wle w3 w5 → zb_X5_arguments_p21 E L Q v6 w5) (fun e w => Q (.inr e) w)) else zb_X5_arguments_p21 E L Q none w3)) (fun e w => Q (.inr e) w))) (fun e w => Q (.inr e) w))
theorem zt_X5_arguments_p0 {E : zE} {L : Nat} {Q : kx_Rs → wS → Prop} {w : wS} (hL : 21 ≤ L) (h : zb_X5_arguments_p0 E L Q  w) : kzE E L kt_M162 0 [(0, .ref (w_adr E.2.1 4 0))] [] w Q := by
  unfold zb_X5_arguments_p0 at h
  refine kz_aload_n (M := kt_M162) kX5_arguments_c0.1 rfl ?_
  refine kz_cv0 (M := kt_M162) (c := 4) (o := 0) (As := []) (rest := []) kX5_arguments_c0.2.1 wl_X5_188 wMv_175 rfl (.inl rfl) rfl (Nat.le_trans (Nat.le_of_ble_eq_true rfl) hL) (Nat.le_of_ble_eq_true rfl) (Nat.le_of_ble_eq_true rfl) h (fun w1 hle h => ?_) (fun _ _ _ h => kzx_no rfl h)
  have h := h hle
  refine kz_aload_n (M := kt_M162) kX5_arguments_c0.2.2.1 rfl ?_
  refine kz_bi (M := kt_M162) 37 kX5_arguments_c0.2.2.2.1 rfl ?_
  refine kz_cv1 (M := kt_M162) (c := 4) (o := 0) (As := [.int 37]) (rest := []) kX5_arguments_c0.2.2.2.2.1 wl_X5_79 wMv_183 rfl (.inl rfl) rfl (Nat.le_trans (Nat.le_of_ble_eq_true rfl) hL) (Nat.le_of_ble_eq_true rfl) (Nat.le_of_ble_eq_true rfl) h (fun v4 w3 hle h => ?_) (fun _ _ _ h => kzx_no rfl h)
  have h := h hle
  refine kz_if_eq (M := kt_M162) kX5_arguments_c0.2.2.2.2.2.1 (t := 17) rfl h (fun h => ?_) (fun h => ?_)
  · skip
    refine kz_aload_n (M := kt_M162) kX5_arguments_c1.1 rfl ?_
    refine kz_cvr (M := kt_M162) (c := 4) (o := 0) (As := []) (rest := []) kX5_arguments_c1.2.1 wl_X5_352 wMv_178 rfl (.inl rfl) rfl (Nat.le_trans (Nat.le_of_ble_eq_true rfl) hL) (Nat.le_of_ble_eq_true rfl) (Nat.le_of_ble_eq_true rfl) h (fun v6 w5 hle h => ?_) (fun _ _ _ h => kzx_no rfl h)
    have h := h hle
    exact kz_weak [(0, .ref (w_adr E.2.1 4 0))] ⟨rfl, trivial⟩ rfl (zt_X5_arguments_p21 hL  h)
  · skip
    refine kz_null (M := kt_M162) kX5_arguments_c0.2.2.2.2.2.2.1 ?_
    refine kz_goto (M := kt_M162) kX5_arguments_c0.2.2.2.2.2.2.2.1 (t := 21) rfl ?_
    exact kz_weak [(0, .ref (w_adr E.2.1 4 0))] ⟨rfl, trivial⟩ rfl (zt_X5_arguments_p21 hL  h)
def zb_X5_expressions_p0 (E : zE) (L : Nat) (Q : kx_Rs → wS → Prop) (w : wS) : Prop := zw E (L - 25) kt_M208 [.ref (w_adr E.2.1 4 0), .int 40, .int 6000] w (wkr (fun v2 w1 => wle w w1 → Q (.inl (some (va_rf (v2)))) w1) (fun e w => Q (.inr e) w))
theorem zt_X5_expressions_p0 {E : zE} {L : Nat} {Q : kx_Rs → wS → Prop} {w : wS} (hL : 25 ≤ L) (h : zb_X5_expressions_p0 E L Q  w) : kzE E L kt_M178 0 [(0, .ref (w_adr E.2.1 4 0))] [] w Q := by
  unfold zb_X5_expressions_p0 at h
  refine kz_aload_n (M := kt_M178) kX5_expressions_c0.1 rfl ?_
  refine kz_bi (M := kt_M178) 40 kX5_expressions_c0.2.1 rfl ?_
  refine kz_si (M := kt_M178) 6000 kX5_expressions_c0.2.2.1 rfl ?_
  refine kz_cvr (M := kt_M178) (c := 4) (o := 0) (As := [.int 40, .int 6000]) (rest := []) kX5_expressions_c0.2.2.2.1 wl_X5_397 wMv_208 rfl (.inl rfl) rfl (Nat.le_trans (Nat.le_of_ble_eq_true rfl) hL) (Nat.le_of_ble_eq_true rfl) (Nat.le_of_ble_eq_true rfl) h (fun v2 w1 hle h => ?_) (fun _ _ _ h => kzx_no rfl h)
  have h := h hle
  exact kz_areto (x := v2) (M := kt_M178) kX5_expressions_c0.2.2.2.2.1 rfl h
def zL_X5_row_p11 (E : zE) (L : Nat) (Q : kx_Rs → wS → Prop) (x1 : Int32) (x2 : Int32) (x3 : Option Nat) (x4 : Option Nat) (x5 : Int32) (w : wS) : Prop := kzE E L kt_M208 11 [(0, .ref (w_adr E.2.1 4 0)), (1, .int x1), (2, .int x2), (3, va_rf (x3)), (4, va_rf (x4)), (5, .int x5)] [] w Q
def zb_X5_row_p33 (E : zE) (L : Nat) (Q : kx_Rs → wS → Prop) (x1 : Int32) (x2 : Int32) (x3 : Option Nat) (x4 : Option Nat) (x5 : Int32) (w : wS) : Prop := zw E (L - 22) kt_M177 [.ref (w_adr E.2.1 4 0)] w (wkr (fun v2 w1 => wle w w1 → zw E (L - 21) kt_M166 [va_rf (x4), va_rf (v2)] w1 (wkr (fun v4 w3 => wle w1 w3 → zL_X5_row_p11 E L Q x1 x2 x3 v4 (x5 + 1) w3) (fun e w => Q (.inr e) w))) (fun e w => Q (.inr e) w))
theorem zt_X5_row_p33 {E : zE} {L : Nat} {Q : kx_Rs → wS → Prop} {x1 : Int32} {x2 : Int32} {x3 : Option Nat} {x4 : Option Nat} {x5 : Int32} {w : wS} (hL : 22 ≤ L) (h : zb_X5_row_p33 E L Q x1 x2 x3 x4 x5 w) : kzE E L kt_M208 33 [(0, .ref (w_adr E.2.1 4 0)), (1, .int x1), (2, .int x2), (3, va_rf (x3)), (4, va_rf (x4)), (5, .int x5)] [] w Q := by
  unfold zb_X5_row_p33 at h
  refine kz_aloadv (M := kt_M208) (x := x4) kX5_row_c2.2.2.1 rfl ?_
  refine kz_aload_n (M := kt_M208) kX5_row_c2.2.2.2.1 rfl ?_
  refine kz_cvr (M := kt_M208) (c := 4) (o := 0) (As := []) (rest := [va_rf (x4)]) kX5_row_c2.2.2.2.2.1 wl_X5_194 wMv_177 rfl (.inl rfl) rfl (Nat.le_trans (Nat.le_of_ble_eq_true rfl) hL) (Nat.le_of_ble_eq_true rfl) (by simp [kx_cat, w_cat, z_ci, z_cr, z_cl, z_cn]) h (fun v2 w1 hle h => ?_) (fun _ _ _ h => kzx_no rfl h)
  have h := h hle
  refine kz_csr (M := kt_M208) (As := [va_rf (x4), va_rf (v2)]) (rest := []) kX5_row_c2.2.2.2.2.2.1 wl_X5_158 wMs_166 rfl (Nat.le_trans (Nat.le_of_ble_eq_true rfl) hL) (by simp [lg_sl, w_cat, z_ci, z_cr, z_cl, z_cn, kt_M166]) (Nat.le_of_ble_eq_true rfl) h (fun v4 w3 hle h => ?_) (fun _ _ _ h => kzx_no rfl h)
  have h := h hle
  refine kz_stv (M := kt_M208) (x := v4) [(0, .ref (w_adr E.2.1 4 0)), (1, .int x1), (2, .int x2), (3, va_rf (x3)), (5, .int x5)] kX5_row_c2.2.2.2.2.2.2.1 (Nat.le_of_ble_eq_true rfl) ⟨⟨rfl, rfl, .inl rfl⟩, ⟨⟨rfl, rfl, .inl rfl⟩, ⟨⟨rfl, rfl, .inl rfl⟩, ⟨⟨rfl, rfl, .inr (w_cat (x3))⟩, ⟨⟨rfl, rfl, .inl rfl⟩, trivial⟩⟩⟩⟩⟩ rfl ?_
  refine kz_inc (M := kt_M208) [(0, .ref (w_adr E.2.1 4 0)), (1, .int x1), (2, .int x2), (3, va_rf (x3)), (4, va_rf (v4))] kX5_row_c2.2.2.2.2.2.2.2.1 rfl (Nat.le_of_ble_eq_true rfl) ⟨⟨rfl, rfl, .inl rfl⟩, ⟨⟨rfl, rfl, .inl rfl⟩, ⟨⟨rfl, rfl, .inl rfl⟩, ⟨⟨rfl, rfl, .inl rfl⟩, ⟨⟨rfl, rfl, .inr (w_cat (v4))⟩, trivial⟩⟩⟩⟩⟩ rfl ?_
  refine kz_goto (M := kt_M208) kX5_row_c3.1 (t := 11) rfl ?_
  exact kz_weak [(0, .ref (w_adr E.2.1 4 0)), (1, .int x1), (2, .int x2), (3, va_rf (x3)), (4, va_rf (v4)), (5, .int (x5 + 1))] ⟨rfl, ⟨rfl, ⟨rfl, ⟨rfl, ⟨rfl, ⟨rfl, trivial⟩⟩⟩⟩⟩⟩ rfl h
def zb_X5_row_p11 (E : zE) (L : Nat) (Q : kx_Rs → wS → Prop) (x1 : Int32) (x2 : Int32) (x3 : Option Nat) (x4 : Option Nat) (x5 : Int32) (w : wS) : Prop := zw E (L - 21) kt_M183 [.ref (w_adr E.2.1 4 0), .int x1] w (wk1 (fun v2 w1 => wle w w1 → (if v2 = 0 then Q (.inl (some (va_rf (x3)))) w1 else zw E (L - 20) kt_M195 [.ref (w_adr E.2.1 4 0)] w1 (wk0 (fun w3 => wle w1 w3 → (if ¬ x5 = x2 then zb_X5_row_p33 E L Q x1 x2 x3 x4 x5 w3 else zw E (L - 20) kt_M213 [.ref (w_adr E.2.1 4 0)] w3 (wk0 (fun w5 => wle w3 w5 → zb_X5_row_p33 E L Q x1 x2 x3 x4 x5 w5) (fun e w => Q (.inr e) w)))) (fun e w => Q (.inr e) w)))) (fun e w => Q (.inr e) w))
theorem zt_X5_row_p11 {E : zE} {L : Nat} {Q : kx_Rs → wS → Prop} {x1 : Int32} {x2 : Int32} {x3 : Option Nat} {x4 : Option Nat} {x5 : Int32} {w : wS} (hL : 22 ≤ L) (h : zb_X5_row_p11 E L Q x1 x2 x3 x4 x5 w) : kzE E L kt_M208 11 [(0, .ref (w_adr E.2.1 4 0)), (1, .int x1), (2, .int x2), (3, va_rf (x3)), (4, va_rf (x4)), (5, .int x5)] [] w Q := by
  unfold zb_X5_row_p11 at h
  refine kz_aload_n (M := kt_M208) kX5_row_c0.2.2.2.2.2.2.2.1 rfl ?_
  refine kz_iload_n (M := kt_M208) kX5_row_c1.1 rfl ?_
  refine kz_cv1 (M := kt_M208) (c := 4) (o := 0) (As := [.int x1]) (rest := []) kX5_row_c1.2.1 wl_X5_79 wMv_183 rfl (.inl rfl) rfl (Nat.le_trans (Nat.le_of_ble_eq_true rfl) hL) (Nat.le_of_ble_eq_true rfl) (Nat.le_of_ble_eq_true rfl) h (fun v2 w1 hle h => ?_) (fun _ _ _ h => kzx_no rfl h)
  have h := h hle
  refine kz_if_eq (M := kt_M208) kX5_row_c1.2.2.1 (t := 50) rfl h (fun h => ?_) (fun h => ?_)
  · skip
    refine kz_aload_nv (M := kt_M208) (x := x3) kX5_row_c3.2.1 rfl ?_
    exact kz_areto (x := x3) (M := kt_M208) kX5_row_c3.2.2.1 rfl h
  · skip
    refine kz_aload_n (M := kt_M208) kX5_row_c1.2.2.2.1 rfl ?_
    refine kz_cv0 (M := kt_M208) (c := 4) (o := 0) (As := []) (rest := []) kX5_row_c1.2.2.2.2.1 wl_X5_85 wMv_195 rfl (.inl rfl) rfl (Nat.le_trans (Nat.le_of_ble_eq_true rfl) hL) (Nat.le_of_ble_eq_true rfl) (Nat.le_of_ble_eq_true rfl) h (fun w3 hle h => ?_) (fun _ _ _ h => kzx_no rfl h)
    have h := h hle
    refine kz_iload (M := kt_M208) kX5_row_c1.2.2.2.2.2.1 rfl ?_
    refine kz_iload_n (M := kt_M208) kX5_row_c1.2.2.2.2.2.2.1 rfl ?_
    refine kz_icmp_ne (M := kt_M208) kX5_row_c1.2.2.2.2.2.2.2.1 (t := 33) rfl h (fun h => ?_) (fun h => ?_)
    · skip
      exact kz_weak [(0, .ref (w_adr E.2.1 4 0)), (1, .int x1), (2, .int x2), (3, va_rf (x3)), (4, va_rf (x4)), (5, .int x5)] ⟨rfl, ⟨rfl, ⟨rfl, ⟨rfl, ⟨rfl, ⟨rfl, trivial⟩⟩⟩⟩⟩⟩ rfl (zt_X5_row_p33 hL  h)
    · skip
      refine kz_aload_n (M := kt_M208) kX5_row_c2.1 rfl ?_
      refine kz_cv0 (M := kt_M208) (c := 4) (o := 0) (As := []) (rest := []) kX5_row_c2.2.1 wl_X5_82 wMv_213 rfl (.inl rfl) rfl (Nat.le_trans (Nat.le_of_ble_eq_true rfl) hL) (Nat.le_of_ble_eq_true rfl) (Nat.le_of_ble_eq_true rfl) h (fun w5 hle h => ?_) (fun _ _ _ h => kzx_no rfl h)
      have h := h hle
      exact kz_weak [(0, .ref (w_adr E.2.1 4 0)), (1, .int x1), (2, .int x2), (3, va_rf (x3)), (4, va_rf (x4)), (5, .int x5)] ⟨rfl, ⟨rfl, ⟨rfl, ⟨rfl, ⟨rfl, ⟨rfl, trivial⟩⟩⟩⟩⟩⟩ rfl (zt_X5_row_p33 hL  h)
def zb_X5_row_p0 (E : zE) (L : Nat) (Q : kx_Rs → wS → Prop) (x1 : Int32) (x2 : Int32) (w : wS) : Prop := zw E (L - 22) kt_M177 [.ref (w_adr E.2.1 4 0)] w (wkr (fun v2 w1 => wle w w1 → zL_X5_row_p11 E L Q x1 x2 v2 v2 1 w1) (fun e w => Q (.inr e) w))
theorem zt_X5_row_p0 {E : zE} {L : Nat} {Q : kx_Rs → wS → Prop} {x1 : Int32} {x2 : Int32} {w : wS} (hL : 22 ≤ L) (h : zb_X5_row_p0 E L Q x1 x2 w) : kzE E L kt_M208 0 [(0, .ref (w_adr E.2.1 4 0)), (1, .int x1), (2, .int x2)] [] w Q := by
  unfold zb_X5_row_p0 at h
  refine kz_aload_n (M := kt_M208) kX5_row_c0.1 rfl ?_
  refine kz_cvr (M := kt_M208) (c := 4) (o := 0) (As := []) (rest := []) kX5_row_c0.2.1 wl_X5_194 wMv_177 rfl (.inl rfl) rfl (Nat.le_trans (Nat.le_of_ble_eq_true rfl) hL) (Nat.le_of_ble_eq_true rfl) (Nat.le_of_ble_eq_true rfl) h (fun v2 w1 hle h => ?_) (fun _ _ _ h => kzx_no rfl h)
  have h := h hle
  refine kz_stv_n (M := kt_M208) (x := v2) [(0, .ref (w_adr E.2.1 4 0)), (1, .int x1), (2, .int x2)] kX5_row_c0.2.2.1 (Nat.le_of_ble_eq_true rfl) ⟨⟨rfl, rfl, .inl rfl⟩, ⟨⟨rfl, rfl, .inl rfl⟩, ⟨⟨rfl, rfl, .inr rfl⟩, trivial⟩⟩⟩ rfl ?_
  refine kz_aload_nv (M := kt_M208) (x := v2) kX5_row_c0.2.2.2.1 rfl ?_
  refine kz_stv (M := kt_M208) (x := v2) [(0, .ref (w_adr E.2.1 4 0)), (1, .int x1), (2, .int x2), (3, va_rf (v2))] kX5_row_c0.2.2.2.2.1 (Nat.le_of_ble_eq_true rfl) ⟨⟨rfl, rfl, .inl rfl⟩, ⟨⟨rfl, rfl, .inl rfl⟩, ⟨⟨rfl, rfl, .inl rfl⟩, ⟨⟨rfl, rfl, .inr (w_cat (v2))⟩, trivial⟩⟩⟩⟩ rfl ?_
  refine kz_ic (M := kt_M208) 1 kX5_row_c0.2.2.2.2.2.1 rfl ?_
  refine kz_sti (M := kt_M208) [(0, .ref (w_adr E.2.1 4 0)), (1, .int x1), (2, .int x2), (3, va_rf (v2)), (4, va_rf (v2))] kX5_row_c0.2.2.2.2.2.2.1 (Nat.le_of_ble_eq_true rfl) ⟨⟨rfl, rfl, .inl rfl⟩, ⟨⟨rfl, rfl, .inl rfl⟩, ⟨⟨rfl, rfl, .inl rfl⟩, ⟨⟨rfl, rfl, .inl rfl⟩, ⟨⟨rfl, rfl, .inr (w_cat (v2))⟩, trivial⟩⟩⟩⟩⟩ rfl ?_
  exact kz_weak [(0, .ref (w_adr E.2.1 4 0)), (1, .int x1), (2, .int x2), (3, va_rf (v2)), (4, va_rf (v2)), (5, .int 1)] ⟨rfl, ⟨rfl, ⟨rfl, ⟨rfl, ⟨rfl, ⟨rfl, trivial⟩⟩⟩⟩⟩⟩ rfl h
def zb_X5_special_p227 (E : zE) (L : Nat) (Q : kx_Rs → wS → Prop) (x1 : Option Nat) (w : wS) : Prop := Q (.inl (some (va_rf (x1)))) w
theorem zt_X5_special_p227 {E : zE} {L : Nat} {Q : kx_Rs → wS → Prop} {x1 : Option Nat} {w : wS} (hL : 22 ≤ L) (h : zb_X5_special_p227 E L Q x1 w) : kzE E L kt_M209 227 [(0, .ref (w_adr E.2.1 4 0)), (1, va_rf (x1))] [] w Q := by
  unfold zb_X5_special_p227 at h
  refine kz_aload_nv (M := kt_M209) (x := x1) kX5_special_c14.2.1 rfl ?_
  exact kz_areto (x := x1) (M := kt_M209) kX5_special_c14.2.2.1 rfl h
def zb_X5_special_p133 (E : zE) (L : Nat) (Q : kx_Rs → wS → Prop) (x1 : Option Nat) (y0 : Int32) (y1 : Option Nat) (w : wS) : Prop := (∃ p1, y1 = some p1 ∧ w_l w E.2.1 14 p1 ∧ zw E (L - 20) kt_M175 [.ref (w_adr E.2.1 4 0)] (ws_i w 14 p1 8 y0) (wk0 (fun w2 => wle (ws_i w 14 p1 8 y0) w2 → zw E (L - 21) kt_M198 [.ref (w_adr E.2.1 4 0)] w2 (wkr (fun v5 w4 => wle w2 w4 → (∃ p6, x1 = some p6 ∧ w_l w4 E.2.1 14 p6 ∧ zb_X5_special_p227 E L Q x1 (ws_i (ws_p w4 14 p6 3 v5) 4 0 4 ((w_i w4 4 0 4) - 1)))) (fun e w => Q (.inr e) w))) (fun e w => Q (.inr e) w)))
theorem zt_X5_special_p133 {E : zE} {L : Nat} {Q : kx_Rs → wS → Prop} {x1 : Option Nat} {y0 : Int32} {y1 : Option Nat} {w : wS} (hL : 22 ≤ L) (h : zb_X5_special_p133 E L Q x1 y0 y1 w) : kzE E L kt_M209 133 [(0, .ref (w_adr E.2.1 4 0)), (1, va_rf (x1))] [.int y0, va_rf (y1)] w Q := by
  unfold zb_X5_special_p133 at h
  obtain ⟨p1, hxp1, hlp1, h⟩ := h
  refine kz_nz1 (x := y1) hxp1 ?_
  refine kz_pfi (M := kt_M209) (c := 14) (o := p1) kX5_special_c8.2.1 wq_X5_177 (.inr (by exact hlp1)) ?_
  refine kz_aload_n (M := kt_M209) kX5_special_c8.2.2.1 rfl ?_
  refine kz_cv0 (M := kt_M209) (c := 4) (o := 0) (As := []) (rest := []) kX5_special_c8.2.2.2.1 wl_X5_188 wMv_175 rfl (.inl rfl) rfl (Nat.le_trans (Nat.le_of_ble_eq_true rfl) hL) (Nat.le_of_ble_eq_true rfl) (Nat.le_of_ble_eq_true rfl) h (fun w2 hle h => ?_) (fun _ _ _ h => kzx_no rfl h)
  have h := h hle
  have hlp1 := w_l_le hlp1 hle
  refine kz_aload_nv (M := kt_M209) (x := x1) kX5_special_c8.2.2.2.2.1 rfl ?_
  refine kz_aload_n (M := kt_M209) kX5_special_c8.2.2.2.2.2.1 rfl ?_
  refine kz_cvr (M := kt_M209) (c := 4) (o := 0) (As := []) (rest := [va_rf (x1)]) kX5_special_c8.2.2.2.2.2.2.1 wl_X5_413 wMv_198 rfl (.inl rfl) rfl (Nat.le_trans (Nat.le_of_ble_eq_true rfl) hL) (Nat.le_of_ble_eq_true rfl) (by simp [kx_cat, w_cat, z_ci, z_cr, z_cl, z_cn]) h (fun v5 w4 hle h => ?_) (fun _ _ _ h => kzx_no rfl h)
  have h := h hle
  have hlp1 := w_l_le hlp1 hle
  obtain ⟨p6, hxp6, hlp6, h⟩ := h
  refine kz_nz1 (x := x1) hxp6 ?_
  refine kz_pfp (M := kt_M209) (n := v5) (c := 14) (o := p6) kX5_special_c8.2.2.2.2.2.2.2.1 wq_X5_162 (.inr (by exact hlp6)) ?_
  refine kz_aload_n (M := kt_M209) kX5_special_c9.1 rfl ?_
  refine kz_dup (M := kt_M209) kX5_special_c9.2.1 rfl ?_
  refine kz_gfiR (M := kt_M209) (c := 4) (o := 0) (w_i w4 4 0 4) kX5_special_c9.2.2.1 wf_X5_97 (.inl rfl) rd_i_p ?_
  refine kz_ic (M := kt_M209) 1 kX5_special_c9.2.2.2.1 rfl ?_
  refine kz_isub (M := kt_M209) kX5_special_c9.2.2.2.2.1 ?_
  refine kz_pfi (M := kt_M209) (c := 4) (o := 0) kX5_special_c9.2.2.2.2.2.1 wq_X5_97 (.inl rfl) ?_
  refine kz_goto (M := kt_M209) kX5_special_c9.2.2.2.2.2.2.1 (t := 227) rfl ?_
  exact kz_weak [(0, .ref (w_adr E.2.1 4 0)), (1, va_rf (x1))] ⟨rfl, ⟨rfl, trivial⟩⟩ rfl (zt_X5_special_p227 hL  h)
def zb_X5_special_p82 (E : zE) (L : Nat) (Q : kx_Rs → wS → Prop) (x1 : Option Nat) (y0 : Int32) (y1 : Option Nat) (w : wS) : Prop := (∃ p1, y1 = some p1 ∧ w_l w E.2.1 14 p1 ∧ zw E (L - 20) kt_M195 [.ref (w_adr E.2.1 4 0)] (ws_i w 14 p1 10 y0) (wk0 (fun w2 => wle (ws_i w 14 p1 10 y0) w2 → zw E (L - 21) kt_M176 [.ref (w_adr E.2.1 4 0), .int 12] w2 (wk0 (fun w4 => wle w2 w4 → zb_X5_special_p227 E L Q x1 w4) (fun e w => Q (.inr e) w))) (fun e w => Q (.inr e) w)))
theorem zt_X5_special_p82 {E : zE} {L : Nat} {Q : kx_Rs → wS → Prop} {x1 : Option Nat} {y0 : Int32} {y1 : Option Nat} {w : wS} (hL : 22 ≤ L) (h : zb_X5_special_p82 E L Q x1 y0 y1 w) : kzE E L kt_M209 82 [(0, .ref (w_adr E.2.1 4 0)), (1, va_rf (x1))] [.int y0, va_rf (y1)] w Q := by
  unfold zb_X5_special_p82 at h
  obtain ⟨p1, hxp1, hlp1, h⟩ := h
  refine kz_nz1 (x := y1) hxp1 ?_
  refine kz_pfi (M := kt_M209) (c := 14) (o := p1) kX5_special_c5.1 wq_X5_370 (.inr (by exact hlp1)) ?_
  refine kz_aload_n (M := kt_M209) kX5_special_c5.2.1 rfl ?_
  refine kz_cv0 (M := kt_M209) (c := 4) (o := 0) (As := []) (rest := []) kX5_special_c5.2.2.1 wl_X5_85 wMv_195 rfl (.inl rfl) rfl (Nat.le_trans (Nat.le_of_ble_eq_true rfl) hL) (Nat.le_of_ble_eq_true rfl) (Nat.le_of_ble_eq_true rfl) h (fun w2 hle h => ?_) (fun _ _ _ h => kzx_no rfl h)
  have h := h hle
  have hlp1 := w_l_le hlp1 hle
  refine kz_aload_n (M := kt_M209) kX5_special_c5.2.2.2.1 rfl ?_
  refine kz_bi (M := kt_M209) 12 kX5_special_c5.2.2.2.2.1 rfl ?_
  refine kz_cv0 (M := kt_M209) (c := 4) (o := 0) (As := [.int 12]) (rest := []) kX5_special_c5.2.2.2.2.2.1 wl_X5_100 wMv_176 rfl (.inl rfl) rfl (Nat.le_trans (Nat.le_of_ble_eq_true rfl) hL) (Nat.le_of_ble_eq_true rfl) (Nat.le_of_ble_eq_true rfl) h (fun w4 hle h => ?_) (fun _ _ _ h => kzx_no rfl h)
  have h := h hle
  have hlp1 := w_l_le hlp1 hle
  refine kz_goto (M := kt_M209) kX5_special_c5.2.2.2.2.2.2.1 (t := 227) rfl ?_
  exact kz_weak [(0, .ref (w_adr E.2.1 4 0)), (1, va_rf (x1))] ⟨rfl, ⟨rfl, trivial⟩⟩ rfl (zt_X5_special_p227 hL  h)
def zb_X5_special_p66 (E : zE) (L : Nat) (Q : kx_Rs → wS → Prop) (x1 : Option Nat) (x2 : Int32) (w : wS) : Prop := (if ¬ x2 = 16 then zb_X5_special_p82 E L Q x1 (-2147483648) x1 w else zb_X5_special_p82 E L Q x1 2147483647 x1 w)
theorem zt_X5_special_p66 {E : zE} {L : Nat} {Q : kx_Rs → wS → Prop} {x1 : Option Nat} {x2 : Int32} {w : wS} (hL : 22 ≤ L) (h : zb_X5_special_p66 E L Q x1 x2 w) : kzE E L kt_M209 66 [(0, .ref (w_adr E.2.1 4 0)), (1, va_rf (x1)), (2, .int x2)] [] w Q := by
  unfold zb_X5_special_p66 at h
  refine kz_aload_nv (M := kt_M209) (x := x1) kX5_special_c4.2.1 rfl ?_
  refine kz_iload_n (M := kt_M209) kX5_special_c4.2.2.1 rfl ?_
  refine kz_bi (M := kt_M209) 16 kX5_special_c4.2.2.2.1 rfl ?_
  refine kz_icmp_ne (M := kt_M209) kX5_special_c4.2.2.2.2.1 (t := 79) rfl h (fun h => ?_) (fun h => ?_)
  · skip
    refine kz_ldcw (M := kt_M209) (x := (-2147483648)) kX5_special_c4.2.2.2.2.2.2.2.1 (zc_X5_456) ?_
    exact kz_weak [(0, .ref (w_adr E.2.1 4 0)), (1, va_rf (x1))] ⟨rfl, ⟨rfl, trivial⟩⟩ rfl (zt_X5_special_p82 hL  h)
  · skip
    refine kz_ldcw (M := kt_M209) (x := 2147483647) kX5_special_c4.2.2.2.2.2.1 (zc_X5_455) ?_
    refine kz_goto (M := kt_M209) kX5_special_c4.2.2.2.2.2.2.1 (t := 82) rfl ?_
    exact kz_weak [(0, .ref (w_adr E.2.1 4 0)), (1, va_rf (x1))] ⟨rfl, ⟨rfl, trivial⟩⟩ rfl (zt_X5_special_p82 hL  h)
def zb_X5_special_p44 (E : zE) (L : Nat) (Q : kx_Rs → wS → Prop) (x1 : Option Nat) (y0 : Int32) (y1 : Option Nat) (w : wS) : Prop := (∃ p1, y1 = some p1 ∧ w_l w E.2.1 14 p1 ∧ zw E (L - 20) kt_M195 [.ref (w_adr E.2.1 4 0)] (ws_i w 14 p1 10 y0) (wk0 (fun w2 => wle (ws_i w 14 p1 10 y0) w2 → zb_X5_special_p227 E L Q x1 w2) (fun e w => Q (.inr e) w)))
theorem zt_X5_special_p44 {E : zE} {L : Nat} {Q : kx_Rs → wS → Prop} {x1 : Option Nat} {y0 : Int32} {y1 : Option Nat} {w : wS} (hL : 22 ≤ L) (h : zb_X5_special_p44 E L Q x1 y0 y1 w) : kzE E L kt_M209 44 [(0, .ref (w_adr E.2.1 4 0)), (1, va_rf (x1))] [.int y0, va_rf (y1)] w Q := by
  unfold zb_X5_special_p44 at h
  obtain ⟨p1, hxp1, hlp1, h⟩ := h
  refine kz_nz1 (x := y1) hxp1 ?_
  refine kz_pfi (M := kt_M209) (c := 14) (o := p1) kX5_special_c2.2.2.2.2.2.2.2.1 wq_X5_370 (.inr (by exact hlp1)) ?_
  refine kz_aload_n (M := kt_M209) kX5_special_c3.1 rfl ?_
  refine kz_cv0 (M := kt_M209) (c := 4) (o := 0) (As := []) (rest := []) kX5_special_c3.2.1 wl_X5_85 wMv_195 rfl (.inl rfl) rfl (Nat.le_trans (Nat.le_of_ble_eq_true rfl) hL) (Nat.le_of_ble_eq_true rfl) (Nat.le_of_ble_eq_true rfl) h (fun w2 hle h => ?_) (fun _ _ _ h => kzx_no rfl h)
  have h := h hle
  have hlp1 := w_l_le hlp1 hle
  refine kz_goto (M := kt_M209) kX5_special_c3.2.2.1 (t := 227) rfl ?_
  exact kz_weak [(0, .ref (w_adr E.2.1 4 0)), (1, va_rf (x1))] ⟨rfl, ⟨rfl, trivial⟩⟩ rfl (zt_X5_special_p227 hL  h)
def zb_X5_special_p25 (E : zE) (L : Nat) (Q : kx_Rs → wS → Prop) (x1 : Option Nat) (x2 : Int32) (w : wS) : Prop := (∃ p1, x1 = some p1 ∧ w_l w E.2.1 14 p1 ∧ (if ¬ x2 = 32 then zb_X5_special_p44 E L Q x1 0 x1 (ws_p w 14 p1 0 (some (E.1.1 20))) else zb_X5_special_p44 E L Q x1 1 x1 (ws_p w 14 p1 0 (some (E.1.1 20)))))
theorem zt_X5_special_p25 {E : zE} {L : Nat} {Q : kx_Rs → wS → Prop} {x1 : Option Nat} {x2 : Int32} {w : wS} (hL : 22 ≤ L) (h : zb_X5_special_p25 E L Q x1 x2 w) : kzE E L kt_M209 25 [(0, .ref (w_adr E.2.1 4 0)), (1, va_rf (x1)), (2, .int x2)] [] w Q := by
  unfold zb_X5_special_p25 at h
  refine kz_aload_nv (M := kt_M209) (x := x1) kX5_special_c1.2.2.2.2.2.1 rfl ?_
  refine kz_getsE (M := kt_M209) (v := va_rf (some (E.1.1 20))) kX5_special_c1.2.2.2.2.2.2.1 zs_X5_450 ?_
  obtain ⟨p1, hxp1, hlp1, h⟩ := h
  refine kz_nz1 (x := x1) hxp1 ?_
  refine kz_pfp (M := kt_M209) (n := some (E.1.1 20)) (c := 14) (o := p1) kX5_special_c1.2.2.2.2.2.2.2.1 wq_X5_214 (.inr (by exact hlp1)) ?_
  refine kz_aload_nv (M := kt_M209) (x := x1) kX5_special_c2.1 rfl ?_
  refine kz_iload_n (M := kt_M209) kX5_special_c2.2.1 rfl ?_
  refine kz_bi (M := kt_M209) 32 kX5_special_c2.2.2.1 rfl ?_
  refine kz_icmp_ne (M := kt_M209) kX5_special_c2.2.2.2.1 (t := 43) rfl h (fun h => ?_) (fun h => ?_)
  · skip
    refine kz_ic (M := kt_M209) 0 kX5_special_c2.2.2.2.2.2.2.1 rfl ?_
    exact kz_weak [(0, .ref (w_adr E.2.1 4 0)), (1, va_rf (x1))] ⟨rfl, ⟨rfl, trivial⟩⟩ rfl (zt_X5_special_p44 hL  h)
  · skip
    refine kz_ic (M := kt_M209) 1 kX5_special_c2.2.2.2.2.1 rfl ?_
    refine kz_goto (M := kt_M209) kX5_special_c2.2.2.2.2.2.1 (t := 44) rfl ?_
    exact kz_weak [(0, .ref (w_adr E.2.1 4 0)), (1, va_rf (x1))] ⟨rfl, ⟨rfl, trivial⟩⟩ rfl (zt_X5_special_p44 hL  h)
def zb_X5_special_p0 (E : zE) (L : Nat) (Q : kx_Rs → wS → Prop) (x1 : Option Nat) (w : wS) : Prop := (kx_inb (w_i w 4 0 3) (w_n w 1 0 3) = true ∧ (if w_a w 1 0 3 (w_i w 4 0 3).toNatClampNeg = 32 then zb_X5_special_p25 E L Q x1 (w_a w 1 0 3 (w_i w 4 0 3).toNatClampNeg) w else (if ¬ w_a w 1 0 3 (w_i w 4 0 3).toNatClampNeg = 8 then (if w_a w 1 0 3 (w_i w 4 0 3).toNatClampNeg = 16 then zb_X5_special_p66 E L Q x1 (w_a w 1 0 3 (w_i w 4 0 3).toNatClampNeg) w else (if ¬ w_a w 1 0 3 (w_i w 4 0 3).toNatClampNeg = 15 then zw E (L - 20) kt_M186 [.ref (w_adr E.2.1 4 0)] w (wk1 (fun v2 w1 => wle w w1 → (if v2 = 0 then (if ¬ w_a w 1 0 3 (w_i w 4 0 3).toNatClampNeg = 36 then (if ¬ w_a w 1 0 3 (w_i w 4 0 3).toNatClampNeg = 38 then zw E (L - 20) kt_M213 [.ref (w_adr E.2.1 4 0)] w1 (wk0 (fun w3 => wle w1 w3 → zb_X5_special_p227 E L Q x1 w3) (fun e w => Q (.inr e) w)) else (∃ p5, x1 = some p5 ∧ w_l w1 E.2.1 14 p5 ∧ zw E (L - 20) kt_M175 [.ref (w_adr E.2.1 4 0)] (ws_p w1 14 p5 0 (some (E.1.1 22))) (wk0 (fun w6 => wle (ws_p w1 14 p5 0 (some (E.1.1 22))) w6 → zw E (L - 20) kt_M178 [.ref (w_adr E.2.1 4 0)] w6 (wkr (fun v9 w8 => wle w6 w8 → zw E (L - 21) kt_M188 [.ref (w_adr E.2.1 4 0), .int 39] (ws_p w8 14 p5 3 v9) (wk0 (fun w10 => wle (ws_p w8 14 p5 3 v9) w10 → zb_X5_special_p227 E L Q x1 w10) (fun e w => Q (.inr e) w))) (fun e w => Q (.inr e) w))) (fun e w => Q (.inr e) w)))) else zw E (L - 20) kt_M175 [.ref (w_adr E.2.1 4 0)] w1 (wk0 (fun w12 => wle w1 w12 → zw E (L - 22) kt_M177 [.ref (w_adr E.2.1 4 0)] w12 (wkr (fun v15 w14 => wle w12 w14 → zw E (L - 21) kt_M188 [.ref (w_adr E.2.1 4 0), .int 37] w14 (wk0 (fun w16 => wle w14 w16 → (∃ p18, v15 = some p18 ∧ w_l w16 E.2.1 14 p18 ∧ Q (.inl (some (va_rf (v15)))) (ws_i w16 14 p18 12 1))) (fun e w => Q (.inr e) w))) (fun e w => Q (.inr e) w))) (fun e w => Q (.inr e) w))) else (∃ p19, x1 = some p19 ∧ w_l w1 E.2.1 14 p19 ∧ (if ¬ w_a w 1 0 3 (w_i w 4 0 3).toNatClampNeg = 12 then (if ¬ w_a w 1 0 3 (w_i w 4 0 3).toNatClampNeg = 4 then zb_X5_special_p133 E L Q x1 3 x1 (ws_p w1 14 p19 0 (some (E.1.1 21))) else zb_X5_special_p133 E L Q x1 2 x1 (ws_p w1 14 p19 0 (some (E.1.1 21)))) else zb_X5_special_p133 E L Q x1 1 x1 (ws_p w1 14 p19 0 (some (E.1.1 21))))))) (fun e w => Q (.inr e) w)) else zb_X5_special_p66 E L Q x1 (w_a w 1 0 3 (w_i w 4 0 3).toNatClampNeg) w)) else zb_X5_special_p25 E L Q x1 (w_a w 1 0 3 (w_i w 4 0 3).toNatClampNeg) w)))
theorem zt_X5_special_p0 {E : zE} {L : Nat} {Q : kx_Rs → wS → Prop} {x1 : Option Nat} {w : wS} (hL : 22 ≤ L) (h : zb_X5_special_p0 E L Q x1 w) : kzE E L kt_M209 0 [(0, .ref (w_adr E.2.1 4 0)), (1, va_rf (x1))] [] w Q := by
  unfold zb_X5_special_p0 at h
  refine kz_aload_n (M := kt_M209) kX5_special_c0.1 rfl ?_
  refine kz_gfc (M := kt_M209) (x := 4) (c := 4) (o := 0) kX5_special_c0.2.1 wf_X5_9 (.inl rfl) ?_
  refine kz_gfc (M := kt_M209) (x := 1259) (c := 1) (o := 0) kX5_special_c0.2.2.1 wf_X5_67 (.inl rfl) ?_
  refine kz_aload_n (M := kt_M209) kX5_special_c0.2.2.2.1 rfl ?_
  refine kz_gfi (M := kt_M209) (c := 4) (o := 0) kX5_special_c0.2.2.2.2.1 wf_X5_29 (.inl rfl) ?_
  refine kz_iald (M := kt_M209) (c := 1) (o := 0) (k := 3) (a := (E.2.1 1259)) kX5_special_c0.2.2.2.2.2.1 ow_1_0_3 oa_1_0_3 ot_0 h (fun h => ?_)
  refine kz_sti_n (M := kt_M209) [(0, .ref (w_adr E.2.1 4 0)), (1, va_rf (x1))] kX5_special_c0.2.2.2.2.2.2.1 (Nat.le_of_ble_eq_true rfl) ⟨⟨rfl, rfl, .inl rfl⟩, ⟨⟨rfl, rfl, .inr (w_cat (x1))⟩, trivial⟩⟩ rfl ?_
  refine kz_iload_n (M := kt_M209) kX5_special_c0.2.2.2.2.2.2.2.1 rfl ?_
  refine kz_bi (M := kt_M209) 32 kX5_special_c1.1 rfl ?_
  refine kz_icmp_eq (M := kt_M209) kX5_special_c1.2.1 (t := 25) rfl h (fun h => ?_) (fun h => ?_)
  · skip
    exact kz_weak [(0, .ref (w_adr E.2.1 4 0)), (1, va_rf (x1)), (2, .int (w_a w 1 0 3 (w_i w 4 0 3).toNatClampNeg))] ⟨rfl, ⟨rfl, ⟨rfl, trivial⟩⟩⟩ rfl (zt_X5_special_p25 hL  h)
  · skip
    refine kz_iload_n (M := kt_M209) kX5_special_c1.2.2.1 rfl ?_
    refine kz_bi (M := kt_M209) 8 kX5_special_c1.2.2.2.1 rfl ?_
    refine kz_icmp_ne (M := kt_M209) kX5_special_c1.2.2.2.2.1 (t := 54) rfl h (fun h => ?_) (fun h => ?_)
    · skip
      refine kz_iload_n (M := kt_M209) kX5_special_c3.2.2.2.1 rfl ?_
      refine kz_bi (M := kt_M209) 16 kX5_special_c3.2.2.2.2.1 rfl ?_
      refine kz_icmp_eq (M := kt_M209) kX5_special_c3.2.2.2.2.2.1 (t := 66) rfl h (fun h => ?_) (fun h => ?_)
      · skip
        exact kz_weak [(0, .ref (w_adr E.2.1 4 0)), (1, va_rf (x1)), (2, .int (w_a w 1 0 3 (w_i w 4 0 3).toNatClampNeg))] ⟨rfl, ⟨rfl, ⟨rfl, trivial⟩⟩⟩ rfl (zt_X5_special_p66 hL  h)
      · skip
        refine kz_iload_n (M := kt_M209) kX5_special_c3.2.2.2.2.2.2.1 rfl ?_
        refine kz_bi (M := kt_M209) 15 kX5_special_c3.2.2.2.2.2.2.2.1 rfl ?_
        refine kz_icmp_ne (M := kt_M209) kX5_special_c4.1 (t := 98) rfl h (fun h => ?_) (fun h => ?_)
        · skip
          refine kz_aload_n (M := kt_M209) kX5_special_c5.2.2.2.2.2.2.2.1 rfl ?_
          refine kz_cv1 (M := kt_M209) (c := 4) (o := 0) (As := []) (rest := []) kX5_special_c6.1 wl_X5_95 wMv_186 rfl (.inl rfl) rfl (Nat.le_trans (Nat.le_of_ble_eq_true rfl) hL) (Nat.le_of_ble_eq_true rfl) (Nat.le_of_ble_eq_true rfl) h (fun v2 w1 hle h => ?_) (fun _ _ _ h => kzx_no rfl h)
          have h := h hle
          refine kz_if_eq (M := kt_M209) kX5_special_c6.2.1 (t := 161) rfl h (fun h => ?_) (fun h => ?_)
          · skip
            refine kz_iload_n (M := kt_M209) kX5_special_c9.2.2.2.2.2.2.2.1 rfl ?_
            refine kz_bi (M := kt_M209) 36 kX5_special_c10.1 rfl ?_
            refine kz_icmp_ne (M := kt_M209) kX5_special_c10.2.1 (t := 189) rfl h (fun h => ?_) (fun h => ?_)
            · skip
              refine kz_iload_n (M := kt_M209) kX5_special_c11.2.2.2.2.2.2.2.1 rfl ?_
              refine kz_bi (M := kt_M209) 38 kX5_special_c12.1 rfl ?_
              refine kz_icmp_ne (M := kt_M209) kX5_special_c12.2.1 (t := 223) rfl h (fun h => ?_) (fun h => ?_)
              · skip
                refine kz_aload_n (M := kt_M209) kX5_special_c13.2.2.2.2.2.2.2.1 rfl ?_
                refine kz_cv0 (M := kt_M209) (c := 4) (o := 0) (As := []) (rest := []) kX5_special_c14.1 wl_X5_82 wMv_213 rfl (.inl rfl) rfl (Nat.le_trans (Nat.le_of_ble_eq_true rfl) hL) (Nat.le_of_ble_eq_true rfl) (Nat.le_of_ble_eq_true rfl) h (fun w3 hle h => ?_) (fun _ _ _ h => kzx_no rfl h)
                have h := h hle
                exact kz_weak [(0, .ref (w_adr E.2.1 4 0)), (1, va_rf (x1))] ⟨rfl, ⟨rfl, trivial⟩⟩ rfl (zt_X5_special_p227 hL  h)
              · skip
                refine kz_aload_nv (M := kt_M209) (x := x1) kX5_special_c12.2.2.1 rfl ?_
                refine kz_getsE (M := kt_M209) (v := va_rf (some (E.1.1 22))) kX5_special_c12.2.2.2.1 zs_X5_460 ?_
                obtain ⟨p5, hxp5, hlp5, h⟩ := h
                refine kz_nz1 (x := x1) hxp5 ?_
                refine kz_pfp (M := kt_M209) (n := some (E.1.1 22)) (c := 14) (o := p5) kX5_special_c12.2.2.2.2.1 wq_X5_214 (.inr (by exact hlp5)) ?_
                refine kz_aload_n (M := kt_M209) kX5_special_c12.2.2.2.2.2.1 rfl ?_
                refine kz_cv0 (M := kt_M209) (c := 4) (o := 0) (As := []) (rest := []) kX5_special_c12.2.2.2.2.2.2.1 wl_X5_188 wMv_175 rfl (.inl rfl) rfl (Nat.le_trans (Nat.le_of_ble_eq_true rfl) hL) (Nat.le_of_ble_eq_true rfl) (Nat.le_of_ble_eq_true rfl) h (fun w6 hle h => ?_) (fun _ _ _ h => kzx_no rfl h)
                have h := h hle
                have hlp5 := w_l_le hlp5 hle
                refine kz_aload_nv (M := kt_M209) (x := x1) kX5_special_c12.2.2.2.2.2.2.2.1 rfl ?_
                refine kz_aload_n (M := kt_M209) kX5_special_c13.1 rfl ?_
                refine kz_cvr (M := kt_M209) (c := 4) (o := 0) (As := []) (rest := [va_rf (x1)]) kX5_special_c13.2.1 wl_X5_352 wMv_178 rfl (.inl rfl) rfl (Nat.le_trans (Nat.le_of_ble_eq_true rfl) hL) (Nat.le_of_ble_eq_true rfl) (by simp [kx_cat, w_cat, z_ci, z_cr, z_cl, z_cn]) h (fun v9 w8 hle h => ?_) (fun _ _ _ h => kzx_no rfl h)
                have h := h hle
                have hlp5 := w_l_le hlp5 hle
                refine kz_nz1 (x := x1) hxp5 ?_
                refine kz_pfp (M := kt_M209) (n := v9) (c := 14) (o := p5) kX5_special_c13.2.2.1 wq_X5_162 (.inr (by exact hlp5)) ?_
                refine kz_aload_n (M := kt_M209) kX5_special_c13.2.2.2.1 rfl ?_
                refine kz_bi (M := kt_M209) 39 kX5_special_c13.2.2.2.2.1 rfl ?_
                refine kz_cv0 (M := kt_M209) (c := 4) (o := 0) (As := [.int 39]) (rest := []) kX5_special_c13.2.2.2.2.2.1 wl_X5_198 wMv_188 rfl (.inl rfl) rfl (Nat.le_trans (Nat.le_of_ble_eq_true rfl) hL) (Nat.le_of_ble_eq_true rfl) (Nat.le_of_ble_eq_true rfl) h (fun w10 hle h => ?_) (fun _ _ _ h => kzx_no rfl h)
                have h := h hle
                have hlp5 := w_l_le hlp5 hle
                refine kz_goto (M := kt_M209) kX5_special_c13.2.2.2.2.2.2.1 (t := 227) rfl ?_
                exact kz_weak [(0, .ref (w_adr E.2.1 4 0)), (1, va_rf (x1))] ⟨rfl, ⟨rfl, trivial⟩⟩ rfl (zt_X5_special_p227 hL  h)
            · skip
              refine kz_aload_n (M := kt_M209) kX5_special_c10.2.2.1 rfl ?_
              refine kz_cv0 (M := kt_M209) (c := 4) (o := 0) (As := []) (rest := []) kX5_special_c10.2.2.2.1 wl_X5_188 wMv_175 rfl (.inl rfl) rfl (Nat.le_trans (Nat.le_of_ble_eq_true rfl) hL) (Nat.le_of_ble_eq_true rfl) (Nat.le_of_ble_eq_true rfl) h (fun w12 hle h => ?_) (fun _ _ _ h => kzx_no rfl h)
              have h := h hle
              refine kz_aload_n (M := kt_M209) kX5_special_c10.2.2.2.2.1 rfl ?_
              refine kz_cvr (M := kt_M209) (c := 4) (o := 0) (As := []) (rest := []) kX5_special_c10.2.2.2.2.2.1 wl_X5_194 wMv_177 rfl (.inl rfl) rfl (Nat.le_trans (Nat.le_of_ble_eq_true rfl) hL) (Nat.le_of_ble_eq_true rfl) (Nat.le_of_ble_eq_true rfl) h (fun v15 w14 hle h => ?_) (fun _ _ _ h => kzx_no rfl h)
              have h := h hle
              refine kz_stv_n (M := kt_M209) (x := v15) [(0, .ref (w_adr E.2.1 4 0))] kX5_special_c10.2.2.2.2.2.2.1 (Nat.le_of_ble_eq_true rfl) ⟨⟨rfl, rfl, .inl rfl⟩, trivial⟩ rfl ?_
              refine kz_aload_n (M := kt_M209) kX5_special_c10.2.2.2.2.2.2.2.1 rfl ?_
              refine kz_bi (M := kt_M209) 37 kX5_special_c11.1 rfl ?_
              refine kz_cv0 (M := kt_M209) (c := 4) (o := 0) (As := [.int 37]) (rest := []) kX5_special_c11.2.1 wl_X5_198 wMv_188 rfl (.inl rfl) rfl (Nat.le_trans (Nat.le_of_ble_eq_true rfl) hL) (Nat.le_of_ble_eq_true rfl) (Nat.le_of_ble_eq_true rfl) h (fun w16 hle h => ?_) (fun _ _ _ h => kzx_no rfl h)
              have h := h hle
              refine kz_aload_nv (M := kt_M209) (x := v15) kX5_special_c11.2.2.1 rfl ?_
              refine kz_ic (M := kt_M209) 1 kX5_special_c11.2.2.2.1 rfl ?_
              obtain ⟨p18, hxp18, hlp18, h⟩ := h
              refine kz_nz1 (x := v15) hxp18 ?_
              refine kz_pfz (M := kt_M209) (c := 14) (o := p18) kX5_special_c11.2.2.2.2.1 wq_X5_367 (.inr (by exact hlp18)) (by decide) ?_
              refine kz_aload_nv (M := kt_M209) (x := v15) kX5_special_c11.2.2.2.2.2.1 rfl ?_
              exact kz_areto (x := v15) (M := kt_M209) kX5_special_c11.2.2.2.2.2.2.1 rfl h
          · skip
            refine kz_aload_nv (M := kt_M209) (x := x1) kX5_special_c6.2.2.1 rfl ?_
            refine kz_getsE (M := kt_M209) (v := va_rf (some (E.1.1 21))) kX5_special_c6.2.2.2.1 zs_X5_457 ?_
            obtain ⟨p19, hxp19, hlp19, h⟩ := h
            refine kz_nz1 (x := x1) hxp19 ?_
            refine kz_pfp (M := kt_M209) (n := some (E.1.1 21)) (c := 14) (o := p19) kX5_special_c6.2.2.2.2.1 wq_X5_214 (.inr (by exact hlp19)) ?_
            refine kz_aload_nv (M := kt_M209) (x := x1) kX5_special_c6.2.2.2.2.2.1 rfl ?_
            refine kz_iload_n (M := kt_M209) kX5_special_c6.2.2.2.2.2.2.1 rfl ?_
            refine kz_bi (M := kt_M209) 12 kX5_special_c6.2.2.2.2.2.2.2.1 rfl ?_
            refine kz_icmp_ne (M := kt_M209) kX5_special_c7.1 (t := 123) rfl h (fun h => ?_) (fun h => ?_)
            · skip
              refine kz_iload_n (M := kt_M209) kX5_special_c7.2.2.2.1 rfl ?_
              refine kz_ic (M := kt_M209) 4 kX5_special_c7.2.2.2.2.1 rfl ?_
              refine kz_icmp_ne (M := kt_M209) kX5_special_c7.2.2.2.2.2.1 (t := 132) rfl h (fun h => ?_) (fun h => ?_)
              · skip
                refine kz_ic (M := kt_M209) 3 kX5_special_c8.1 rfl ?_
                exact kz_weak [(0, .ref (w_adr E.2.1 4 0)), (1, va_rf (x1))] ⟨rfl, ⟨rfl, trivial⟩⟩ rfl (zt_X5_special_p133 hL  h)
              · skip
                refine kz_ic (M := kt_M209) 2 kX5_special_c7.2.2.2.2.2.2.1 rfl ?_
                refine kz_goto (M := kt_M209) kX5_special_c7.2.2.2.2.2.2.2.1 (t := 133) rfl ?_
                exact kz_weak [(0, .ref (w_adr E.2.1 4 0)), (1, va_rf (x1))] ⟨rfl, ⟨rfl, trivial⟩⟩ rfl (zt_X5_special_p133 hL  h)
            · skip
              refine kz_ic (M := kt_M209) 1 kX5_special_c7.2.1 rfl ?_
              refine kz_goto (M := kt_M209) kX5_special_c7.2.2.1 (t := 133) rfl ?_
              exact kz_weak [(0, .ref (w_adr E.2.1 4 0)), (1, va_rf (x1))] ⟨rfl, ⟨rfl, trivial⟩⟩ rfl (zt_X5_special_p133 hL  h)
        · skip
          exact kz_weak [(0, .ref (w_adr E.2.1 4 0)), (1, va_rf (x1)), (2, .int (w_a w 1 0 3 (w_i w 4 0 3).toNatClampNeg))] ⟨rfl, ⟨rfl, ⟨rfl, trivial⟩⟩⟩ rfl (zt_X5_special_p66 hL  h)
    · skip
      exact kz_weak [(0, .ref (w_adr E.2.1 4 0)), (1, va_rf (x1)), (2, .int (w_a w 1 0 3 (w_i w 4 0 3).toNatClampNeg))] ⟨rfl, ⟨rfl, ⟨rfl, trivial⟩⟩⟩ rfl (zt_X5_special_p25 hL  h)
def zL_X5_chain_p31 (E : zE) (L : Nat) (Q : kx_Rs → wS → Prop) (x2 : Option Nat) (x3 : Option Nat) (w : wS) : Prop := kzE E L kt_M168 31 [(0, .ref (w_adr E.2.1 4 0)), (2, va_rf (x2)), (3, va_rf (x3))] [] w Q
def zb_X5_chain_p31 (E : zE) (L : Nat) (Q : kx_Rs → wS → Prop) (x2 : Option Nat) (x3 : Option Nat) (w : wS) : Prop := (∃ p1, x2 = some p1 ∧ w_l w E.2.1 14 p1 ∧ zw E (L - 21) kt_M183 [.ref (w_adr E.2.1 4 0), .int (w_i w 14 p1 8)] w (wk1 (fun v3 w2 => wle w w2 → (if v3 = 0 then Q (.inl (some (va_rf (x2)))) w2 else zw E (L - 20) kt_M195 [.ref (w_adr E.2.1 4 0)] w2 (wk0 (fun w4 => wle w2 w4 → zw E (L - 21) kt_M198 [.ref (w_adr E.2.1 4 0)] w4 (wkr (fun v7 w6 => wle w4 w6 → zw E (L - 21) kt_M166 [va_rf (x3), va_rf (v7)] w6 (wkr (fun v9 w8 => wle w6 w8 → zL_X5_chain_p31 E L Q x2 v9 w8) (fun e w => Q (.inr e) w))) (fun e w => Q (.inr e) w))) (fun e w => Q (.inr e) w)))) (fun e w => Q (.inr e) w)))
theorem zt_X5_chain_p31 {E : zE} {L : Nat} {Q : kx_Rs → wS → Prop} {x2 : Option Nat} {x3 : Option Nat} {w : wS} (hL : 21 ≤ L) (h : zb_X5_chain_p31 E L Q x2 x3 w) : kzE E L kt_M168 31 [(0, .ref (w_adr E.2.1 4 0)), (2, va_rf (x2)), (3, va_rf (x3))] [] w Q := by
  unfold zb_X5_chain_p31 at h
  refine kz_aload_n (M := kt_M168) kX5_chain_c2.2.1 rfl ?_
  refine kz_aload_nv (M := kt_M168) (x := x2) kX5_chain_c2.2.2.1 rfl ?_
  obtain ⟨p1, hxp1, hlp1, h⟩ := h
  refine kz_nz0 (x := x2) hxp1 ?_
  refine kz_gfi (M := kt_M168) (c := 14) (o := p1) kX5_chain_c2.2.2.2.1 wf_X5_177 (.inr (by exact hlp1)) ?_
  refine kz_cv1 (M := kt_M168) (c := 4) (o := 0) (As := [.int (w_i w 14 p1 8)]) (rest := []) kX5_chain_c2.2.2.2.2.1 wl_X5_79 wMv_183 rfl (.inl rfl) rfl (Nat.le_trans (Nat.le_of_ble_eq_true rfl) hL) (Nat.le_of_ble_eq_true rfl) (Nat.le_of_ble_eq_true rfl) h (fun v3 w2 hle h => ?_) (fun _ _ _ h => kzx_no rfl h)
  have h := h hle
  have hlp1 := w_l_le hlp1 hle
  refine kz_if_eq (M := kt_M168) kX5_chain_c2.2.2.2.2.2.1 (t := 58) rfl h (fun h => ?_) (fun h => ?_)
  · skip
    refine kz_aload_nv (M := kt_M168) (x := x2) kX5_chain_c3.2.2.2.2.2.2.1 rfl ?_
    exact kz_areto (x := x2) (M := kt_M168) kX5_chain_c3.2.2.2.2.2.2.2.1 rfl h
  · skip
    refine kz_aload_n (M := kt_M168) kX5_chain_c2.2.2.2.2.2.2.1 rfl ?_
    refine kz_cv0 (M := kt_M168) (c := 4) (o := 0) (As := []) (rest := []) kX5_chain_c2.2.2.2.2.2.2.2.1 wl_X5_85 wMv_195 rfl (.inl rfl) rfl (Nat.le_trans (Nat.le_of_ble_eq_true rfl) hL) (Nat.le_of_ble_eq_true rfl) (Nat.le_of_ble_eq_true rfl) h (fun w4 hle h => ?_) (fun _ _ _ h => kzx_no rfl h)
    have h := h hle
    have hlp1 := w_l_le hlp1 hle
    refine kz_aload_nv (M := kt_M168) (x := x3) kX5_chain_c3.1 rfl ?_
    refine kz_aload_n (M := kt_M168) kX5_chain_c3.2.1 rfl ?_
    refine kz_cvr (M := kt_M168) (c := 4) (o := 0) (As := []) (rest := [va_rf (x3)]) kX5_chain_c3.2.2.1 wl_X5_413 wMv_198 rfl (.inl rfl) rfl (Nat.le_trans (Nat.le_of_ble_eq_true rfl) hL) (Nat.le_of_ble_eq_true rfl) (by simp [kx_cat, w_cat, z_ci, z_cr, z_cl, z_cn]) h (fun v7 w6 hle h => ?_) (fun _ _ _ h => kzx_no rfl h)
    have h := h hle
    have hlp1 := w_l_le hlp1 hle
    refine kz_csr (M := kt_M168) (As := [va_rf (x3), va_rf (v7)]) (rest := []) kX5_chain_c3.2.2.2.1 wl_X5_158 wMs_166 rfl (Nat.le_trans (Nat.le_of_ble_eq_true rfl) hL) (by simp [lg_sl, w_cat, z_ci, z_cr, z_cl, z_cn, kt_M166]) (Nat.le_of_ble_eq_true rfl) h (fun v9 w8 hle h => ?_) (fun _ _ _ h => kzx_no rfl h)
    have h := h hle
    have hlp1 := w_l_le hlp1 hle
    refine kz_stv_n (M := kt_M168) (x := v9) [(0, .ref (w_adr E.2.1 4 0)), (2, va_rf (x2))] kX5_chain_c3.2.2.2.2.1 (Nat.le_of_ble_eq_true rfl) ⟨⟨rfl, rfl, .inl rfl⟩, ⟨⟨rfl, rfl, .inr (w_cat (x2))⟩, trivial⟩⟩ rfl ?_
    refine kz_goto (M := kt_M168) kX5_chain_c3.2.2.2.2.2.1 (t := 31) rfl ?_
    exact kz_weak [(0, .ref (w_adr E.2.1 4 0)), (2, va_rf (x2)), (3, va_rf (v9))] ⟨rfl, ⟨rfl, ⟨rfl, trivial⟩⟩⟩ rfl h
def zb_X5_chain_p0 (E : zE) (L : Nat) (Q : kx_Rs → wS → Prop) (x1 : Option Nat) (w : wS) : Prop := zw E (L - 21) kt_M196 [.ref (w_adr E.2.1 4 0), va_rf (some (E.1.1 23))] w (wkr (fun v2 w1 => wle w w1 → (kx_inb (w_i w1 4 0 3) (w_n w1 1 0 3) = true ∧ (∃ p3, v2 = some p3 ∧ w_l w1 E.2.1 14 p3 ∧ zL_X5_chain_p31 E L Q v2 x1 (ws_p (ws_i w1 14 p3 8 (w_a w1 1 0 3 (w_i w1 4 0 3).toNatClampNeg)) 14 p3 3 x1)))) (fun e w => Q (.inr e) w))
theorem zt_X5_chain_p0 {E : zE} {L : Nat} {Q : kx_Rs → wS → Prop} {x1 : Option Nat} {w : wS} (hL : 21 ≤ L) (h : zb_X5_chain_p0 E L Q x1 w) : kzE E L kt_M168 0 [(0, .ref (w_adr E.2.1 4 0)), (1, va_rf (x1))] [] w Q := by
  unfold zb_X5_chain_p0 at h
  refine kz_aload_n (M := kt_M168) kX5_chain_c0.1 rfl ?_
  refine kz_getsE (M := kt_M168) (v := va_rf (some (E.1.1 23))) kX5_chain_c0.2.1 zs_X5_426 ?_
  refine kz_cvr (M := kt_M168) (c := 4) (o := 0) (As := [va_rf (some (E.1.1 23))]) (rest := []) kX5_chain_c0.2.2.1 wl_X5_152 wMv_196 rfl (.inl rfl) rfl (Nat.le_trans (Nat.le_of_ble_eq_true rfl) hL) (by simp [lg_sl, w_cat, z_ci, z_cr, z_cl, z_cn, kt_M196]) (Nat.le_of_ble_eq_true rfl) h (fun v2 w1 hle h => ?_) (fun _ _ _ h => kzx_no rfl h)
  have h := h hle
  refine kz_stv_n (M := kt_M168) (x := v2) [(0, .ref (w_adr E.2.1 4 0)), (1, va_rf (x1))] kX5_chain_c0.2.2.2.1 (Nat.le_of_ble_eq_true rfl) ⟨⟨rfl, rfl, .inl rfl⟩, ⟨⟨rfl, rfl, .inr (w_cat (x1))⟩, trivial⟩⟩ rfl ?_
  refine kz_aload_nv (M := kt_M168) (x := x1) kX5_chain_c0.2.2.2.2.1 rfl ?_
  refine kz_stv_n (M := kt_M168) (x := x1) [(0, .ref (w_adr E.2.1 4 0)), (1, va_rf (x1)), (2, va_rf (v2))] kX5_chain_c0.2.2.2.2.2.1 (Nat.le_of_ble_eq_true rfl) ⟨⟨rfl, rfl, .inl rfl⟩, ⟨⟨rfl, rfl, .inl rfl⟩, ⟨⟨rfl, rfl, .inr (w_cat (v2))⟩, trivial⟩⟩⟩ rfl ?_
  refine kz_aload_nv (M := kt_M168) (x := v2) kX5_chain_c0.2.2.2.2.2.2.1 rfl ?_
  refine kz_aload_n (M := kt_M168) kX5_chain_c0.2.2.2.2.2.2.2.1 rfl ?_
  refine kz_gfc (M := kt_M168) (x := 4) (c := 4) (o := 0) kX5_chain_c1.1 wf_X5_9 (.inl rfl) ?_
  refine kz_gfc (M := kt_M168) (x := 1259) (c := 1) (o := 0) kX5_chain_c1.2.1 wf_X5_67 (.inl rfl) ?_
  refine kz_aload_n (M := kt_M168) kX5_chain_c1.2.2.1 rfl ?_
  refine kz_gfi (M := kt_M168) (c := 4) (o := 0) kX5_chain_c1.2.2.2.1 wf_X5_29 (.inl rfl) ?_
  refine kz_iald (M := kt_M168) (c := 1) (o := 0) (k := 3) (a := (E.2.1 1259)) kX5_chain_c1.2.2.2.2.1 ow_1_0_3 oa_1_0_3 ot_0 h (fun h => ?_)
  obtain ⟨p3, hxp3, hlp3, h⟩ := h
  refine kz_nz1 (x := v2) hxp3 ?_
  refine kz_pfi (M := kt_M168) (c := 14) (o := p3) kX5_chain_c1.2.2.2.2.2.1 wq_X5_177 (.inr (by exact hlp3)) ?_
  refine kz_aload_nv (M := kt_M168) (x := v2) kX5_chain_c1.2.2.2.2.2.2.1 rfl ?_
  refine kz_aload_nv (M := kt_M168) (x := x1) kX5_chain_c1.2.2.2.2.2.2.2.1 rfl ?_
  refine kz_nz1 (x := v2) hxp3 ?_
  refine kz_pfp (M := kt_M168) (n := x1) (c := 14) (o := p3) kX5_chain_c2.1 wq_X5_162 (.inr (by exact hlp3)) ?_
  exact kz_weak [(0, .ref (w_adr E.2.1 4 0)), (2, va_rf (v2)), (3, va_rf (x1))] ⟨rfl, ⟨rfl, ⟨rfl, trivial⟩⟩⟩ rfl h
def zb_X5_isOperation_p90 (E : zE) (L : Nat) (Q : kx_Rs → wS → Prop) (y0 : Int32) (w : wS) : Prop := ((y0 = 0 ∨ y0 = 1) ∧ Q (.inl (some (.int y0))) w)
theorem zt_X5_isOperation_p90 {E : zE} {L : Nat} {Q : kx_Rs → wS → Prop} {y0 : Int32} {w : wS} (hL : 19 ≤ L) (h : zb_X5_isOperation_p90 E L Q y0 w) : kzE E L kt_M185 90 [(0, .ref (w_adr E.2.1 4 0))] [.int y0] w Q := by
  unfold zb_X5_isOperation_p90 at h
  exact kz_iretz (M := kt_M185) kX5_isOperation_c5.2.2.2.2.2.1 rfl h.1 h.2
def zb_X5_isOperation_p85 (E : zE) (L : Nat) (Q : kx_Rs → wS → Prop) (w : wS) : Prop := zb_X5_isOperation_p90 E L Q 1 w
theorem zt_X5_isOperation_p85 {E : zE} {L : Nat} {Q : kx_Rs → wS → Prop} {w : wS} (hL : 19 ≤ L) (h : zb_X5_isOperation_p85 E L Q  w) : kzE E L kt_M185 85 [(0, .ref (w_adr E.2.1 4 0))] [] w Q := by
  unfold zb_X5_isOperation_p85 at h
  refine kz_ic (M := kt_M185) 1 kX5_isOperation_c5.2.2.1 rfl ?_
  refine kz_goto (M := kt_M185) kX5_isOperation_c5.2.2.2.1 (t := 90) rfl ?_
  exact kz_weak [(0, .ref (w_adr E.2.1 4 0))] ⟨rfl, trivial⟩ rfl (zt_X5_isOperation_p90 hL  h)
def zb_X5_isOperation_p63 (E : zE) (L : Nat) (Q : kx_Rs → wS → Prop) (x1 : Int32) (w : wS) : Prop := (if x1 = 21 then zb_X5_isOperation_p85 E L Q w else (if x1 = 14 then zb_X5_isOperation_p85 E L Q w else (if x1 = 31 then zb_X5_isOperation_p85 E L Q w else (if ¬ x1 = 0 then zb_X5_isOperation_p90 E L Q 0 w else zb_X5_isOperation_p85 E L Q w))))
theorem zt_X5_isOperation_p63 {E : zE} {L : Nat} {Q : kx_Rs → wS → Prop} {x1 : Int32} {w : wS} (hL : 19 ≤ L) (h : zb_X5_isOperation_p63 E L Q x1 w) : kzE E L kt_M185 63 [(0, .ref (w_adr E.2.1 4 0)), (1, .int x1)] [] w Q := by
  unfold zb_X5_isOperation_p63 at h
  refine kz_iload_n (M := kt_M185) kX5_isOperation_c3.2.2.2.2.2.2.2.1 rfl ?_
  refine kz_bi (M := kt_M185) 21 kX5_isOperation_c4.1 rfl ?_
  refine kz_icmp_eq (M := kt_M185) kX5_isOperation_c4.2.1 (t := 85) rfl h (fun h => ?_) (fun h => ?_)
  · skip
    exact kz_weak [(0, .ref (w_adr E.2.1 4 0))] ⟨rfl, trivial⟩ rfl (zt_X5_isOperation_p85 hL  h)
  · skip
    refine kz_iload_n (M := kt_M185) kX5_isOperation_c4.2.2.1 rfl ?_
    refine kz_bi (M := kt_M185) 14 kX5_isOperation_c4.2.2.2.1 rfl ?_
    refine kz_icmp_eq (M := kt_M185) kX5_isOperation_c4.2.2.2.2.1 (t := 85) rfl h (fun h => ?_) (fun h => ?_)
    · skip
      exact kz_weak [(0, .ref (w_adr E.2.1 4 0))] ⟨rfl, trivial⟩ rfl (zt_X5_isOperation_p85 hL  h)
    · skip
      refine kz_iload_n (M := kt_M185) kX5_isOperation_c4.2.2.2.2.2.1 rfl ?_
      refine kz_bi (M := kt_M185) 31 kX5_isOperation_c4.2.2.2.2.2.2.1 rfl ?_
      refine kz_icmp_eq (M := kt_M185) kX5_isOperation_c4.2.2.2.2.2.2.2.1 (t := 85) rfl h (fun h => ?_) (fun h => ?_)
      · skip
        exact kz_weak [(0, .ref (w_adr E.2.1 4 0))] ⟨rfl, trivial⟩ rfl (zt_X5_isOperation_p85 hL  h)
      · skip
        refine kz_iload_n (M := kt_M185) kX5_isOperation_c5.1 rfl ?_
        refine kz_if_ne (M := kt_M185) kX5_isOperation_c5.2.1 (t := 89) rfl h (fun h => ?_) (fun h => ?_)
        · skip
          refine kz_ic (M := kt_M185) 0 kX5_isOperation_c5.2.2.2.2.1 rfl ?_
          exact kz_weak [(0, .ref (w_adr E.2.1 4 0))] ⟨rfl, trivial⟩ rfl (zt_X5_isOperation_p90 hL  h)
        · skip
          exact kz_weak [(0, .ref (w_adr E.2.1 4 0))] ⟨rfl, trivial⟩ rfl (zt_X5_isOperation_p85 hL  h)
def zb_X5_isOperation_p38 (E : zE) (L : Nat) (Q : kx_Rs → wS → Prop) (w : wS) : Prop := (kx_inb (w_i w 4 0 3) (w_n w 1 0 3) = true ∧ (if w_a w 1 0 3 (w_i w 4 0 3).toNatClampNeg < 47 then zb_X5_isOperation_p63 E L Q (w_a w 1 0 3 (w_i w 4 0 3).toNatClampNeg) w else (if w_a w 1 0 3 (w_i w 4 0 3).toNatClampNeg ≤ 62 then zb_X5_isOperation_p85 E L Q w else zb_X5_isOperation_p63 E L Q (w_a w 1 0 3 (w_i w 4 0 3).toNatClampNeg) w)))
theorem zt_X5_isOperation_p38 {E : zE} {L : Nat} {Q : kx_Rs → wS → Prop} {w : wS} (hL : 19 ≤ L) (h : zb_X5_isOperation_p38 E L Q  w) : kzE E L kt_M185 38 [(0, .ref (w_adr E.2.1 4 0))] [] w Q := by
  unfold zb_X5_isOperation_p38 at h
  refine kz_aload_n (M := kt_M185) kX5_isOperation_c2.2.2.1 rfl ?_
  refine kz_gfc (M := kt_M185) (x := 4) (c := 4) (o := 0) kX5_isOperation_c2.2.2.2.1 wf_X5_9 (.inl rfl) ?_
  refine kz_gfc (M := kt_M185) (x := 1259) (c := 1) (o := 0) kX5_isOperation_c2.2.2.2.2.1 wf_X5_67 (.inl rfl) ?_
  refine kz_aload_n (M := kt_M185) kX5_isOperation_c2.2.2.2.2.2.1 rfl ?_
  refine kz_gfi (M := kt_M185) (c := 4) (o := 0) kX5_isOperation_c2.2.2.2.2.2.2.1 wf_X5_29 (.inl rfl) ?_
  refine kz_iald (M := kt_M185) (c := 1) (o := 0) (k := 3) (a := (E.2.1 1259)) kX5_isOperation_c2.2.2.2.2.2.2.2.1 ow_1_0_3 oa_1_0_3 ot_0 h (fun h => ?_)
  refine kz_sti_n (M := kt_M185) [(0, .ref (w_adr E.2.1 4 0))] kX5_isOperation_c3.1 (Nat.le_of_ble_eq_true rfl) ⟨⟨rfl, rfl, .inr rfl⟩, trivial⟩ rfl ?_
  refine kz_iload_n (M := kt_M185) kX5_isOperation_c3.2.1 rfl ?_
  refine kz_bi (M := kt_M185) 47 kX5_isOperation_c3.2.2.1 rfl ?_
  refine kz_icmp_lt (M := kt_M185) kX5_isOperation_c3.2.2.2.1 (t := 63) rfl h (fun h => ?_) (fun h => ?_)
  · skip
    exact kz_weak [(0, .ref (w_adr E.2.1 4 0)), (1, .int (w_a w 1 0 3 (w_i w 4 0 3).toNatClampNeg))] ⟨rfl, ⟨rfl, trivial⟩⟩ rfl (zt_X5_isOperation_p63 hL  h)
  · skip
    refine kz_iload_n (M := kt_M185) kX5_isOperation_c3.2.2.2.2.1 rfl ?_
    refine kz_bi (M := kt_M185) 62 kX5_isOperation_c3.2.2.2.2.2.1 rfl ?_
    refine kz_icmp_le (M := kt_M185) kX5_isOperation_c3.2.2.2.2.2.2.1 (t := 85) rfl h (fun h => ?_) (fun h => ?_)
    · skip
      exact kz_weak [(0, .ref (w_adr E.2.1 4 0))] ⟨rfl, trivial⟩ rfl (zt_X5_isOperation_p85 hL  h)
    · skip
      exact kz_weak [(0, .ref (w_adr E.2.1 4 0)), (1, .int (w_a w 1 0 3 (w_i w 4 0 3).toNatClampNeg))] ⟨rfl, ⟨rfl, trivial⟩⟩ rfl (zt_X5_isOperation_p63 hL  h)
def zb_X5_isOperation_p0 (E : zE) (L : Nat) (Q : kx_Rs → wS → Prop) (w : wS) : Prop := (kx_inb (w_i w 4 0 3) (w_n w 1 0 2) = true ∧ (if w_r w 1 0 2 (w_i w 4 0 3).toNatClampNeg = some (E.1.1 0) then zb_X5_isOperation_p38 E L Q w else (kx_inb (w_i w 4 0 3) (w_n w 1 0 2) = true ∧ (if w_r w 1 0 2 (w_i w 4 0 3).toNatClampNeg = some (E.1.1 5) then zb_X5_isOperation_p38 E L Q w else Q (.inl (some (.int 0))) w))))
theorem zt_X5_isOperation_p0 {E : zE} {L : Nat} {Q : kx_Rs → wS → Prop} {w : wS} (hL : 19 ≤ L) (h : zb_X5_isOperation_p0 E L Q  w) : kzE E L kt_M185 0 [(0, .ref (w_adr E.2.1 4 0))] [] w Q := by
  unfold zb_X5_isOperation_p0 at h
  refine kz_aload_n (M := kt_M185) kX5_isOperation_c0.1 rfl ?_
  refine kz_gfc (M := kt_M185) (x := 4) (c := 4) (o := 0) kX5_isOperation_c0.2.1 wf_X5_9 (.inl rfl) ?_
  refine kz_gfc (M := kt_M185) (x := 1258) (c := 1) (o := 0) kX5_isOperation_c0.2.2.1 wf_X5_48 (.inl rfl) ?_
  refine kz_aload_n (M := kt_M185) kX5_isOperation_c0.2.2.2.1 rfl ?_
  refine kz_gfi (M := kt_M185) (c := 4) (o := 0) kX5_isOperation_c0.2.2.2.2.1 wf_X5_29 (.inl rfl) ?_
  refine kz_aald (M := kt_M185) (τ := 0) (c := 1) (o := 0) (k := 2) (a := (E.2.1 1258)) kX5_isOperation_c0.2.2.2.2.2.1 ow_1_0_2 oa_1_0_2 ot_4 rfl h (fun h => ?_)
  refine kz_getsE (M := kt_M185) (v := va_rf (some (E.1.1 0))) kX5_isOperation_c0.2.2.2.2.2.2.1 zs_X5_61 ?_
  refine kz_acmp_eq (M := kt_M185) (x := w_r w 1 0 2 (w_i w 4 0 3).toNatClampNeg) (y := some (E.1.1 0)) kX5_isOperation_c0.2.2.2.2.2.2.2.1 (t := 38) rfl h (fun h => ?_) (fun h => ?_)
  · skip
    exact kz_weak [(0, .ref (w_adr E.2.1 4 0))] ⟨rfl, trivial⟩ rfl (zt_X5_isOperation_p38 hL  h)
  · skip
    refine kz_aload_n (M := kt_M185) kX5_isOperation_c1.1 rfl ?_
    refine kz_gfc (M := kt_M185) (x := 4) (c := 4) (o := 0) kX5_isOperation_c1.2.1 wf_X5_9 (.inl rfl) ?_
    refine kz_gfc (M := kt_M185) (x := 1258) (c := 1) (o := 0) kX5_isOperation_c1.2.2.1 wf_X5_48 (.inl rfl) ?_
    refine kz_aload_n (M := kt_M185) kX5_isOperation_c1.2.2.2.1 rfl ?_
    refine kz_gfi (M := kt_M185) (c := 4) (o := 0) kX5_isOperation_c1.2.2.2.2.1 wf_X5_29 (.inl rfl) ?_
    refine kz_aald (M := kt_M185) (τ := 0) (c := 1) (o := 0) (k := 2) (a := (E.2.1 1258)) kX5_isOperation_c1.2.2.2.2.2.1 ow_1_0_2 oa_1_0_2 ot_4 rfl h (fun h => ?_)
    refine kz_getsE (M := kt_M185) (v := va_rf (some (E.1.1 5))) kX5_isOperation_c1.2.2.2.2.2.2.1 zs_X5_64 ?_
    refine kz_acmp_eq (M := kt_M185) (x := w_r w 1 0 2 (w_i w 4 0 3).toNatClampNeg) (y := some (E.1.1 5)) kX5_isOperation_c1.2.2.2.2.2.2.2.1 (t := 38) rfl h (fun h => ?_) (fun h => ?_)
    · skip
      exact kz_weak [(0, .ref (w_adr E.2.1 4 0))] ⟨rfl, trivial⟩ rfl (zt_X5_isOperation_p38 hL  h)
    · skip
      refine kz_ic (M := kt_M185) 0 kX5_isOperation_c2.1 rfl ?_
      exact kz_iretz (M := kt_M185) kX5_isOperation_c2.2.1 rfl (by decide) h
