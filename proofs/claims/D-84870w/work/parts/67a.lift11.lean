/-! ===== methods over the typed state (printed by tools/gen_lift.py) ===== -/
set_option maxRecDepth 100000
theorem zac_X11_49 {E : zE} : wAc (zV E) "MeetingHouse$Machine" 49 := ⟨(show kt_get kt_mlA "MeetingHouse$Machine" 49 = some arraycopyName from by decide +kernel), zac_n, zac_s, zac_i⟩
theorem zc_X11_240 {adE adK adV : Nat → Nat} {zr : Nat → Value} {b L0 : Nat} {xs : Nat → Int32} {lo : Nat} : kx_cL (kw_V adE adK adV zr b L0 xs lo) "MeetingHouse$Machine" 240 = some 4294967295 := by
  show kt_get kt_cLA "MeetingHouse$Machine" 240 = _
  decide +kernel
theorem zc_X11_326 {adE adK adV : Nat → Nat} {zr : Nat → Value} {b L0 : Nat} {xs : Nat → Int32} {lo : Nat} : kx_ci (kw_V adE adK adV zr b L0 xs lo) "MeetingHouse$Machine" 326 = some (-2147483648) := by
  show kt_get kt_ciA "MeetingHouse$Machine" 326 = _
  decide +kernel
theorem wfn_X11_357 {E : zE} : wFn (zV E) wG "MeetingHouse$Machine" 357 11 2 3 := ⟨(show kt_get kt_flA "MeetingHouse$Machine" 357 = none from by decide +kernel), ("MeetingHouse$Memory", "size", "[I"), "MeetingHouse", RX12, TX12, 12, (show kx_fn kw_Ns "MeetingHouse$Machine" 357 = _ from by decide +kernel), rfl, by decide +kernel, by decide +kernel, by decide +kernel⟩
theorem wfn_X11_363 {E : zE} : wFn (zV E) wG "MeetingHouse$Machine" 363 9 1 0 := ⟨(show kt_get kt_flA "MeetingHouse$Machine" 363 = none from by decide +kernel), ("MeetingHouse$Row", "many", "I"), "MeetingHouse", RX10, TX10, 2, (show kx_fn kw_Ns "MeetingHouse$Machine" 363 = _ from by decide +kernel), rfl, by decide +kernel, by decide +kernel, by decide +kernel⟩
theorem zs_X11_119 {E : zE} : ∃ r n d, kx_fl (zV E) "MeetingHouse$Machine" 119 = some (r, n, d) ∧ kx_sv (zV E) r n d = some (va_rf (some (E.1.1 65))) := ⟨_, _, _, (show kt_get kt_flA "MeetingHouse$Machine" 119 = some ("MeetingHouse$State", "STOPPED", "LMeetingHouse$State;") from by decide +kernel), kx_sv_E.trans (kw_sv_en zen_65)⟩
theorem zs_X11_154 {E : zE} : ∃ r n d, kx_fl (zV E) "MeetingHouse$Machine" 154 = some (r, n, d) ∧ kx_sv (zV E) r n d = some (va_rf (some (E.1.1 61))) := ⟨_, _, _, (show kt_get kt_flA "MeetingHouse$Machine" 154 = some ("MeetingHouse$State", "READY", "LMeetingHouse$State;") from by decide +kernel), kx_sv_E.trans (kw_sv_en zen_61)⟩
theorem zs_X11_221 {E : zE} : ∃ r n d, kx_fl (zV E) "MeetingHouse$Machine" 221 = some (r, n, d) ∧ kx_sv (zV E) r n d = some (va_rf (some (E.1.1 62))) := ⟨_, _, _, (show kt_get kt_flA "MeetingHouse$Machine" 221 = some ("MeetingHouse$State", "TIME", "LMeetingHouse$State;") from by decide +kernel), kx_sv_E.trans (kw_sv_en zen_62)⟩
theorem zs_X11_231 {E : zE} : ∃ r n d, kx_fl (zV E) "MeetingHouse$Machine" 231 = some (r, n, d) ∧ kx_sv (zV E) r n d = some (va_rf (some (E.1.1 63))) := ⟨_, _, _, (show kt_get kt_flA "MeetingHouse$Machine" 231 = some ("MeetingHouse$State", "CHOOSES", "LMeetingHouse$State;") from by decide +kernel), kx_sv_E.trans (kw_sv_en zen_63)⟩
theorem zs_X11_246 {E : zE} : ∃ r n d, kx_fl (zV E) "MeetingHouse$Machine" 246 = some (r, n, d) ∧ kx_sv (zV E) r n d = some (va_rf (some (E.1.1 64))) := ⟨_, _, _, (show kt_get kt_flA "MeetingHouse$Machine" 246 = some ("MeetingHouse$State", "KEY", "LMeetingHouse$State;") from by decide +kernel), kx_sv_E.trans (kw_sv_en zen_64)⟩
theorem zs_X11_437 {E : zE} : ∃ r n d, kx_fl (zV E) "MeetingHouse$Machine" 437 = some (r, n, d) ∧ kx_sv (zV E) r n d = some (va_rf (some (E.1.1 66))) := ⟨_, _, _, (show kt_get kt_flA "MeetingHouse$Machine" 437 = some ("MeetingHouse$State", "WRITES", "LMeetingHouse$State;") from by decide +kernel), kx_sv_E.trans (kw_sv_en zen_66)⟩
theorem zmn_X11_371 : kx_mn kw_Ns "MeetingHouse$Machine" 371 = some (kt_M124.1, "MeetingHouse") := by decide +kernel
theorem wln_X11_371 {E : zE} : wLn (zV E) "MeetingHouse$Machine" 371 kt_M124 2 := ⟨(show kt_get kt_mlA "MeetingHouse$Machine" 371 = none from by decide +kernel), ⟨_, zmn_X11_371⟩, kx_md_at (M' := kt_M124) (by decide +kernel), by decide +kernel, rfl⟩
theorem wq_X11_110 {adE adK adV : Nat → Nat} {zr : Nat → Value} {b L0 : Nat} {xs : Nat → Int32} {lo : Nat} : wP (kw_V adE adK adV zr b L0 xs lo) wG "MeetingHouse$Machine" 110 10 21 2 (.object "MeetingHouse$Task") := wPb_ok (by decide +kernel) wf_X11_110 (r := "MeetingHouse$Machine") (n := "task") (d := "LMeetingHouse$Task;") (by decide +kernel) (by decide +kernel)
theorem wq_X11_113 {adE adK adV : Nat → Nat} {zr : Nat → Value} {b L0 : Nat} {xs : Nat → Int32} {lo : Nat} : wP (kw_V adE adK adV zr b L0 xs lo) wG "MeetingHouse$Machine" 113 17 1 0 .int := wPb_ok (by decide +kernel) wf_X11_113 (r := "MeetingHouse$Task") (n := "pc") (d := "I") (by decide +kernel) (by decide +kernel)
theorem wq_X11_114 {adE adK adV : Nat → Nat} {zr : Nat → Value} {b L0 : Nat} {xs : Nat → Int32} {lo : Nat} : wP (kw_V adE adK adV zr b L0 xs lo) wG "MeetingHouse$Machine" 114 10 26 0 .int := wPb_ok (by decide +kernel) wf_X11_114 (r := "MeetingHouse$Machine") (n := "frame") (d := "I") (by decide +kernel) (by decide +kernel)
theorem wq_X11_115 {adE adK adV : Nat → Nat} {zr : Nat → Value} {b L0 : Nat} {xs : Nat → Int32} {lo : Nat} : wP (kw_V adE adK adV zr b L0 xs lo) wG "MeetingHouse$Machine" 115 10 31 0 .boolean := wPb_ok (by decide +kernel) wf_X11_115 (r := "MeetingHouse$Machine") (n := "goes") (d := "Z") (by decide +kernel) (by decide +kernel)
theorem wq_X11_125 {adE adK adV : Nat → Nat} {zr : Nat → Value} {b L0 : Nat} {xs : Nat → Int32} {lo : Nat} : wP (kw_V adE adK adV zr b L0 xs lo) wG "MeetingHouse$Machine" 125 17 9 2 (.object "MeetingHouse$State") := wPb_ok (by decide +kernel) wf_X11_125 (r := "MeetingHouse$Task") (n := "state") (d := "LMeetingHouse$State;") (by decide +kernel) (by decide +kernel)
theorem wq_X11_128 {adE adK adV : Nat → Nat} {zr : Nat → Value} {b L0 : Nat} {xs : Nat → Int32} {lo : Nat} : wP (kw_V adE adK adV zr b L0 xs lo) wG "MeetingHouse$Machine" 128 17 4 0 .int := wPb_ok (by decide +kernel) wf_X11_128 (r := "MeetingHouse$Task") (n := "fault") (d := "I") (by decide +kernel) (by decide +kernel)
theorem wq_X11_135 {adE adK adV : Nat → Nat} {zr : Nat → Value} {b L0 : Nat} {xs : Nat → Int32} {lo : Nat} : wP (kw_V adE adK adV zr b L0 xs lo) wG "MeetingHouse$Machine" 135 10 27 0 .int := wPb_ok (by decide +kernel) wf_X11_135 (r := "MeetingHouse$Machine") (n := "depth") (d := "I") (by decide +kernel) (by decide +kernel)
theorem wq_X11_161 {adE adK adV : Nat → Nat} {zr : Nat → Value} {b L0 : Nat} {xs : Nat → Int32} {lo : Nat} : wP (kw_V adE adK adV zr b L0 xs lo) wG "MeetingHouse$Machine" 161 17 17 0 .int := wPb_ok (by decide +kernel) wf_X11_161 (r := "MeetingHouse$Task") (n := "temporaryMany") (d := "I") (by decide +kernel) (by decide +kernel)
theorem wq_X11_183 {adE adK adV : Nat → Nat} {zr : Nat → Value} {b L0 : Nat} {xs : Nat → Int32} {lo : Nat} : wP (kw_V adE adK adV zr b L0 xs lo) wG "MeetingHouse$Machine" 183 10 10 0 .int := wPb_ok (by decide +kernel) wf_X11_183 (r := "MeetingHouse$Machine") (n := "cells") (d := "I") (by decide +kernel) (by decide +kernel)
theorem wq_X11_186 {adE adK adV : Nat → Nat} {zr : Nat → Value} {b L0 : Nat} {xs : Nat → Int32} {lo : Nat} : wP (kw_V adE adK adV zr b L0 xs lo) wG "MeetingHouse$Machine" 186 10 11 0 .int := wPb_ok (by decide +kernel) wf_X11_186 (r := "MeetingHouse$Machine") (n := "outputs") (d := "I") (by decide +kernel) (by decide +kernel)
theorem wq_X11_189 {adE adK adV : Nat → Nat} {zr : Nat → Value} {b L0 : Nat} {xs : Nat → Int32} {lo : Nat} : wP (kw_V adE adK adV zr b L0 xs lo) wG "MeetingHouse$Machine" 189 10 12 0 .int := wPb_ok (by decide +kernel) wf_X11_189 (r := "MeetingHouse$Machine") (n := "inputs") (d := "I") (by decide +kernel) (by decide +kernel)
theorem wq_X11_192 {adE adK adV : Nat → Nat} {zr : Nat → Value} {b L0 : Nat} {xs : Nat → Int32} {lo : Nat} : wP (kw_V adE adK adV zr b L0 xs lo) wG "MeetingHouse$Machine" 192 10 19 0 .int := wPb_ok (by decide +kernel) wf_X11_192 (r := "MeetingHouse$Machine") (n := "endedMany") (d := "I") (by decide +kernel) (by decide +kernel)
theorem wq_X11_198 {adE adK adV : Nat → Nat} {zr : Nat → Value} {b L0 : Nat} {xs : Nat → Int32} {lo : Nat} : wP (kw_V adE adK adV zr b L0 xs lo) wG "MeetingHouse$Machine" 198 10 28 0 .int := wPb_ok (by decide +kernel) wf_X11_198 (r := "MeetingHouse$Machine") (n := "fuel") (d := "I") (by decide +kernel) (by decide +kernel)
theorem wq_X11_201 {adE adK adV : Nat → Nat} {zr : Nat → Value} {b L0 : Nat} {xs : Nat → Int32} {lo : Nat} : wP (kw_V adE adK adV zr b L0 xs lo) wG "MeetingHouse$Machine" 201 10 22 2 (.object "MeetingHouse$Task") := wPb_ok (by decide +kernel) wf_X11_201 (r := "MeetingHouse$Machine") (n := "partner") (d := "LMeetingHouse$Task;") (by decide +kernel) (by decide +kernel)
theorem wq_X11_214 {adE adK adV : Nat → Nat} {zr : Nat → Value} {b L0 : Nat} {xs : Nat → Int32} {lo : Nat} : wP (kw_V adE adK adV zr b L0 xs lo) wG "MeetingHouse$Machine" 214 10 20 0 .int := wPb_ok (by decide +kernel) wf_X11_214 (r := "MeetingHouse$Machine") (n := "program") (d := "I") (by decide +kernel) (by decide +kernel)
theorem wq_X11_224 {adE adK adV : Nat → Nat} {zr : Nat → Value} {b L0 : Nat} {xs : Nat → Int32} {lo : Nat} : wP (kw_V adE adK adV zr b L0 xs lo) wG "MeetingHouse$Machine" 224 17 7 0 .int := wPb_ok (by decide +kernel) wf_X11_224 (r := "MeetingHouse$Task") (n := "time") (d := "I") (by decide +kernel) (by decide +kernel)
theorem wq_X11_234 {adE adK adV : Nat → Nat} {zr : Nat → Value} {b L0 : Nat} {xs : Nat → Int32} {lo : Nat} : wP (kw_V adE adK adV zr b L0 xs lo) wG "MeetingHouse$Machine" 234 17 16 0 .int := wPb_ok (by decide +kernel) wf_X11_234 (r := "MeetingHouse$Task") (n := "guardMany") (d := "I") (by decide +kernel) (by decide +kernel)
theorem wq_X11_270 {adE adK adV : Nat → Nat} {zr : Nat → Value} {b L0 : Nat} {xs : Nat → Int32} {lo : Nat} : wP (kw_V adE adK adV zr b L0 xs lo) wG "MeetingHouse$Machine" 270 17 19 0 .boolean := wPb_ok (by decide +kernel) wf_X11_270 (r := "MeetingHouse$Task") (n := "resumes") (d := "Z") (by decide +kernel) (by decide +kernel)
theorem wq_X11_273 {adE adK adV : Nat → Nat} {zr : Nat → Value} {b L0 : Nat} {xs : Nat → Int32} {lo : Nat} : wP (kw_V adE adK adV zr b L0 xs lo) wG "MeetingHouse$Machine" 273 17 3 0 .int := wPb_ok (by decide +kernel) wf_X11_273 (r := "MeetingHouse$Task") (n := "line") (d := "I") (by decide +kernel) (by decide +kernel)
theorem wq_X11_35 {adE adK adV : Nat → Nat} {zr : Nat → Value} {b L0 : Nat} {xs : Nat → Int32} {lo : Nat} : wP (kw_V adE adK adV zr b L0 xs lo) wG "MeetingHouse$Machine" 35 10 18 3 (.array .int) := wPb_ok (by decide +kernel) wf_X11_35 (r := "MeetingHouse$Machine") (n := "ended") (d := "[I") (by decide +kernel) (by decide +kernel)
theorem wq_X11_38 {adE adK adV : Nat → Nat} {zr : Nat → Value} {b L0 : Nat} {xs : Nat → Int32} {lo : Nat} : wP (kw_V adE adK adV zr b L0 xs lo) wG "MeetingHouse$Machine" 38 10 30 3 (.array .int) := wPb_ok (by decide +kernel) wf_X11_38 (r := "MeetingHouse$Machine") (n := "operands") (d := "[I") (by decide +kernel) (by decide +kernel)
theorem wq_X11_400 {adE adK adV : Nat → Nat} {zr : Nat → Value} {b L0 : Nat} {xs : Nat → Int32} {lo : Nat} : wP (kw_V adE adK adV zr b L0 xs lo) wG "MeetingHouse$Machine" 400 17 8 0 .int := wPb_ok (by decide +kernel) wf_X11_400 (r := "MeetingHouse$Task") (n := "calls") (d := "I") (by decide +kernel) (by decide +kernel)
theorem wq_X11_434 {adE adK adV : Nat → Nat} {zr : Nat → Value} {b L0 : Nat} {xs : Nat → Int32} {lo : Nat} : wP (kw_V adE adK adV zr b L0 xs lo) wG "MeetingHouse$Machine" 434 17 6 0 .int := wPb_ok (by decide +kernel) wf_X11_434 (r := "MeetingHouse$Task") (n := "channel") (d := "I") (by decide +kernel) (by decide +kernel)
theorem wq_X11_45 {adE adK adV : Nat → Nat} {zr : Nat → Value} {b L0 : Nat} {xs : Nat → Int32} {lo : Nat} : wP (kw_V adE adK adV zr b L0 xs lo) wG "MeetingHouse$Machine" 45 10 29 0 .int := wPb_ok (by decide +kernel) wf_X11_45 (r := "MeetingHouse$Machine") (n := "ops") (d := "I") (by decide +kernel) (by decide +kernel)
theorem wq_X11_59 {adE adK adV : Nat → Nat} {zr : Nat → Value} {b L0 : Nat} {xs : Nat → Int32} {lo : Nat} : wP (kw_V adE adK adV zr b L0 xs lo) wG "MeetingHouse$Machine" 59 10 25 0 .int := wPb_ok (by decide +kernel) wf_X11_59 (r := "MeetingHouse$Machine") (n := "pc") (d := "I") (by decide +kernel) (by decide +kernel)
theorem wq_X11_91 {adE adK adV : Nat → Nat} {zr : Nat → Value} {b L0 : Nat} {xs : Nat → Int32} {lo : Nat} : wP (kw_V adE adK adV zr b L0 xs lo) wG "MeetingHouse$Machine" 91 17 2 0 .int := wPb_ok (by decide +kernel) wf_X11_91 (r := "MeetingHouse$Task") (n := "frame") (d := "I") (by decide +kernel) (by decide +kernel)
def zb_X11_how_p62 (E : zE) (L : Nat) (Q : kx_Rs → wS → Prop) (y0 : Int32) (w : wS) : Prop := Q (.inl (some (.int y0))) w
theorem zt_X11_how_p62 {E : zE} {L : Nat} {Q : kx_Rs → wS → Prop} {y0 : Int32} {w : wS} (hL : 25 ≤ L) (h : zb_X11_how_p62 E L Q y0 w) : kzE E L kt_M75 62 [(0, .ref (w_adr E.2.1 10 0))] [.int y0] w Q := by
  unfold zb_X11_how_p62 at h
  exact kz_iret (M := kt_M75) kX11_how_c4.1 rfl rfl h
def zb_X11_how_p46 (E : zE) (L : Nat) (Q : kx_Rs → wS → Prop) (w : wS) : Prop := zb_X11_how_p62 E L Q 1 w
theorem zt_X11_how_p46 {E : zE} {L : Nat} {Q : kx_Rs → wS → Prop} {w : wS} (hL : 25 ≤ L) (h : zb_X11_how_p46 E L Q  w) : kzE E L kt_M75 46 [(0, .ref (w_adr E.2.1 10 0))] [] w Q := by
  unfold zb_X11_how_p46 at h
  refine kz_ic (M := kt_M75) 1 kX11_how_c3.1 rfl ?_
  refine kz_goto (M := kt_M75) kX11_how_c3.2.1 (t := 62) rfl ?_
  exact kz_weak [(0, .ref (w_adr E.2.1 10 0))] ⟨rfl, trivial⟩ rfl (zt_X11_how_p62 hL  h)
def zb_X11_how_p28 (E : zE) (L : Nat) (Q : kx_Rs → wS → Prop) (w : wS) : Prop := Q (.inl (some (.int 2))) w
theorem zt_X11_how_p28 {E : zE} {L : Nat} {Q : kx_Rs → wS → Prop} {w : wS} (hL : 25 ≤ L) (h : zb_X11_how_p28 E L Q  w) : kzE E L kt_M75 28 [(0, .ref (w_adr E.2.1 10 0))] [] w Q := by
  unfold zb_X11_how_p28 at h
  refine kz_ic (M := kt_M75) 2 kX11_how_c1.2.2.2.2.2.2.1 rfl ?_
  exact kz_iret (M := kt_M75) kX11_how_c1.2.2.2.2.2.2.2.1 rfl rfl h
def zb_X11_how_p0 (E : zE) (L : Nat) (Q : kx_Rs → wS → Prop) (w : wS) : Prop := (if ¬ w_i w 10 0 14 = 0 then (if w_i w 10 0 4 = 0 then zb_X11_how_p28 E L Q w else (kx_inb 0 (w_n w 10 0 3) = true ∧ (∃ p1, w_r w 10 0 3 (0 : Int32).toNatClampNeg = some p1 ∧ w_l w E.2.1 17 p1 ∧ (if w_i w 17 p1 0 = 0 then zw E (L - 22) kt_M99 [.ref (w_adr E.2.1 10 0)] w (wk1 (fun v3 w2 => wle w w2 → (if 0 < v3 then zb_X11_how_p46 E L Q w2 else zw E (L - 25) kt_M86 [.ref (w_adr E.2.1 10 0)] w2 (wkl (fun v5 w4 => wle w2 w4 → (if (lg_cmp v5 0) ≤ 0 then zw E (L - 23) kt_M116 [.ref (w_adr E.2.1 10 0)] w4 (wk1 (fun v7 w6 => wle w4 w6 → (if v7 = 0 then zb_X11_how_p62 E L Q 3 w6 else zb_X11_how_p62 E L Q 4 w6)) (fun e w => Q (.inr e) w)) else zb_X11_how_p46 E L Q w4)) (fun e w => Q (.inr e) w)))) (fun e w => Q (.inr e) w)) else zb_X11_how_p28 E L Q w)))) else Q (.inl (some (.int 0))) w)
theorem zt_X11_how_p0 {E : zE} {L : Nat} {Q : kx_Rs → wS → Prop} {w : wS} (hL : 25 ≤ L) (h : zb_X11_how_p0 E L Q  w) : kzE E L kt_M75 0 [(0, .ref (w_adr E.2.1 10 0))] [] w Q := by
  unfold zb_X11_how_p0 at h
  refine kz_aload_n (M := kt_M75) kX11_how_c0.1 rfl ?_
  refine kz_gfi (M := kt_M75) (c := 10) (o := 0) kX11_how_c0.2.1 wf_X11_207 (.inl rfl) ?_
  refine kz_if_ne (M := kt_M75) kX11_how_c0.2.2.1 (t := 9) rfl h (fun h => ?_) (fun h => ?_)
  · skip
    refine kz_aload_n (M := kt_M75) kX11_how_c0.2.2.2.2.2.1 rfl ?_
    refine kz_gfi (M := kt_M75) (c := 10) (o := 0) kX11_how_c0.2.2.2.2.2.2.1 wf_X11_107 (.inl rfl) ?_
    refine kz_if_eq (M := kt_M75) kX11_how_c0.2.2.2.2.2.2.2.1 (t := 28) rfl h (fun h => ?_) (fun h => ?_)
    · skip
      exact kz_weak [(0, .ref (w_adr E.2.1 10 0))] ⟨rfl, trivial⟩ rfl (zt_X11_how_p28 hL  h)
    · skip
      refine kz_aload_n (M := kt_M75) kX11_how_c1.1 rfl ?_
      refine kz_gfc (M := kt_M75) (x := 3563) (c := 10) (o := 0) kX11_how_c1.2.1 wf_X11_20 (.inl rfl) ?_
      refine kz_ic (M := kt_M75) 0 kX11_how_c1.2.2.1 rfl ?_
      refine kz_aald (M := kt_M75) (τ := 4) (c := 10) (o := 0) (k := 3) (a := (E.2.1 3563)) kX11_how_c1.2.2.2.1 ow_10_0_3 oa_10_0_3 ot_8 rfl h (fun h => ?_)
      obtain ⟨p1, hxp1, hlp1, h⟩ := h
      refine kz_nz0 (x := w_r w 10 0 3 (0 : Int32).toNatClampNeg) hxp1 ?_
      refine kz_gfi (M := kt_M75) (c := 17) (o := p1) kX11_how_c1.2.2.2.2.1 wf_X11_249 (.inr (by exact hlp1)) ?_
      refine kz_if_eq (M := kt_M75) kX11_how_c1.2.2.2.2.2.1 (t := 30) rfl h (fun h => ?_) (fun h => ?_)
      · skip
        refine kz_aload_n (M := kt_M75) kX11_how_c2.1 rfl ?_
        refine kz_cv1 (M := kt_M75) (c := 10) (o := 0) (As := []) (rest := []) kX11_how_c2.2.1 wl_X11_252 wMv_99 rfl (.inl rfl) rfl (Nat.le_trans (Nat.le_of_ble_eq_true rfl) hL) (Nat.le_of_ble_eq_true rfl) (Nat.le_of_ble_eq_true rfl) h (fun v3 w2 hle h => ?_) (fun _ _ _ h => kzx_no rfl h)
        have h := h hle
        have hlp1 := w_l_le hlp1 hle
        refine kz_if_gt (M := kt_M75) kX11_how_c2.2.2.1 (t := 46) rfl h (fun h => ?_) (fun h => ?_)
        · skip
          exact kz_weak [(0, .ref (w_adr E.2.1 10 0))] ⟨rfl, trivial⟩ rfl (zt_X11_how_p46 hL  h)
        · skip
          refine kz_aload_n (M := kt_M75) kX11_how_c2.2.2.2.1 rfl ?_
          refine kz_cvl (M := kt_M75) (c := 10) (o := 0) (As := []) (rest := []) kX11_how_c2.2.2.2.2.1 wl_X11_256 wMv_86 rfl (.inl rfl) rfl (Nat.le_trans (Nat.le_of_ble_eq_true rfl) hL) (Nat.le_of_ble_eq_true rfl) (Nat.le_of_ble_eq_true rfl) h (fun v5 w4 hle h => ?_) (fun _ _ _ h => kzx_no rfl h)
          have h := h hle
          have hlp1 := w_l_le hlp1 hle
          refine kz_lconst (M := kt_M75) kX11_how_c2.2.2.2.2.2.1 ?_
          refine kz_lcmp (M := kt_M75) kX11_how_c2.2.2.2.2.2.2.1 ?_
          refine kz_if_le (M := kt_M75) kX11_how_c2.2.2.2.2.2.2.2.1 (t := 50) rfl h (fun h => ?_) (fun h => ?_)
          · skip
            refine kz_aload_n (M := kt_M75) kX11_how_c3.2.2.1 rfl ?_
            refine kz_cv1 (M := kt_M75) (c := 10) (o := 0) (As := []) (rest := []) kX11_how_c3.2.2.2.1 wl_X11_260 wMv_116 rfl (.inl rfl) rfl (Nat.le_trans (Nat.le_of_ble_eq_true rfl) hL) (Nat.le_of_ble_eq_true rfl) (Nat.le_of_ble_eq_true rfl) h (fun v7 w6 hle h => ?_) (fun _ _ _ h => kzx_no rfl h)
            have h := h hle
            have hlp1 := w_l_le hlp1 hle
            refine kz_if_eq (M := kt_M75) kX11_how_c3.2.2.2.2.1 (t := 61) rfl h (fun h => ?_) (fun h => ?_)
            · skip
              refine kz_ic (M := kt_M75) 3 kX11_how_c3.2.2.2.2.2.2.2.1 rfl ?_
              exact kz_weak [(0, .ref (w_adr E.2.1 10 0))] ⟨rfl, trivial⟩ rfl (zt_X11_how_p62 hL  h)
            · skip
              refine kz_ic (M := kt_M75) 4 kX11_how_c3.2.2.2.2.2.1 rfl ?_
              refine kz_goto (M := kt_M75) kX11_how_c3.2.2.2.2.2.2.1 (t := 62) rfl ?_
              exact kz_weak [(0, .ref (w_adr E.2.1 10 0))] ⟨rfl, trivial⟩ rfl (zt_X11_how_p62 hL  h)
          · skip
            exact kz_weak [(0, .ref (w_adr E.2.1 10 0))] ⟨rfl, trivial⟩ rfl (zt_X11_how_p46 hL  h)
      · skip
        exact kz_weak [(0, .ref (w_adr E.2.1 10 0))] ⟨rfl, trivial⟩ rfl (zt_X11_how_p28 hL  h)
  · skip
    refine kz_ic (M := kt_M75) 0 kX11_how_c0.2.2.2.1 rfl ?_
    exact kz_iret (M := kt_M75) kX11_how_c0.2.2.2.2.1 rfl rfl h
def zL_X11_ready_p4 (E : zE) (L : Nat) (Q : kx_Rs → wS → Prop) (x1 : Int32) (x2 : Int32) (w : wS) : Prop := kzE E L kt_M99 4 [(0, .ref (w_adr E.2.1 10 0)), (1, .int x1), (2, .int x2)] [] w Q
def zb_X11_ready_p33 (E : zE) (L : Nat) (Q : kx_Rs → wS → Prop) (x2 : Int32) (y0 : Int32) (y1 : Int32) (w : wS) : Prop := zL_X11_ready_p4 E L Q (y1 + y0) (x2 + 1) w
theorem zt_X11_ready_p33 {E : zE} {L : Nat} {Q : kx_Rs → wS → Prop} {x2 : Int32} {y0 : Int32} {y1 : Int32} {w : wS} (hL : 19 ≤ L) (h : zb_X11_ready_p33 E L Q x2 y0 y1 w) : kzE E L kt_M99 33 [(0, .ref (w_adr E.2.1 10 0)), (2, .int x2)] [.int y0, .int y1] w Q := by
  unfold zb_X11_ready_p33 at h
  refine kz_iadd (M := kt_M99) kX11_ready_c2.2.2.2.1 ?_
  refine kz_sti_n (M := kt_M99) [(0, .ref (w_adr E.2.1 10 0)), (2, .int x2)] kX11_ready_c2.2.2.2.2.1 (Nat.le_of_ble_eq_true rfl) ⟨⟨rfl, rfl, .inr rfl⟩, ⟨⟨rfl, rfl, .inl rfl⟩, trivial⟩⟩ rfl ?_
  refine kz_inc (M := kt_M99) [(0, .ref (w_adr E.2.1 10 0)), (1, .int (y1 + y0))] kX11_ready_c2.2.2.2.2.2.1 rfl (Nat.le_of_ble_eq_true rfl) ⟨⟨rfl, rfl, .inl rfl⟩, ⟨⟨rfl, rfl, .inr rfl⟩, trivial⟩⟩ rfl ?_
  refine kz_goto (M := kt_M99) kX11_ready_c2.2.2.2.2.2.2.1 (t := 4) rfl ?_
  exact kz_weak [(0, .ref (w_adr E.2.1 10 0)), (1, .int (y1 + y0)), (2, .int (x2 + 1))] ⟨rfl, ⟨rfl, ⟨rfl, trivial⟩⟩⟩ rfl h
def zb_X11_ready_p4 (E : zE) (L : Nat) (Q : kx_Rs → wS → Prop) (x1 : Int32) (x2 : Int32) (w : wS) : Prop := (if w_i w 10 0 4 ≤ x2 then Q (.inl (some (.int x1))) w else (kx_inb x2 (w_n w 10 0 3) = true ∧ (∃ p1, w_r w 10 0 3 (x2).toNatClampNeg = some p1 ∧ w_l w E.2.1 17 p1 ∧ (if ¬ w_p w 17 p1 9 = some (E.1.1 61) then zb_X11_ready_p33 E L Q x2 0 x1 w else zb_X11_ready_p33 E L Q x2 1 x1 w))))
theorem zt_X11_ready_p4 {E : zE} {L : Nat} {Q : kx_Rs → wS → Prop} {x1 : Int32} {x2 : Int32} {w : wS} (hL : 19 ≤ L) (h : zb_X11_ready_p4 E L Q x1 x2 w) : kzE E L kt_M99 4 [(0, .ref (w_adr E.2.1 10 0)), (1, .int x1), (2, .int x2)] [] w Q := by
  unfold zb_X11_ready_p4 at h
  refine kz_iload_n (M := kt_M99) kX11_ready_c0.2.2.2.2.1 rfl ?_
  refine kz_aload_n (M := kt_M99) kX11_ready_c0.2.2.2.2.2.1 rfl ?_
  refine kz_gfi (M := kt_M99) (c := 10) (o := 0) kX11_ready_c0.2.2.2.2.2.2.1 wf_X11_107 (.inl rfl) ?_
  refine kz_icmp_ge (M := kt_M99) kX11_ready_c0.2.2.2.2.2.2.2.1 (t := 41) rfl h (fun h => ?_) (fun h => ?_)
  · skip
    refine kz_iload_n (M := kt_M99) kX11_ready_c2.2.2.2.2.2.2.2.1 rfl ?_
    exact kz_iret (M := kt_M99) kX11_ready_c3.1 rfl rfl h
  · skip
    refine kz_iload_n (M := kt_M99) kX11_ready_c1.1 rfl ?_
    refine kz_aload_n (M := kt_M99) kX11_ready_c1.2.1 rfl ?_
    refine kz_gfc (M := kt_M99) (x := 3563) (c := 10) (o := 0) kX11_ready_c1.2.2.1 wf_X11_20 (.inl rfl) ?_
    refine kz_iload_n (M := kt_M99) kX11_ready_c1.2.2.2.1 rfl ?_
    refine kz_aald (M := kt_M99) (τ := 4) (c := 10) (o := 0) (k := 3) (a := (E.2.1 3563)) kX11_ready_c1.2.2.2.2.1 ow_10_0_3 oa_10_0_3 ot_8 rfl h (fun h => ?_)
    obtain ⟨p1, hxp1, hlp1, h⟩ := h
    refine kz_nz0 (x := w_r w 10 0 3 (x2).toNatClampNeg) hxp1 ?_
    refine kz_gfp (M := kt_M99) (c := 17) (o := p1) kX11_ready_c1.2.2.2.2.2.1 wf_X11_125 (.inr (by exact hlp1)) ?_
    refine kz_getsE (M := kt_M99) (v := va_rf (some (E.1.1 61))) kX11_ready_c1.2.2.2.2.2.2.1 zs_X11_154 ?_
    refine kz_acmp_ne (M := kt_M99) (x := w_p w 17 p1 9) (y := some (E.1.1 61)) kX11_ready_c1.2.2.2.2.2.2.2.1 (t := 32) rfl h (fun h => ?_) (fun h => ?_)
    · skip
      refine kz_ic (M := kt_M99) 0 kX11_ready_c2.2.2.1 rfl ?_
      exact kz_weak [(0, .ref (w_adr E.2.1 10 0)), (2, .int x2)] ⟨rfl, ⟨rfl, trivial⟩⟩ rfl (zt_X11_ready_p33 hL  h)
    · skip
      refine kz_ic (M := kt_M99) 1 kX11_ready_c2.1 rfl ?_
      refine kz_goto (M := kt_M99) kX11_ready_c2.2.1 (t := 33) rfl ?_
      exact kz_weak [(0, .ref (w_adr E.2.1 10 0)), (2, .int x2)] ⟨rfl, ⟨rfl, trivial⟩⟩ rfl (zt_X11_ready_p33 hL  h)
def zb_X11_ready_p0 (E : zE) (L : Nat) (Q : kx_Rs → wS → Prop) (w : wS) : Prop := zL_X11_ready_p4 E L Q 0 0 w
theorem zt_X11_ready_p0 {E : zE} {L : Nat} {Q : kx_Rs → wS → Prop} {w : wS} (hL : 19 ≤ L) (h : zb_X11_ready_p0 E L Q  w) : kzE E L kt_M99 0 [(0, .ref (w_adr E.2.1 10 0))] [] w Q := by
  unfold zb_X11_ready_p0 at h
  refine kz_ic (M := kt_M99) 0 kX11_ready_c0.1 rfl ?_
  refine kz_sti_n (M := kt_M99) [(0, .ref (w_adr E.2.1 10 0))] kX11_ready_c0.2.1 (Nat.le_of_ble_eq_true rfl) ⟨⟨rfl, rfl, .inr rfl⟩, trivial⟩ rfl ?_
  refine kz_ic (M := kt_M99) 0 kX11_ready_c0.2.2.1 rfl ?_
  refine kz_sti_n (M := kt_M99) [(0, .ref (w_adr E.2.1 10 0)), (1, .int 0)] kX11_ready_c0.2.2.2.1 (Nat.le_of_ble_eq_true rfl) ⟨⟨rfl, rfl, .inl rfl⟩, ⟨⟨rfl, rfl, .inr rfl⟩, trivial⟩⟩ rfl ?_
  exact kz_weak [(0, .ref (w_adr E.2.1 10 0)), (1, .int 0), (2, .int 0)] ⟨rfl, ⟨rfl, ⟨rfl, trivial⟩⟩⟩ rfl h
def zL_X11_nearest_p45 (E : zE) (L : Nat) (Q : kx_Rs → wS → Prop) (x1 : Int64) (x3 : Int32) (x4 : Option Nat) (x5 : Int32) (w : wS) : Prop := kzE E L kt_M86 45 [(0, .ref (w_adr E.2.1 10 0)), (1, .long (x1)), (3, .int x3), (4, va_rf (x4)), (5, .int x5)] [] w Q
def zL_X11_nearest_p4 (E : zE) (L : Nat) (Q : kx_Rs → wS → Prop) (x1 : Int64) (x3 : Int32) (w : wS) : Prop := kzE E L kt_M86 4 [(0, .ref (w_adr E.2.1 10 0)), (1, .long (x1)), (3, .int x3)] [] w Q
def zb_X11_nearest_p100 (E : zE) (L : Nat) (Q : kx_Rs → wS → Prop) (x1 : Int64) (x3 : Int32) (w : wS) : Prop := zL_X11_nearest_p4 E L Q x1 (x3 + 1) w
theorem zt_X11_nearest_p100 {E : zE} {L : Nat} {Q : kx_Rs → wS → Prop} {x1 : Int64} {x3 : Int32} {w : wS} (hL : 25 ≤ L) (h : zb_X11_nearest_p100 E L Q x1 x3 w) : kzE E L kt_M86 100 [(0, .ref (w_adr E.2.1 10 0)), (1, .long (x1)), (3, .int x3)] [] w Q := by
  unfold zb_X11_nearest_p100 at h
  refine kz_inc (M := kt_M86) [(0, .ref (w_adr E.2.1 10 0)), (1, .long (x1))] kX11_nearest_c6.2.2.2.1 rfl (Nat.le_of_ble_eq_true rfl) ⟨⟨rfl, rfl, .inl rfl⟩, ⟨⟨rfl, rfl, .inl rfl⟩, trivial⟩⟩ rfl ?_
  refine kz_goto (M := kt_M86) kX11_nearest_c6.2.2.2.2.1 (t := 4) rfl ?_
  exact kz_weak [(0, .ref (w_adr E.2.1 10 0)), (1, .long (x1)), (3, .int (x3 + 1))] ⟨rfl, ⟨rfl, ⟨rfl, trivial⟩⟩⟩ rfl h
def zb_X11_nearest_p94 (E : zE) (L : Nat) (Q : kx_Rs → wS → Prop) (x1 : Int64) (x3 : Int32) (x4 : Option Nat) (x5 : Int32) (w : wS) : Prop := zL_X11_nearest_p45 E L Q x1 x3 x4 (x5 + 4) w
theorem zt_X11_nearest_p94 {E : zE} {L : Nat} {Q : kx_Rs → wS → Prop} {x1 : Int64} {x3 : Int32} {x4 : Option Nat} {x5 : Int32} {w : wS} (hL : 25 ≤ L) (h : zb_X11_nearest_p94 E L Q x1 x3 x4 x5 w) : kzE E L kt_M86 94 [(0, .ref (w_adr E.2.1 10 0)), (1, .long (x1)), (3, .int x3), (4, va_rf (x4)), (5, .int x5)] [] w Q := by
  unfold zb_X11_nearest_p94 at h
  refine kz_inc (M := kt_M86) [(0, .ref (w_adr E.2.1 10 0)), (1, .long (x1)), (3, .int x3), (4, va_rf (x4))] kX11_nearest_c6.2.1 rfl (Nat.le_of_ble_eq_true rfl) ⟨⟨rfl, rfl, .inl rfl⟩, ⟨⟨rfl, rfl, .inl rfl⟩, ⟨⟨rfl, rfl, .inl rfl⟩, ⟨⟨rfl, rfl, .inr (w_cat (x4))⟩, trivial⟩⟩⟩⟩ rfl ?_
  refine kz_goto (M := kt_M86) kX11_nearest_c6.2.2.1 (t := 45) rfl ?_
  exact kz_weak [(0, .ref (w_adr E.2.1 10 0)), (1, .long (x1)), (3, .int x3), (4, va_rf (x4)), (5, .int (x5 + 4))] ⟨rfl, ⟨rfl, ⟨rfl, ⟨rfl, ⟨rfl, trivial⟩⟩⟩⟩⟩ rfl h
def zb_X11_nearest_p45 (E : zE) (L : Nat) (Q : kx_Rs → wS → Prop) (x1 : Int64) (x3 : Int32) (x4 : Option Nat) (x5 : Int32) (w : wS) : Prop := (∃ p1, x4 = some p1 ∧ w_l w E.2.1 17 p1 ∧ (if ¬ w_p w 17 p1 9 = some (E.1.1 63) then zb_X11_nearest_p100 E L Q x1 x3 w else (if w_i w 17 p1 16 ≤ x5 then zb_X11_nearest_p100 E L Q x1 x3 w else (kx_inb x5 (w_n w 17 p1 13) = true ∧ (if ¬ w_a w 17 p1 13 (x5).toNatClampNeg = 2 then zb_X11_nearest_p94 E L Q x1 x3 x4 x5 w else (kx_inb (x5 + 1) (w_n w 17 p1 13) = true ∧ zw E (L - 25) kt_M85 [.ref (w_adr E.2.1 10 0), .long (x1), .int (w_a w 17 p1 13 ((x5 + 1)).toNatClampNeg)] w (wkl (fun v3 w2 => wle w w2 → zb_X11_nearest_p94 E L Q v3 x3 x4 x5 w2) (fun e w => Q (.inr e) w))))))))
theorem zt_X11_nearest_p45 {E : zE} {L : Nat} {Q : kx_Rs → wS → Prop} {x1 : Int64} {x3 : Int32} {x4 : Option Nat} {x5 : Int32} {w : wS} (hL : 25 ≤ L) (h : zb_X11_nearest_p45 E L Q x1 x3 x4 x5 w) : kzE E L kt_M86 45 [(0, .ref (w_adr E.2.1 10 0)), (1, .long (x1)), (3, .int x3), (4, va_rf (x4)), (5, .int x5)] [] w Q := by
  unfold zb_X11_nearest_p45 at h
  refine kz_aloadv (M := kt_M86) (x := x4) kX11_nearest_c3.2.1 rfl ?_
  obtain ⟨p1, hxp1, hlp1, h⟩ := h
  refine kz_nz0 (x := x4) hxp1 ?_
  refine kz_gfp (M := kt_M86) (c := 17) (o := p1) kX11_nearest_c3.2.2.1 wf_X11_125 (.inr (by exact hlp1)) ?_
  refine kz_getsE (M := kt_M86) (v := va_rf (some (E.1.1 63))) kX11_nearest_c3.2.2.2.1 zs_X11_231 ?_
  refine kz_acmp_ne (M := kt_M86) (x := w_p w 17 p1 9) (y := some (E.1.1 63)) kX11_nearest_c3.2.2.2.2.1 (t := 100) rfl h (fun h => ?_) (fun h => ?_)
  · skip
    exact kz_weak [(0, .ref (w_adr E.2.1 10 0)), (1, .long (x1)), (3, .int x3)] ⟨rfl, ⟨rfl, ⟨rfl, trivial⟩⟩⟩ rfl (zt_X11_nearest_p100 hL  h)
  · skip
    refine kz_iload (M := kt_M86) kX11_nearest_c3.2.2.2.2.2.1 rfl ?_
    refine kz_aloadv (M := kt_M86) (x := x4) kX11_nearest_c3.2.2.2.2.2.2.1 rfl ?_
    refine kz_nz0 (x := x4) hxp1 ?_
    refine kz_gfi (M := kt_M86) (c := 17) (o := p1) kX11_nearest_c3.2.2.2.2.2.2.2.1 wf_X11_234 (.inr (by exact hlp1)) ?_
    refine kz_icmp_ge (M := kt_M86) kX11_nearest_c4.1 (t := 100) rfl h (fun h => ?_) (fun h => ?_)
    · skip
      exact kz_weak [(0, .ref (w_adr E.2.1 10 0)), (1, .long (x1)), (3, .int x3)] ⟨rfl, ⟨rfl, ⟨rfl, trivial⟩⟩⟩ rfl (zt_X11_nearest_p100 hL  h)
    · skip
      refine kz_aloadv (M := kt_M86) (x := x4) kX11_nearest_c4.2.1 rfl ?_
      refine kz_nz0 (x := x4) hxp1 ?_
      refine kz_gfa (M := kt_M86) (c := 17) (o := p1) kX11_nearest_c4.2.2.1 wf_X11_237 (.inr (by exact hlp1)) ?_
      refine kz_iload (M := kt_M86) kX11_nearest_c4.2.2.2.1 rfl ?_
      refine kz_iald (M := kt_M86) (c := 17) (o := p1) (k := 13) (a := (w_d w 17 p1 13)) kX11_nearest_c4.2.2.2.2.1 (.inr ⟨.inr (by exact hlp1), rfl, rfl⟩) rfl ot_0 h (fun h => ?_)
      refine kz_ic (M := kt_M86) 2 kX11_nearest_c4.2.2.2.2.2.1 rfl ?_
      refine kz_icmp_ne (M := kt_M86) kX11_nearest_c4.2.2.2.2.2.2.1 (t := 94) rfl h (fun h => ?_) (fun h => ?_)
      · skip
        exact kz_weak [(0, .ref (w_adr E.2.1 10 0)), (1, .long (x1)), (3, .int x3), (4, va_rf (x4)), (5, .int x5)] ⟨rfl, ⟨rfl, ⟨rfl, ⟨rfl, ⟨rfl, trivial⟩⟩⟩⟩⟩ rfl (zt_X11_nearest_p94 hL  h)
      · skip
        refine kz_aload_n (M := kt_M86) kX11_nearest_c4.2.2.2.2.2.2.2.1 rfl ?_
        refine kz_lload_n (M := kt_M86) kX11_nearest_c5.1 rfl ?_
        refine kz_aloadv (M := kt_M86) (x := x4) kX11_nearest_c5.2.1 rfl ?_
        refine kz_nz0 (x := x4) hxp1 ?_
        refine kz_gfa (M := kt_M86) (c := 17) (o := p1) kX11_nearest_c5.2.2.1 wf_X11_237 (.inr (by exact hlp1)) ?_
        refine kz_iload (M := kt_M86) kX11_nearest_c5.2.2.2.1 rfl ?_
        refine kz_ic (M := kt_M86) 1 kX11_nearest_c5.2.2.2.2.1 rfl ?_
        refine kz_iadd (M := kt_M86) kX11_nearest_c5.2.2.2.2.2.1 ?_
        refine kz_iald (M := kt_M86) (c := 17) (o := p1) (k := 13) (a := (w_d w 17 p1 13)) kX11_nearest_c5.2.2.2.2.2.2.1 (.inr ⟨.inr (by exact hlp1), rfl, rfl⟩) rfl ot_0 h (fun h => ?_)
        refine kz_cvl (M := kt_M86) (c := 10) (o := 0) (As := [.long (x1), .int (w_a w 17 p1 13 ((x5 + 1)).toNatClampNeg)]) (rest := []) kX11_nearest_c5.2.2.2.2.2.2.2.1 wl_X11_227 wMv_85 rfl (.inl rfl) rfl (Nat.le_trans (Nat.le_of_ble_eq_true rfl) hL) (Nat.le_of_ble_eq_true rfl) (Nat.le_of_ble_eq_true rfl) h (fun v3 w2 hle h => ?_) (fun _ _ _ h => kzx_no rfl h)
        have h := h hle
        have hlp1 := w_l_le hlp1 hle
        refine kz_stl_n (M := kt_M86) [(0, .ref (w_adr E.2.1 10 0)), (3, .int x3), (4, va_rf (x4)), (5, .int x5)] kX11_nearest_c6.1 (Nat.le_of_ble_eq_true rfl) ⟨⟨rfl, rfl, .inr rfl⟩, ⟨⟨rfl, rfl, .inl rfl⟩, ⟨⟨rfl, rfl, .inl rfl⟩, ⟨⟨rfl, rfl, .inl rfl⟩, trivial⟩⟩⟩⟩ rfl rfl ?_
        exact kz_weak [(0, .ref (w_adr E.2.1 10 0)), (1, .long (v3)), (3, .int x3), (4, va_rf (x4)), (5, .int x5)] ⟨rfl, ⟨rfl, ⟨rfl, ⟨rfl, ⟨rfl, trivial⟩⟩⟩⟩⟩ rfl (zt_X11_nearest_p94 hL  h)
def zb_X11_nearest_p42 (E : zE) (L : Nat) (Q : kx_Rs → wS → Prop) (x1 : Int64) (x3 : Int32) (x4 : Option Nat) (w : wS) : Prop := zL_X11_nearest_p45 E L Q x1 x3 x4 0 w
theorem zt_X11_nearest_p42 {E : zE} {L : Nat} {Q : kx_Rs → wS → Prop} {x1 : Int64} {x3 : Int32} {x4 : Option Nat} {w : wS} (hL : 25 ≤ L) (h : zb_X11_nearest_p42 E L Q x1 x3 x4 w) : kzE E L kt_M86 42 [(0, .ref (w_adr E.2.1 10 0)), (1, .long (x1)), (3, .int x3), (4, va_rf (x4))] [] w Q := by
  unfold zb_X11_nearest_p42 at h
  refine kz_ic (M := kt_M86) 0 kX11_nearest_c2.2.2.2.2.2.2.2.1 rfl ?_
  refine kz_sti (M := kt_M86) [(0, .ref (w_adr E.2.1 10 0)), (1, .long (x1)), (3, .int x3), (4, va_rf (x4))] kX11_nearest_c3.1 (Nat.le_of_ble_eq_true rfl) ⟨⟨rfl, rfl, .inl rfl⟩, ⟨⟨rfl, rfl, .inl rfl⟩, ⟨⟨rfl, rfl, .inl rfl⟩, ⟨⟨rfl, rfl, .inr (w_cat (x4))⟩, trivial⟩⟩⟩⟩ rfl ?_
  exact kz_weak [(0, .ref (w_adr E.2.1 10 0)), (1, .long (x1)), (3, .int x3), (4, va_rf (x4)), (5, .int 0)] ⟨rfl, ⟨rfl, ⟨rfl, ⟨rfl, ⟨rfl, trivial⟩⟩⟩⟩⟩ rfl h
def zb_X11_nearest_p4 (E : zE) (L : Nat) (Q : kx_Rs → wS → Prop) (x1 : Int64) (x3 : Int32) (w : wS) : Prop := (if w_i w 10 0 4 ≤ x3 then Q (.inl (some (.long x1))) w else (kx_inb x3 (w_n w 10 0 3) = true ∧ (∃ p1, w_r w 10 0 3 (x3).toNatClampNeg = some p1 ∧ w_l w E.2.1 17 p1 ∧ (if ¬ w_p w 17 p1 9 = some (E.1.1 62) then zb_X11_nearest_p42 E L Q x1 x3 (w_r w 10 0 3 (x3).toNatClampNeg) w else zw E (L - 25) kt_M85 [.ref (w_adr E.2.1 10 0), .long (x1), .int (w_i w 17 p1 7)] w (wkl (fun v3 w2 => wle w w2 → zb_X11_nearest_p42 E L Q v3 x3 (w_r w 10 0 3 (x3).toNatClampNeg) w2) (fun e w => Q (.inr e) w))))))
theorem zt_X11_nearest_p4 {E : zE} {L : Nat} {Q : kx_Rs → wS → Prop} {x1 : Int64} {x3 : Int32} {w : wS} (hL : 25 ≤ L) (h : zb_X11_nearest_p4 E L Q x1 x3 w) : kzE E L kt_M86 4 [(0, .ref (w_adr E.2.1 10 0)), (1, .long (x1)), (3, .int x3)] [] w Q := by
  unfold zb_X11_nearest_p4 at h
  refine kz_iload_n (M := kt_M86) kX11_nearest_c0.2.2.2.2.1 rfl ?_
  refine kz_aload_n (M := kt_M86) kX11_nearest_c0.2.2.2.2.2.1 rfl ?_
  refine kz_gfi (M := kt_M86) (c := 10) (o := 0) kX11_nearest_c0.2.2.2.2.2.2.1 wf_X11_107 (.inl rfl) ?_
  refine kz_icmp_ge (M := kt_M86) kX11_nearest_c0.2.2.2.2.2.2.2.1 (t := 106) rfl h (fun h => ?_) (fun h => ?_)
  · skip
    refine kz_lload_n (M := kt_M86) kX11_nearest_c6.2.2.2.2.2.1 rfl ?_
    exact kz_lret (M := kt_M86) kX11_nearest_c6.2.2.2.2.2.2.1 rfl h
  · skip
    refine kz_aload_n (M := kt_M86) kX11_nearest_c1.1 rfl ?_
    refine kz_gfc (M := kt_M86) (x := 3563) (c := 10) (o := 0) kX11_nearest_c1.2.1 wf_X11_20 (.inl rfl) ?_
    refine kz_iload_n (M := kt_M86) kX11_nearest_c1.2.2.1 rfl ?_
    refine kz_aald (M := kt_M86) (τ := 4) (c := 10) (o := 0) (k := 3) (a := (E.2.1 3563)) kX11_nearest_c1.2.2.2.1 ow_10_0_3 oa_10_0_3 ot_8 rfl h (fun h => ?_)
    refine kz_stv (M := kt_M86) (x := w_r w 10 0 3 (x3).toNatClampNeg) [(0, .ref (w_adr E.2.1 10 0)), (1, .long (x1)), (3, .int x3)] kX11_nearest_c1.2.2.2.2.1 (Nat.le_of_ble_eq_true rfl) ⟨⟨rfl, rfl, .inl rfl⟩, ⟨⟨rfl, rfl, .inl rfl⟩, ⟨⟨rfl, rfl, .inr rfl⟩, trivial⟩⟩⟩ rfl ?_
    refine kz_aloadv (M := kt_M86) (x := w_r w 10 0 3 (x3).toNatClampNeg) kX11_nearest_c1.2.2.2.2.2.1 rfl ?_
    obtain ⟨p1, hxp1, hlp1, h⟩ := h
    refine kz_nz0 (x := w_r w 10 0 3 (x3).toNatClampNeg) hxp1 ?_
    refine kz_gfp (M := kt_M86) (c := 17) (o := p1) kX11_nearest_c1.2.2.2.2.2.2.1 wf_X11_125 (.inr (by exact hlp1)) ?_
    refine kz_getsE (M := kt_M86) (v := va_rf (some (E.1.1 62))) kX11_nearest_c1.2.2.2.2.2.2.2.1 zs_X11_221 ?_
    refine kz_acmp_ne (M := kt_M86) (x := w_p w 17 p1 9) (y := some (E.1.1 62)) kX11_nearest_c2.1 (t := 42) rfl h (fun h => ?_) (fun h => ?_)
    · skip
      exact kz_weak [(0, .ref (w_adr E.2.1 10 0)), (1, .long (x1)), (3, .int x3), (4, va_rf (w_r w 10 0 3 (x3).toNatClampNeg))] ⟨rfl, ⟨rfl, ⟨rfl, ⟨rfl, trivial⟩⟩⟩⟩ rfl (zt_X11_nearest_p42 hL  h)
    · skip
      refine kz_aload_n (M := kt_M86) kX11_nearest_c2.2.1 rfl ?_
      refine kz_lload_n (M := kt_M86) kX11_nearest_c2.2.2.1 rfl ?_
      refine kz_aloadv (M := kt_M86) (x := w_r w 10 0 3 (x3).toNatClampNeg) kX11_nearest_c2.2.2.2.1 rfl ?_
      refine kz_nz0 (x := w_r w 10 0 3 (x3).toNatClampNeg) hxp1 ?_
      refine kz_gfi (M := kt_M86) (c := 17) (o := p1) kX11_nearest_c2.2.2.2.2.1 wf_X11_224 (.inr (by exact hlp1)) ?_
      refine kz_cvl (M := kt_M86) (c := 10) (o := 0) (As := [.long (x1), .int (w_i w 17 p1 7)]) (rest := []) kX11_nearest_c2.2.2.2.2.2.1 wl_X11_227 wMv_85 rfl (.inl rfl) rfl (Nat.le_trans (Nat.le_of_ble_eq_true rfl) hL) (Nat.le_of_ble_eq_true rfl) (Nat.le_of_ble_eq_true rfl) h (fun v3 w2 hle h => ?_) (fun _ _ _ h => kzx_no rfl h)
      have h := h hle
      have hlp1 := w_l_le hlp1 hle
      refine kz_stl_n (M := kt_M86) [(0, .ref (w_adr E.2.1 10 0)), (3, .int x3), (4, va_rf (w_r w 10 0 3 (x3).toNatClampNeg))] kX11_nearest_c2.2.2.2.2.2.2.1 (Nat.le_of_ble_eq_true rfl) ⟨⟨rfl, rfl, .inr rfl⟩, ⟨⟨rfl, rfl, .inl rfl⟩, ⟨⟨rfl, rfl, .inl rfl⟩, trivial⟩⟩⟩ rfl rfl ?_
      exact kz_weak [(0, .ref (w_adr E.2.1 10 0)), (1, .long (v3)), (3, .int x3), (4, va_rf (w_r w 10 0 3 (x3).toNatClampNeg))] ⟨rfl, ⟨rfl, ⟨rfl, ⟨rfl, trivial⟩⟩⟩⟩ rfl (zt_X11_nearest_p42 hL  h)
def zb_X11_nearest_p0 (E : zE) (L : Nat) (Q : kx_Rs → wS → Prop) (w : wS) : Prop := zL_X11_nearest_p4 E L Q 0 0 w
theorem zt_X11_nearest_p0 {E : zE} {L : Nat} {Q : kx_Rs → wS → Prop} {w : wS} (hL : 25 ≤ L) (h : zb_X11_nearest_p0 E L Q  w) : kzE E L kt_M86 0 [(0, .ref (w_adr E.2.1 10 0))] [] w Q := by
  unfold zb_X11_nearest_p0 at h
  refine kz_lconst (M := kt_M86) kX11_nearest_c0.1 ?_
  refine kz_stl_n (M := kt_M86) [(0, .ref (w_adr E.2.1 10 0))] kX11_nearest_c0.2.1 (Nat.le_of_ble_eq_true rfl) ⟨⟨rfl, rfl, .inr rfl⟩, trivial⟩ rfl rfl ?_
  refine kz_ic (M := kt_M86) 0 kX11_nearest_c0.2.2.1 rfl ?_
  refine kz_sti_n (M := kt_M86) [(0, .ref (w_adr E.2.1 10 0)), (1, .long (0))] kX11_nearest_c0.2.2.2.1 (Nat.le_of_ble_eq_true rfl) ⟨⟨rfl, rfl, .inl rfl⟩, ⟨⟨rfl, rfl, .inl rfl⟩, trivial⟩⟩ rfl ?_
  exact kz_weak [(0, .ref (w_adr E.2.1 10 0)), (1, .long (0)), (3, .int 0)] ⟨rfl, ⟨rfl, ⟨rfl, trivial⟩⟩⟩ rfl h
def zb_X11_nearer_p34 (E : zE) (L : Nat) (Q : kx_Rs → wS → Prop) (y0 : Int64) (w : wS) : Prop := Q (.inl (some (.long y0))) w
theorem zt_X11_nearer_p34 {E : zE} {L : Nat} {Q : kx_Rs → wS → Prop} {y0 : Int64} {w : wS} (hL : 19 ≤ L) (h : zb_X11_nearer_p34 E L Q y0 w) : kzE E L kt_M85 34 [(0, .ref (w_adr E.2.1 10 0))] [.long (y0)] w Q := by
  unfold zb_X11_nearer_p34 at h
  exact kz_lret (M := kt_M85) kX11_nearer_c2.2.2.2.2.2.1 rfl h
def zb_X11_nearer_p28 (E : zE) (L : Nat) (Q : kx_Rs → wS → Prop) (x4 : Int64) (w : wS) : Prop := zb_X11_nearer_p34 E L Q x4 w
theorem zt_X11_nearer_p28 {E : zE} {L : Nat} {Q : kx_Rs → wS → Prop} {x4 : Int64} {w : wS} (hL : 19 ≤ L) (h : zb_X11_nearer_p28 E L Q x4 w) : kzE E L kt_M85 28 [(0, .ref (w_adr E.2.1 10 0)), (4, .long (x4))] [] w Q := by
  unfold zb_X11_nearer_p28 at h
  refine kz_lload (M := kt_M85) kX11_nearer_c2.2.2.1 rfl ?_
  refine kz_goto (M := kt_M85) kX11_nearer_c2.2.2.2.1 (t := 34) rfl ?_
  exact kz_weak [(0, .ref (w_adr E.2.1 10 0))] ⟨rfl, trivial⟩ rfl (zt_X11_nearer_p34 hL  h)
def zb_X11_nearer_p0 (E : zE) (L : Nat) (Q : kx_Rs → wS → Prop) (x1 : Int64) (x3 : Int32) (w : wS) : Prop := (if (lg_cmp x1 0) = 0 then zb_X11_nearer_p28 E L Q (((((x3 + 1) - (w_i w 10 0 8))).toInt64) &&& 4294967295) w else (if 0 ≤ (lg_cmp (((((x3 + 1) - (w_i w 10 0 8))).toInt64) &&& 4294967295) x1) then zb_X11_nearer_p34 E L Q x1 w else zb_X11_nearer_p28 E L Q (((((x3 + 1) - (w_i w 10 0 8))).toInt64) &&& 4294967295) w))
theorem zt_X11_nearer_p0 {E : zE} {L : Nat} {Q : kx_Rs → wS → Prop} {x1 : Int64} {x3 : Int32} {w : wS} (hL : 19 ≤ L) (h : zb_X11_nearer_p0 E L Q x1 x3 w) : kzE E L kt_M85 0 [(0, .ref (w_adr E.2.1 10 0)), (1, .long (x1)), (3, .int x3)] [] w Q := by
  unfold zb_X11_nearer_p0 at h
  refine kz_iload_n (M := kt_M85) kX11_nearer_c0.1 rfl ?_
  refine kz_ic (M := kt_M85) 1 kX11_nearer_c0.2.1 rfl ?_
  refine kz_iadd (M := kt_M85) kX11_nearer_c0.2.2.1 ?_
  refine kz_aload_n (M := kt_M85) kX11_nearer_c0.2.2.2.1 rfl ?_
  refine kz_gfi (M := kt_M85) (c := 10) (o := 0) kX11_nearer_c0.2.2.2.2.1 wf_X11_177 (.inl rfl) ?_
  refine kz_isub (M := kt_M85) kX11_nearer_c0.2.2.2.2.2.1 ?_
  refine kz_i2l (M := kt_M85) kX11_nearer_c0.2.2.2.2.2.2.1 ?_
  refine kz_ldc2 (M := kt_M85) (x := 4294967295) kX11_nearer_c0.2.2.2.2.2.2.2.1 (zc_X11_240) ?_
  refine kz_land (M := kt_M85) kX11_nearer_c1.1 ?_
  refine kz_stl (M := kt_M85) [(0, .ref (w_adr E.2.1 10 0)), (1, .long (x1))] kX11_nearer_c1.2.1 (Nat.le_of_ble_eq_true rfl) ⟨⟨rfl, rfl, .inl rfl⟩, ⟨⟨rfl, rfl, .inl rfl⟩, trivial⟩⟩ rfl rfl ?_
  refine kz_lload_n (M := kt_M85) kX11_nearer_c1.2.2.1 rfl ?_
  refine kz_lconst (M := kt_M85) kX11_nearer_c1.2.2.2.1 ?_
  refine kz_lcmp (M := kt_M85) kX11_nearer_c1.2.2.2.2.1 ?_
  refine kz_if_eq (M := kt_M85) kX11_nearer_c1.2.2.2.2.2.1 (t := 28) rfl h (fun h => ?_) (fun h => ?_)
  · skip
    exact kz_weak [(0, .ref (w_adr E.2.1 10 0)), (4, .long ((((((x3 + 1) - (w_i w 10 0 8))).toInt64) &&& 4294967295)))] ⟨rfl, ⟨rfl, trivial⟩⟩ rfl (zt_X11_nearer_p28 hL  h)
  · skip
    refine kz_lload (M := kt_M85) kX11_nearer_c1.2.2.2.2.2.2.1 rfl ?_
    refine kz_lload_n (M := kt_M85) kX11_nearer_c1.2.2.2.2.2.2.2.1 rfl ?_
    refine kz_lcmp (M := kt_M85) kX11_nearer_c2.1 ?_
    refine kz_if_ge (M := kt_M85) kX11_nearer_c2.2.1 (t := 33) rfl h (fun h => ?_) (fun h => ?_)
    · skip
      refine kz_lload_n (M := kt_M85) kX11_nearer_c2.2.2.2.2.1 rfl ?_
      exact kz_weak [(0, .ref (w_adr E.2.1 10 0))] ⟨rfl, trivial⟩ rfl (zt_X11_nearer_p34 hL  h)
    · skip
      exact kz_weak [(0, .ref (w_adr E.2.1 10 0)), (4, .long ((((((x3 + 1) - (w_i w 10 0 8))).toInt64) &&& 4294967295)))] ⟨rfl, ⟨rfl, trivial⟩⟩ rfl (zt_X11_nearer_p28 hL  h)
def zL_X11_wantsKey_p31 (E : zE) (L : Nat) (Q : kx_Rs → wS → Prop) (x1 : Int32) (x2 : Option Nat) (x3 : Int32) (w : wS) : Prop := kzE E L kt_M116 31 [(0, .ref (w_adr E.2.1 10 0)), (1, .int x1), (2, va_rf (x2)), (3, .int x3)] [] w Q
def zL_X11_wantsKey_p2 (E : zE) (L : Nat) (Q : kx_Rs → wS → Prop) (x1 : Int32) (w : wS) : Prop := kzE E L kt_M116 2 [(0, .ref (w_adr E.2.1 10 0)), (1, .int x1)] [] w Q
def zb_X11_wantsKey_p80 (E : zE) (L : Nat) (Q : kx_Rs → wS → Prop) (x1 : Int32) (w : wS) : Prop := zL_X11_wantsKey_p2 E L Q (x1 + 1) w
theorem zt_X11_wantsKey_p80 {E : zE} {L : Nat} {Q : kx_Rs → wS → Prop} {x1 : Int32} {w : wS} (hL : 19 ≤ L) (h : zb_X11_wantsKey_p80 E L Q x1 w) : kzE E L kt_M116 80 [(0, .ref (w_adr E.2.1 10 0)), (1, .int x1)] [] w Q := by
  unfold zb_X11_wantsKey_p80 at h
  refine kz_inc (M := kt_M116) [(0, .ref (w_adr E.2.1 10 0))] kX11_wantsKey_c5.2.2.2.2.2.1 rfl (Nat.le_of_ble_eq_true rfl) ⟨⟨rfl, rfl, .inr rfl⟩, trivial⟩ rfl ?_
  refine kz_goto (M := kt_M116) kX11_wantsKey_c5.2.2.2.2.2.2.1 (t := 2) rfl ?_
  exact kz_weak [(0, .ref (w_adr E.2.1 10 0)), (1, .int (x1 + 1))] ⟨rfl, ⟨rfl, trivial⟩⟩ rfl h
def zb_X11_wantsKey_p74 (E : zE) (L : Nat) (Q : kx_Rs → wS → Prop) (x1 : Int32) (x2 : Option Nat) (x3 : Int32) (w : wS) : Prop := zL_X11_wantsKey_p31 E L Q x1 x2 (x3 + 4) w
theorem zt_X11_wantsKey_p74 {E : zE} {L : Nat} {Q : kx_Rs → wS → Prop} {x1 : Int32} {x2 : Option Nat} {x3 : Int32} {w : wS} (hL : 19 ≤ L) (h : zb_X11_wantsKey_p74 E L Q x1 x2 x3 w) : kzE E L kt_M116 74 [(0, .ref (w_adr E.2.1 10 0)), (1, .int x1), (2, va_rf (x2)), (3, .int x3)] [] w Q := by
  unfold zb_X11_wantsKey_p74 at h
  refine kz_inc (M := kt_M116) [(0, .ref (w_adr E.2.1 10 0)), (1, .int x1), (2, va_rf (x2))] kX11_wantsKey_c5.2.2.2.1 rfl (Nat.le_of_ble_eq_true rfl) ⟨⟨rfl, rfl, .inl rfl⟩, ⟨⟨rfl, rfl, .inl rfl⟩, ⟨⟨rfl, rfl, .inr (w_cat (x2))⟩, trivial⟩⟩⟩ rfl ?_
  refine kz_goto (M := kt_M116) kX11_wantsKey_c5.2.2.2.2.1 (t := 31) rfl ?_
  exact kz_weak [(0, .ref (w_adr E.2.1 10 0)), (1, .int x1), (2, va_rf (x2)), (3, .int (x3 + 4))] ⟨rfl, ⟨rfl, ⟨rfl, ⟨rfl, trivial⟩⟩⟩⟩ rfl h
def zb_X11_wantsKey_p31 (E : zE) (L : Nat) (Q : kx_Rs → wS → Prop) (x1 : Int32) (x2 : Option Nat) (x3 : Int32) (w : wS) : Prop := (∃ p1, x2 = some p1 ∧ w_l w E.2.1 17 p1 ∧ (if ¬ w_p w 17 p1 9 = some (E.1.1 63) then zb_X11_wantsKey_p80 E L Q x1 w else (if w_i w 17 p1 16 ≤ x3 then zb_X11_wantsKey_p80 E L Q x1 w else (kx_inb x3 (w_n w 17 p1 13) = true ∧ (if ¬ w_a w 17 p1 13 (x3).toNatClampNeg = 1 then zb_X11_wantsKey_p74 E L Q x1 x2 x3 w else (kx_inb (x3 + 1) (w_n w 17 p1 13) = true ∧ (if ¬ w_a w 17 p1 13 ((x3 + 1)).toNatClampNeg = (-2) then zb_X11_wantsKey_p74 E L Q x1 x2 x3 w else Q (.inl (some (.int 1))) w)))))))
theorem zt_X11_wantsKey_p31 {E : zE} {L : Nat} {Q : kx_Rs → wS → Prop} {x1 : Int32} {x2 : Option Nat} {x3 : Int32} {w : wS} (hL : 19 ≤ L) (h : zb_X11_wantsKey_p31 E L Q x1 x2 x3 w) : kzE E L kt_M116 31 [(0, .ref (w_adr E.2.1 10 0)), (1, .int x1), (2, va_rf (x2)), (3, .int x3)] [] w Q := by
  unfold zb_X11_wantsKey_p31 at h
  refine kz_aload_nv (M := kt_M116) (x := x2) kX11_wantsKey_c2.2.2.2.1 rfl ?_
  obtain ⟨p1, hxp1, hlp1, h⟩ := h
  refine kz_nz0 (x := x2) hxp1 ?_
  refine kz_gfp (M := kt_M116) (c := 17) (o := p1) kX11_wantsKey_c2.2.2.2.2.1 wf_X11_125 (.inr (by exact hlp1)) ?_
  refine kz_getsE (M := kt_M116) (v := va_rf (some (E.1.1 63))) kX11_wantsKey_c2.2.2.2.2.2.1 zs_X11_231 ?_
  refine kz_acmp_ne (M := kt_M116) (x := w_p w 17 p1 9) (y := some (E.1.1 63)) kX11_wantsKey_c2.2.2.2.2.2.2.1 (t := 80) rfl h (fun h => ?_) (fun h => ?_)
  · skip
    exact kz_weak [(0, .ref (w_adr E.2.1 10 0)), (1, .int x1)] ⟨rfl, ⟨rfl, trivial⟩⟩ rfl (zt_X11_wantsKey_p80 hL  h)
  · skip
    refine kz_iload_n (M := kt_M116) kX11_wantsKey_c2.2.2.2.2.2.2.2.1 rfl ?_
    refine kz_aload_nv (M := kt_M116) (x := x2) kX11_wantsKey_c3.1 rfl ?_
    refine kz_nz0 (x := x2) hxp1 ?_
    refine kz_gfi (M := kt_M116) (c := 17) (o := p1) kX11_wantsKey_c3.2.1 wf_X11_234 (.inr (by exact hlp1)) ?_
    refine kz_icmp_ge (M := kt_M116) kX11_wantsKey_c3.2.2.1 (t := 80) rfl h (fun h => ?_) (fun h => ?_)
    · skip
      exact kz_weak [(0, .ref (w_adr E.2.1 10 0)), (1, .int x1)] ⟨rfl, ⟨rfl, trivial⟩⟩ rfl (zt_X11_wantsKey_p80 hL  h)
    · skip
      refine kz_aload_nv (M := kt_M116) (x := x2) kX11_wantsKey_c3.2.2.2.1 rfl ?_
      refine kz_nz0 (x := x2) hxp1 ?_
      refine kz_gfa (M := kt_M116) (c := 17) (o := p1) kX11_wantsKey_c3.2.2.2.2.1 wf_X11_237 (.inr (by exact hlp1)) ?_
      refine kz_iload_n (M := kt_M116) kX11_wantsKey_c3.2.2.2.2.2.1 rfl ?_
      refine kz_iald (M := kt_M116) (c := 17) (o := p1) (k := 13) (a := (w_d w 17 p1 13)) kX11_wantsKey_c3.2.2.2.2.2.2.1 (.inr ⟨.inr (by exact hlp1), rfl, rfl⟩) rfl ot_0 h (fun h => ?_)
      refine kz_ic (M := kt_M116) 1 kX11_wantsKey_c3.2.2.2.2.2.2.2.1 rfl ?_
      refine kz_icmp_ne (M := kt_M116) kX11_wantsKey_c4.1 (t := 74) rfl h (fun h => ?_) (fun h => ?_)
      · skip
        exact kz_weak [(0, .ref (w_adr E.2.1 10 0)), (1, .int x1), (2, va_rf (x2)), (3, .int x3)] ⟨rfl, ⟨rfl, ⟨rfl, ⟨rfl, trivial⟩⟩⟩⟩ rfl (zt_X11_wantsKey_p74 hL  h)
      · skip
        refine kz_aload_nv (M := kt_M116) (x := x2) kX11_wantsKey_c4.2.1 rfl ?_
        refine kz_nz0 (x := x2) hxp1 ?_
        refine kz_gfa (M := kt_M116) (c := 17) (o := p1) kX11_wantsKey_c4.2.2.1 wf_X11_237 (.inr (by exact hlp1)) ?_
        refine kz_iload_n (M := kt_M116) kX11_wantsKey_c4.2.2.2.1 rfl ?_
        refine kz_ic (M := kt_M116) 1 kX11_wantsKey_c4.2.2.2.2.1 rfl ?_
        refine kz_iadd (M := kt_M116) kX11_wantsKey_c4.2.2.2.2.2.1 ?_
        refine kz_iald (M := kt_M116) (c := 17) (o := p1) (k := 13) (a := (w_d w 17 p1 13)) kX11_wantsKey_c4.2.2.2.2.2.2.1 (.inr ⟨.inr (by exact hlp1), rfl, rfl⟩) rfl ot_0 h (fun h => ?_)
        refine kz_bi (M := kt_M116) (-2) kX11_wantsKey_c4.2.2.2.2.2.2.2.1 rfl ?_
        refine kz_icmp_ne (M := kt_M116) kX11_wantsKey_c5.1 (t := 74) rfl h (fun h => ?_) (fun h => ?_)
        · skip
          exact kz_weak [(0, .ref (w_adr E.2.1 10 0)), (1, .int x1), (2, va_rf (x2)), (3, .int x3)] ⟨rfl, ⟨rfl, ⟨rfl, ⟨rfl, trivial⟩⟩⟩⟩ rfl (zt_X11_wantsKey_p74 hL  h)
        · skip
          refine kz_ic (M := kt_M116) 1 kX11_wantsKey_c5.2.1 rfl ?_
          exact kz_iretz (M := kt_M116) kX11_wantsKey_c5.2.2.1 rfl (by decide) h
def zb_X11_wantsKey_p2 (E : zE) (L : Nat) (Q : kx_Rs → wS → Prop) (x1 : Int32) (w : wS) : Prop := (if w_i w 10 0 4 ≤ x1 then Q (.inl (some (.int 0))) w else (kx_inb x1 (w_n w 10 0 3) = true ∧ (∃ p1, w_r w 10 0 3 (x1).toNatClampNeg = some p1 ∧ w_l w E.2.1 17 p1 ∧ (if ¬ w_p w 17 p1 9 = some (E.1.1 64) then zL_X11_wantsKey_p31 E L Q x1 (w_r w 10 0 3 (x1).toNatClampNeg) 0 w else Q (.inl (some (.int 1))) w))))
theorem zt_X11_wantsKey_p2 {E : zE} {L : Nat} {Q : kx_Rs → wS → Prop} {x1 : Int32} {w : wS} (hL : 19 ≤ L) (h : zb_X11_wantsKey_p2 E L Q x1 w) : kzE E L kt_M116 2 [(0, .ref (w_adr E.2.1 10 0)), (1, .int x1)] [] w Q := by
  unfold zb_X11_wantsKey_p2 at h
  refine kz_iload_n (M := kt_M116) kX11_wantsKey_c0.2.2.1 rfl ?_
  refine kz_aload_n (M := kt_M116) kX11_wantsKey_c0.2.2.2.1 rfl ?_
  refine kz_gfi (M := kt_M116) (c := 10) (o := 0) kX11_wantsKey_c0.2.2.2.2.1 wf_X11_107 (.inl rfl) ?_
  refine kz_icmp_ge (M := kt_M116) kX11_wantsKey_c0.2.2.2.2.2.1 (t := 86) rfl h (fun h => ?_) (fun h => ?_)
  · skip
    refine kz_ic (M := kt_M116) 0 kX11_wantsKey_c5.2.2.2.2.2.2.2.1 rfl ?_
    exact kz_iretz (M := kt_M116) kX11_wantsKey_c6.1 rfl (by decide) h
  · skip
    refine kz_aload_n (M := kt_M116) kX11_wantsKey_c0.2.2.2.2.2.2.1 rfl ?_
    refine kz_gfc (M := kt_M116) (x := 3563) (c := 10) (o := 0) kX11_wantsKey_c0.2.2.2.2.2.2.2.1 wf_X11_20 (.inl rfl) ?_
    refine kz_iload_n (M := kt_M116) kX11_wantsKey_c1.1 rfl ?_
    refine kz_aald (M := kt_M116) (τ := 4) (c := 10) (o := 0) (k := 3) (a := (E.2.1 3563)) kX11_wantsKey_c1.2.1 ow_10_0_3 oa_10_0_3 ot_8 rfl h (fun h => ?_)
    refine kz_stv_n (M := kt_M116) (x := w_r w 10 0 3 (x1).toNatClampNeg) [(0, .ref (w_adr E.2.1 10 0)), (1, .int x1)] kX11_wantsKey_c1.2.2.1 (Nat.le_of_ble_eq_true rfl) ⟨⟨rfl, rfl, .inl rfl⟩, ⟨⟨rfl, rfl, .inr rfl⟩, trivial⟩⟩ rfl ?_
    refine kz_aload_nv (M := kt_M116) (x := w_r w 10 0 3 (x1).toNatClampNeg) kX11_wantsKey_c1.2.2.2.1 rfl ?_
    obtain ⟨p1, hxp1, hlp1, h⟩ := h
    refine kz_nz0 (x := w_r w 10 0 3 (x1).toNatClampNeg) hxp1 ?_
    refine kz_gfp (M := kt_M116) (c := 17) (o := p1) kX11_wantsKey_c1.2.2.2.2.1 wf_X11_125 (.inr (by exact hlp1)) ?_
    refine kz_getsE (M := kt_M116) (v := va_rf (some (E.1.1 64))) kX11_wantsKey_c1.2.2.2.2.2.1 zs_X11_246 ?_
    refine kz_acmp_ne (M := kt_M116) (x := w_p w 17 p1 9) (y := some (E.1.1 64)) kX11_wantsKey_c1.2.2.2.2.2.2.1 (t := 29) rfl h (fun h => ?_) (fun h => ?_)
    · skip
      refine kz_ic (M := kt_M116) 0 kX11_wantsKey_c2.2.1 rfl ?_
      refine kz_sti_n (M := kt_M116) [(0, .ref (w_adr E.2.1 10 0)), (1, .int x1), (2, va_rf (w_r w 10 0 3 (x1).toNatClampNeg))] kX11_wantsKey_c2.2.2.1 (Nat.le_of_ble_eq_true rfl) ⟨⟨rfl, rfl, .inl rfl⟩, ⟨⟨rfl, rfl, .inl rfl⟩, ⟨⟨rfl, rfl, .inr (w_cat (w_r w 10 0 3 (x1).toNatClampNeg))⟩, trivial⟩⟩⟩ rfl ?_
      exact kz_weak [(0, .ref (w_adr E.2.1 10 0)), (1, .int x1), (2, va_rf (w_r w 10 0 3 (x1).toNatClampNeg)), (3, .int 0)] ⟨rfl, ⟨rfl, ⟨rfl, ⟨rfl, trivial⟩⟩⟩⟩ rfl h
    · skip
      refine kz_ic (M := kt_M116) 1 kX11_wantsKey_c1.2.2.2.2.2.2.2.1 rfl ?_
      exact kz_iretz (M := kt_M116) kX11_wantsKey_c2.1 rfl (by decide) h
def zb_X11_wantsKey_p0 (E : zE) (L : Nat) (Q : kx_Rs → wS → Prop) (w : wS) : Prop := zL_X11_wantsKey_p2 E L Q 0 w
theorem zt_X11_wantsKey_p0 {E : zE} {L : Nat} {Q : kx_Rs → wS → Prop} {w : wS} (hL : 19 ≤ L) (h : zb_X11_wantsKey_p0 E L Q  w) : kzE E L kt_M116 0 [(0, .ref (w_adr E.2.1 10 0))] [] w Q := by
  unfold zb_X11_wantsKey_p0 at h
  refine kz_ic (M := kt_M116) 0 kX11_wantsKey_c0.1 rfl ?_
  refine kz_sti_n (M := kt_M116) [(0, .ref (w_adr E.2.1 10 0))] kX11_wantsKey_c0.2.1 (Nat.le_of_ble_eq_true rfl) ⟨⟨rfl, rfl, .inr rfl⟩, trivial⟩ rfl ?_
  exact kz_weak [(0, .ref (w_adr E.2.1 10 0)), (1, .int 0)] ⟨rfl, ⟨rfl, trivial⟩⟩ rfl h
def zb_X11_there_p0 (E : zE) (L : Nat) (Q : kx_Rs → wS → Prop) (w : wS) : Prop := Q (.inl (some (.int (w_i w 10 0 4)))) w
theorem zt_X11_there_p0 {E : zE} {L : Nat} {Q : kx_Rs → wS → Prop} {w : wS} (hL : 19 ≤ L) (h : zb_X11_there_p0 E L Q  w) : kzE E L kt_M112 0 [(0, .ref (w_adr E.2.1 10 0))] [] w Q := by
  unfold zb_X11_there_p0 at h
  refine kz_aload_n (M := kt_M112) kX11_there_c0.1 rfl ?_
  refine kz_gfi (M := kt_M112) (c := 10) (o := 0) kX11_there_c0.2.1 wf_X11_107 (.inl rfl) ?_
  exact kz_iret (M := kt_M112) kX11_there_c0.2.2.1 rfl rfl h
def zL_X11_stopped_p4 (E : zE) (L : Nat) (Q : kx_Rs → wS → Prop) (x1 : Int32) (x2 : Int32) (w : wS) : Prop := kzE E L kt_M108 4 [(0, .ref (w_adr E.2.1 10 0)), (1, .int x1), (2, .int x2)] [] w Q
def zb_X11_stopped_p33 (E : zE) (L : Nat) (Q : kx_Rs → wS → Prop) (x2 : Int32) (y0 : Int32) (y1 : Int32) (w : wS) : Prop := zL_X11_stopped_p4 E L Q (y1 + y0) (x2 + 1) w
theorem zt_X11_stopped_p33 {E : zE} {L : Nat} {Q : kx_Rs → wS → Prop} {x2 : Int32} {y0 : Int32} {y1 : Int32} {w : wS} (hL : 19 ≤ L) (h : zb_X11_stopped_p33 E L Q x2 y0 y1 w) : kzE E L kt_M108 33 [(0, .ref (w_adr E.2.1 10 0)), (2, .int x2)] [.int y0, .int y1] w Q := by
  unfold zb_X11_stopped_p33 at h
  refine kz_iadd (M := kt_M108) kX11_stopped_c2.2.2.2.1 ?_
  refine kz_sti_n (M := kt_M108) [(0, .ref (w_adr E.2.1 10 0)), (2, .int x2)] kX11_stopped_c2.2.2.2.2.1 (Nat.le_of_ble_eq_true rfl) ⟨⟨rfl, rfl, .inr rfl⟩, ⟨⟨rfl, rfl, .inl rfl⟩, trivial⟩⟩ rfl ?_
  refine kz_inc (M := kt_M108) [(0, .ref (w_adr E.2.1 10 0)), (1, .int (y1 + y0))] kX11_stopped_c2.2.2.2.2.2.1 rfl (Nat.le_of_ble_eq_true rfl) ⟨⟨rfl, rfl, .inl rfl⟩, ⟨⟨rfl, rfl, .inr rfl⟩, trivial⟩⟩ rfl ?_
  refine kz_goto (M := kt_M108) kX11_stopped_c2.2.2.2.2.2.2.1 (t := 4) rfl ?_
  exact kz_weak [(0, .ref (w_adr E.2.1 10 0)), (1, .int (y1 + y0)), (2, .int (x2 + 1))] ⟨rfl, ⟨rfl, ⟨rfl, trivial⟩⟩⟩ rfl h
def zb_X11_stopped_p4 (E : zE) (L : Nat) (Q : kx_Rs → wS → Prop) (x1 : Int32) (x2 : Int32) (w : wS) : Prop := (if w_i w 10 0 4 ≤ x2 then Q (.inl (some (.int x1))) w else (kx_inb x2 (w_n w 10 0 3) = true ∧ (∃ p1, w_r w 10 0 3 (x2).toNatClampNeg = some p1 ∧ w_l w E.2.1 17 p1 ∧ (if ¬ w_p w 17 p1 9 = some (E.1.1 65) then zb_X11_stopped_p33 E L Q x2 0 x1 w else zb_X11_stopped_p33 E L Q x2 1 x1 w))))
theorem zt_X11_stopped_p4 {E : zE} {L : Nat} {Q : kx_Rs → wS → Prop} {x1 : Int32} {x2 : Int32} {w : wS} (hL : 19 ≤ L) (h : zb_X11_stopped_p4 E L Q x1 x2 w) : kzE E L kt_M108 4 [(0, .ref (w_adr E.2.1 10 0)), (1, .int x1), (2, .int x2)] [] w Q := by
  unfold zb_X11_stopped_p4 at h
  refine kz_iload_n (M := kt_M108) kX11_stopped_c0.2.2.2.2.1 rfl ?_
  refine kz_aload_n (M := kt_M108) kX11_stopped_c0.2.2.2.2.2.1 rfl ?_
  refine kz_gfi (M := kt_M108) (c := 10) (o := 0) kX11_stopped_c0.2.2.2.2.2.2.1 wf_X11_107 (.inl rfl) ?_
  refine kz_icmp_ge (M := kt_M108) kX11_stopped_c0.2.2.2.2.2.2.2.1 (t := 41) rfl h (fun h => ?_) (fun h => ?_)
  · skip
    refine kz_iload_n (M := kt_M108) kX11_stopped_c2.2.2.2.2.2.2.2.1 rfl ?_
    exact kz_iret (M := kt_M108) kX11_stopped_c3.1 rfl rfl h
  · skip
    refine kz_iload_n (M := kt_M108) kX11_stopped_c1.1 rfl ?_
    refine kz_aload_n (M := kt_M108) kX11_stopped_c1.2.1 rfl ?_
    refine kz_gfc (M := kt_M108) (x := 3563) (c := 10) (o := 0) kX11_stopped_c1.2.2.1 wf_X11_20 (.inl rfl) ?_
    refine kz_iload_n (M := kt_M108) kX11_stopped_c1.2.2.2.1 rfl ?_
    refine kz_aald (M := kt_M108) (τ := 4) (c := 10) (o := 0) (k := 3) (a := (E.2.1 3563)) kX11_stopped_c1.2.2.2.2.1 ow_10_0_3 oa_10_0_3 ot_8 rfl h (fun h => ?_)
    obtain ⟨p1, hxp1, hlp1, h⟩ := h
    refine kz_nz0 (x := w_r w 10 0 3 (x2).toNatClampNeg) hxp1 ?_
    refine kz_gfp (M := kt_M108) (c := 17) (o := p1) kX11_stopped_c1.2.2.2.2.2.1 wf_X11_125 (.inr (by exact hlp1)) ?_
    refine kz_getsE (M := kt_M108) (v := va_rf (some (E.1.1 65))) kX11_stopped_c1.2.2.2.2.2.2.1 zs_X11_119 ?_
    refine kz_acmp_ne (M := kt_M108) (x := w_p w 17 p1 9) (y := some (E.1.1 65)) kX11_stopped_c1.2.2.2.2.2.2.2.1 (t := 32) rfl h (fun h => ?_) (fun h => ?_)
    · skip
      refine kz_ic (M := kt_M108) 0 kX11_stopped_c2.2.2.1 rfl ?_
      exact kz_weak [(0, .ref (w_adr E.2.1 10 0)), (2, .int x2)] ⟨rfl, ⟨rfl, trivial⟩⟩ rfl (zt_X11_stopped_p33 hL  h)
    · skip
      refine kz_ic (M := kt_M108) 1 kX11_stopped_c2.1 rfl ?_
      refine kz_goto (M := kt_M108) kX11_stopped_c2.2.1 (t := 33) rfl ?_
      exact kz_weak [(0, .ref (w_adr E.2.1 10 0)), (2, .int x2)] ⟨rfl, ⟨rfl, trivial⟩⟩ rfl (zt_X11_stopped_p33 hL  h)
def zb_X11_stopped_p0 (E : zE) (L : Nat) (Q : kx_Rs → wS → Prop) (w : wS) : Prop := zL_X11_stopped_p4 E L Q 0 0 w
theorem zt_X11_stopped_p0 {E : zE} {L : Nat} {Q : kx_Rs → wS → Prop} {w : wS} (hL : 19 ≤ L) (h : zb_X11_stopped_p0 E L Q  w) : kzE E L kt_M108 0 [(0, .ref (w_adr E.2.1 10 0))] [] w Q := by
  unfold zb_X11_stopped_p0 at h
  refine kz_ic (M := kt_M108) 0 kX11_stopped_c0.1 rfl ?_
  refine kz_sti_n (M := kt_M108) [(0, .ref (w_adr E.2.1 10 0))] kX11_stopped_c0.2.1 (Nat.le_of_ble_eq_true rfl) ⟨⟨rfl, rfl, .inr rfl⟩, trivial⟩ rfl ?_
  refine kz_ic (M := kt_M108) 0 kX11_stopped_c0.2.2.1 rfl ?_
  refine kz_sti_n (M := kt_M108) [(0, .ref (w_adr E.2.1 10 0)), (1, .int 0)] kX11_stopped_c0.2.2.2.1 (Nat.le_of_ble_eq_true rfl) ⟨⟨rfl, rfl, .inl rfl⟩, ⟨⟨rfl, rfl, .inr rfl⟩, trivial⟩⟩ rfl ?_
  exact kz_weak [(0, .ref (w_adr E.2.1 10 0)), (1, .int 0), (2, .int 0)] ⟨rfl, ⟨rfl, ⟨rfl, trivial⟩⟩⟩ rfl h
def zL_X11_key_p125 (E : zE) (L : Nat) (Q : kx_Rs → wS → Prop) (x2 : Int32) (x3 : Option Nat) (x4 : Int32) (w : wS) : Prop := kzE E L kt_M79 125 [(0, .ref (w_adr E.2.1 10 0)), (2, .int x2), (3, va_rf (x3)), (4, .int x4)] [] w Q
def zL_X11_key_p107 (E : zE) (L : Nat) (Q : kx_Rs → wS → Prop) (x2 : Int32) (w : wS) : Prop := kzE E L kt_M79 107 [(0, .ref (w_adr E.2.1 10 0)), (2, .int x2)] [] w Q
def zL_X11_key_p21 (E : zE) (L : Nat) (Q : kx_Rs → wS → Prop) (x1 : Int32) (x2 : Int32) (w : wS) : Prop := kzE E L kt_M79 21 [(0, .ref (w_adr E.2.1 10 0)), (1, .int x1), (2, .int x2)] [] w Q
def zb_X11_key_p182 (E : zE) (L : Nat) (Q : kx_Rs → wS → Prop) (x2 : Int32) (w : wS) : Prop := zL_X11_key_p107 E L Q (x2 + 1) w
theorem zt_X11_key_p182 {E : zE} {L : Nat} {Q : kx_Rs → wS → Prop} {x2 : Int32} {w : wS} (hL : 22 ≤ L) (h : zb_X11_key_p182 E L Q x2 w) : kzE E L kt_M79 182 [(0, .ref (w_adr E.2.1 10 0)), (2, .int x2)] [] w Q := by
  unfold zb_X11_key_p182 at h
  refine kz_inc (M := kt_M79) [(0, .ref (w_adr E.2.1 10 0))] kX11_key_c12.2.2.2.1 rfl (Nat.le_of_ble_eq_true rfl) ⟨⟨rfl, rfl, .inl rfl⟩, trivial⟩ rfl ?_
  refine kz_goto (M := kt_M79) kX11_key_c12.2.2.2.2.1 (t := 107) rfl ?_
  exact kz_weak [(0, .ref (w_adr E.2.1 10 0)), (2, .int (x2 + 1))] ⟨rfl, ⟨rfl, trivial⟩⟩ rfl h
def zb_X11_key_p176 (E : zE) (L : Nat) (Q : kx_Rs → wS → Prop) (x2 : Int32) (x3 : Option Nat) (x4 : Int32) (w : wS) : Prop := zL_X11_key_p125 E L Q x2 x3 (x4 + 4) w
theorem zt_X11_key_p176 {E : zE} {L : Nat} {Q : kx_Rs → wS → Prop} {x2 : Int32} {x3 : Option Nat} {x4 : Int32} {w : wS} (hL : 22 ≤ L) (h : zb_X11_key_p176 E L Q x2 x3 x4 w) : kzE E L kt_M79 176 [(0, .ref (w_adr E.2.1 10 0)), (2, .int x2), (3, va_rf (x3)), (4, .int x4)] [] w Q := by
  unfold zb_X11_key_p176 at h
  refine kz_inc (M := kt_M79) [(0, .ref (w_adr E.2.1 10 0)), (2, .int x2), (3, va_rf (x3))] kX11_key_c12.2.1 rfl (Nat.le_of_ble_eq_true rfl) ⟨⟨rfl, rfl, .inl rfl⟩, ⟨⟨rfl, rfl, .inl rfl⟩, ⟨⟨rfl, rfl, .inr (w_cat (x3))⟩, trivial⟩⟩⟩ rfl ?_
  refine kz_goto (M := kt_M79) kX11_key_c12.2.2.1 (t := 125) rfl ?_
  exact kz_weak [(0, .ref (w_adr E.2.1 10 0)), (2, .int x2), (3, va_rf (x3)), (4, .int (x4 + 4))] ⟨rfl, ⟨rfl, ⟨rfl, ⟨rfl, trivial⟩⟩⟩⟩ rfl h
def zb_X11_key_p125 (E : zE) (L : Nat) (Q : kx_Rs → wS → Prop) (x2 : Int32) (x3 : Option Nat) (x4 : Int32) (w : wS) : Prop := (∃ p1, x3 = some p1 ∧ w_l w E.2.1 17 p1 ∧ (if ¬ w_p w 17 p1 9 = some (E.1.1 63) then zb_X11_key_p182 E L Q x2 w else (if w_i w 17 p1 16 ≤ x4 then zb_X11_key_p182 E L Q x2 w else (kx_inb x4 (w_n w 17 p1 13) = true ∧ (if ¬ w_a w 17 p1 13 (x4).toNatClampNeg = 1 then zb_X11_key_p176 E L Q x2 x3 x4 w else (kx_inb (x4 + 1) (w_n w 17 p1 13) = true ∧ (if ¬ w_a w 17 p1 13 ((x4 + 1)).toNatClampNeg = (-2) then zb_X11_key_p176 E L Q x2 x3 x4 w else zb_X11_key_p176 E L Q x2 x3 x4 (ws_p w 17 p1 9 (some (E.1.1 61))))))))))
theorem zt_X11_key_p125 {E : zE} {L : Nat} {Q : kx_Rs → wS → Prop} {x2 : Int32} {x3 : Option Nat} {x4 : Int32} {w : wS} (hL : 22 ≤ L) (h : zb_X11_key_p125 E L Q x2 x3 x4 w) : kzE E L kt_M79 125 [(0, .ref (w_adr E.2.1 10 0)), (2, .int x2), (3, va_rf (x3)), (4, .int x4)] [] w Q := by
  unfold zb_X11_key_p125 at h
  refine kz_aload_nv (M := kt_M79) (x := x3) kX11_key_c9.1 rfl ?_
  obtain ⟨p1, hxp1, hlp1, h⟩ := h
  refine kz_nz0 (x := x3) hxp1 ?_
  refine kz_gfp (M := kt_M79) (c := 17) (o := p1) kX11_key_c9.2.1 wf_X11_125 (.inr (by exact hlp1)) ?_
  refine kz_getsE (M := kt_M79) (v := va_rf (some (E.1.1 63))) kX11_key_c9.2.2.1 zs_X11_231 ?_
  refine kz_acmp_ne (M := kt_M79) (x := w_p w 17 p1 9) (y := some (E.1.1 63)) kX11_key_c9.2.2.2.1 (t := 182) rfl h (fun h => ?_) (fun h => ?_)
  · skip
    exact kz_weak [(0, .ref (w_adr E.2.1 10 0)), (2, .int x2)] ⟨rfl, ⟨rfl, trivial⟩⟩ rfl (zt_X11_key_p182 hL  h)
  · skip
    refine kz_iload (M := kt_M79) kX11_key_c9.2.2.2.2.1 rfl ?_
    refine kz_aload_nv (M := kt_M79) (x := x3) kX11_key_c9.2.2.2.2.2.1 rfl ?_
    refine kz_nz0 (x := x3) hxp1 ?_
    refine kz_gfi (M := kt_M79) (c := 17) (o := p1) kX11_key_c9.2.2.2.2.2.2.1 wf_X11_234 (.inr (by exact hlp1)) ?_
    refine kz_icmp_ge (M := kt_M79) kX11_key_c9.2.2.2.2.2.2.2.1 (t := 182) rfl h (fun h => ?_) (fun h => ?_)
    · skip
      exact kz_weak [(0, .ref (w_adr E.2.1 10 0)), (2, .int x2)] ⟨rfl, ⟨rfl, trivial⟩⟩ rfl (zt_X11_key_p182 hL  h)
    · skip
      refine kz_aload_nv (M := kt_M79) (x := x3) kX11_key_c10.1 rfl ?_
      refine kz_nz0 (x := x3) hxp1 ?_
      refine kz_gfa (M := kt_M79) (c := 17) (o := p1) kX11_key_c10.2.1 wf_X11_237 (.inr (by exact hlp1)) ?_
      refine kz_iload (M := kt_M79) kX11_key_c10.2.2.1 rfl ?_
      refine kz_iald (M := kt_M79) (c := 17) (o := p1) (k := 13) (a := (w_d w 17 p1 13)) kX11_key_c10.2.2.2.1 (.inr ⟨.inr (by exact hlp1), rfl, rfl⟩) rfl ot_0 h (fun h => ?_)
      refine kz_ic (M := kt_M79) 1 kX11_key_c10.2.2.2.2.1 rfl ?_
      refine kz_icmp_ne (M := kt_M79) kX11_key_c10.2.2.2.2.2.1 (t := 176) rfl h (fun h => ?_) (fun h => ?_)
      · skip
        exact kz_weak [(0, .ref (w_adr E.2.1 10 0)), (2, .int x2), (3, va_rf (x3)), (4, .int x4)] ⟨rfl, ⟨rfl, ⟨rfl, ⟨rfl, trivial⟩⟩⟩⟩ rfl (zt_X11_key_p176 hL  h)
      · skip
        refine kz_aload_nv (M := kt_M79) (x := x3) kX11_key_c10.2.2.2.2.2.2.1 rfl ?_
        refine kz_nz0 (x := x3) hxp1 ?_
        refine kz_gfa (M := kt_M79) (c := 17) (o := p1) kX11_key_c10.2.2.2.2.2.2.2.1 wf_X11_237 (.inr (by exact hlp1)) ?_
        refine kz_iload (M := kt_M79) kX11_key_c11.1 rfl ?_
        refine kz_ic (M := kt_M79) 1 kX11_key_c11.2.1 rfl ?_
        refine kz_iadd (M := kt_M79) kX11_key_c11.2.2.1 ?_
        refine kz_iald (M := kt_M79) (c := 17) (o := p1) (k := 13) (a := (w_d w 17 p1 13)) kX11_key_c11.2.2.2.1 (.inr ⟨.inr (by exact hlp1), rfl, rfl⟩) rfl ot_0 h (fun h => ?_)
        refine kz_bi (M := kt_M79) (-2) kX11_key_c11.2.2.2.2.1 rfl ?_
        refine kz_icmp_ne (M := kt_M79) kX11_key_c11.2.2.2.2.2.1 (t := 176) rfl h (fun h => ?_) (fun h => ?_)
        · skip
          exact kz_weak [(0, .ref (w_adr E.2.1 10 0)), (2, .int x2), (3, va_rf (x3)), (4, .int x4)] ⟨rfl, ⟨rfl, ⟨rfl, ⟨rfl, trivial⟩⟩⟩⟩ rfl (zt_X11_key_p176 hL  h)
        · skip
          refine kz_aload_nv (M := kt_M79) (x := x3) kX11_key_c11.2.2.2.2.2.2.1 rfl ?_
          refine kz_getsE (M := kt_M79) (v := va_rf (some (E.1.1 61))) kX11_key_c11.2.2.2.2.2.2.2.1 zs_X11_154 ?_
          refine kz_nz1 (x := x3) hxp1 ?_
          refine kz_pfp (M := kt_M79) (n := some (E.1.1 61)) (c := 17) (o := p1) kX11_key_c12.1 wq_X11_125 (.inr (by exact hlp1)) ?_
          exact kz_weak [(0, .ref (w_adr E.2.1 10 0)), (2, .int x2), (3, va_rf (x3)), (4, .int x4)] ⟨rfl, ⟨rfl, ⟨rfl, ⟨rfl, trivial⟩⟩⟩⟩ rfl (zt_X11_key_p176 hL  h)
def zb_X11_key_p107 (E : zE) (L : Nat) (Q : kx_Rs → wS → Prop) (x2 : Int32) (w : wS) : Prop := (if w_i w 10 0 4 ≤ x2 then Q (.inl (some (.int 1))) w else (kx_inb x2 (w_n w 10 0 3) = true ∧ zL_X11_key_p125 E L Q x2 (w_r w 10 0 3 (x2).toNatClampNeg) 0 w))
theorem zt_X11_key_p107 {E : zE} {L : Nat} {Q : kx_Rs → wS → Prop} {x2 : Int32} {w : wS} (hL : 22 ≤ L) (h : zb_X11_key_p107 E L Q x2 w) : kzE E L kt_M79 107 [(0, .ref (w_adr E.2.1 10 0)), (2, .int x2)] [] w Q := by
  unfold zb_X11_key_p107 at h
  refine kz_iload_n (M := kt_M79) kX11_key_c7.2.2.2.2.2.1 rfl ?_
  refine kz_aload_n (M := kt_M79) kX11_key_c7.2.2.2.2.2.2.1 rfl ?_
  refine kz_gfi (M := kt_M79) (c := 10) (o := 0) kX11_key_c7.2.2.2.2.2.2.2.1 wf_X11_107 (.inl rfl) ?_
  refine kz_icmp_ge (M := kt_M79) kX11_key_c8.1 (t := 188) rfl h (fun h => ?_) (fun h => ?_)
  · skip
    refine kz_ic (M := kt_M79) 1 kX11_key_c12.2.2.2.2.2.1 rfl ?_
    exact kz_iretz (M := kt_M79) kX11_key_c12.2.2.2.2.2.2.1 rfl (by decide) h
  · skip
    refine kz_aload_n (M := kt_M79) kX11_key_c8.2.1 rfl ?_
    refine kz_gfc (M := kt_M79) (x := 3563) (c := 10) (o := 0) kX11_key_c8.2.2.1 wf_X11_20 (.inl rfl) ?_
    refine kz_iload_n (M := kt_M79) kX11_key_c8.2.2.2.1 rfl ?_
    refine kz_aald (M := kt_M79) (τ := 4) (c := 10) (o := 0) (k := 3) (a := (E.2.1 3563)) kX11_key_c8.2.2.2.2.1 ow_10_0_3 oa_10_0_3 ot_8 rfl h (fun h => ?_)
    refine kz_stv_n (M := kt_M79) (x := w_r w 10 0 3 (x2).toNatClampNeg) [(0, .ref (w_adr E.2.1 10 0)), (2, .int x2)] kX11_key_c8.2.2.2.2.2.1 (Nat.le_of_ble_eq_true rfl) ⟨⟨rfl, rfl, .inl rfl⟩, ⟨⟨rfl, rfl, .inr rfl⟩, trivial⟩⟩ rfl ?_
    refine kz_ic (M := kt_M79) 0 kX11_key_c8.2.2.2.2.2.2.1 rfl ?_
    refine kz_sti (M := kt_M79) [(0, .ref (w_adr E.2.1 10 0)), (2, .int x2), (3, va_rf (w_r w 10 0 3 (x2).toNatClampNeg))] kX11_key_c8.2.2.2.2.2.2.2.1 (Nat.le_of_ble_eq_true rfl) ⟨⟨rfl, rfl, .inl rfl⟩, ⟨⟨rfl, rfl, .inl rfl⟩, ⟨⟨rfl, rfl, .inr (w_cat (w_r w 10 0 3 (x2).toNatClampNeg))⟩, trivial⟩⟩⟩ rfl ?_
    exact kz_weak [(0, .ref (w_adr E.2.1 10 0)), (2, .int x2), (3, va_rf (w_r w 10 0 3 (x2).toNatClampNeg)), (4, .int 0)] ⟨rfl, ⟨rfl, ⟨rfl, ⟨rfl, trivial⟩⟩⟩⟩ rfl h
def zb_X11_key_p21 (E : zE) (L : Nat) (Q : kx_Rs → wS → Prop) (x1 : Int32) (x2 : Int32) (w : wS) : Prop := (if w_i w 10 0 4 ≤ x2 then (kx_inb (w_i w 10 0 12) (w_n w 10 0 16) = true ∧ zL_X11_key_p107 E L Q 0 (ws_a (ws_i w 10 0 12 ((w_i w 10 0 12) + 1)) 10 0 16 (w_i w 10 0 12).toNatClampNeg (vp_nar .byte ((x1).toInt8.toInt32)))) else (kx_inb x2 (w_n w 10 0 3) = true ∧ (∃ p1, w_r w 10 0 3 (x2).toNatClampNeg = some p1 ∧ w_l w E.2.1 17 p1 ∧ (if ¬ w_p w 17 p1 9 = some (E.1.1 64) then zL_X11_key_p21 E L Q x1 (x2 + 1) w else (kx_inb 0 (w_n w 17 p1 12) = true ∧ zw E (L - 22) kt_M127 [.ref (w_adr E.2.1 11 0), .int (w_a w 17 p1 12 (0 : Int32).toNatClampNeg), .int (x1 &&& 255)] w (wk0 (fun w2 => wle w w2 → zw E (L - 21) kt_M117 [.ref (w_adr E.2.1 10 0), va_rf (w_r w 10 0 3 (x2).toNatClampNeg)] (ws_p (ws_i w2 10 0 28 0) 10 0 22 none) (wk0 (fun w4 => wle (ws_p (ws_i w2 10 0 28 0) 10 0 22 none) w4 → Q (.inl (some (.int 1))) w4) (fun e w => Q (.inr e) w))) (fun e w => Q (.inr e) w)))))))
theorem zt_X11_key_p21 {E : zE} {L : Nat} {Q : kx_Rs → wS → Prop} {x1 : Int32} {x2 : Int32} {w : wS} (hL : 22 ≤ L) (h : zb_X11_key_p21 E L Q x1 x2 w) : kzE E L kt_M79 21 [(0, .ref (w_adr E.2.1 10 0)), (1, .int x1), (2, .int x2)] [] w Q := by
  unfold zb_X11_key_p21 at h
  refine kz_iload_n (M := kt_M79) kX11_key_c1.2.2.2.1 rfl ?_
  refine kz_aload_n (M := kt_M79) kX11_key_c1.2.2.2.2.1 rfl ?_
  refine kz_gfi (M := kt_M79) (c := 10) (o := 0) kX11_key_c1.2.2.2.2.2.1 wf_X11_107 (.inl rfl) ?_
  refine kz_icmp_ge (M := kt_M79) kX11_key_c1.2.2.2.2.2.2.1 (t := 87) rfl h (fun h => ?_) (fun h => ?_)
  · skip
    refine kz_aload_n (M := kt_M79) kX11_key_c5.2.2.2.2.2.2.2.1 rfl ?_
    refine kz_gfc (M := kt_M79) (x := 3576) (c := 10) (o := 0) kX11_key_c6.1 wf_X11_28 (.inl rfl) ?_
    refine kz_aload_n (M := kt_M79) kX11_key_c6.2.1 rfl ?_
    refine kz_dup (M := kt_M79) kX11_key_c6.2.2.1 rfl ?_
    refine kz_gfi (M := kt_M79) (c := 10) (o := 0) kX11_key_c6.2.2.2.1 wf_X11_189 (.inl rfl) ?_
    refine kz_dup_x1 (M := kt_M79) kX11_key_c6.2.2.2.2.1 ⟨rfl, rfl⟩ ?_
    refine kz_ic (M := kt_M79) 1 kX11_key_c6.2.2.2.2.2.1 rfl ?_
    refine kz_iadd (M := kt_M79) kX11_key_c6.2.2.2.2.2.2.1 ?_
    refine kz_pfi (M := kt_M79) (c := 10) (o := 0) kX11_key_c6.2.2.2.2.2.2.2.1 wq_X11_189 (.inl rfl) ?_
    refine kz_iload_n (M := kt_M79) kX11_key_c7.1 rfl ?_
    refine kz_i2b (M := kt_M79) kX11_key_c7.2.1 ?_
    refine kz_bastR (M := kt_M79) (n := w_n w 10 0 16) (c := 10) (o := 0) (k := 16) (a := (E.2.1 3576)) kX11_key_c7.2.2.1 ow_10_0_16 oa_10_0_16 ot_1 rd_n_i h (fun h => ?_)
    refine kz_ic (M := kt_M79) 0 kX11_key_c7.2.2.2.1 rfl ?_
    refine kz_sti_n (M := kt_M79) [(0, .ref (w_adr E.2.1 10 0))] kX11_key_c7.2.2.2.2.1 (Nat.le_of_ble_eq_true rfl) ⟨⟨rfl, rfl, .inl rfl⟩, trivial⟩ rfl ?_
    exact kz_weak [(0, .ref (w_adr E.2.1 10 0)), (2, .int 0)] ⟨rfl, ⟨rfl, trivial⟩⟩ rfl h
  · skip
    refine kz_aload_n (M := kt_M79) kX11_key_c1.2.2.2.2.2.2.2.1 rfl ?_
    refine kz_gfc (M := kt_M79) (x := 3563) (c := 10) (o := 0) kX11_key_c2.1 wf_X11_20 (.inl rfl) ?_
    refine kz_iload_n (M := kt_M79) kX11_key_c2.2.1 rfl ?_
    refine kz_aald (M := kt_M79) (τ := 4) (c := 10) (o := 0) (k := 3) (a := (E.2.1 3563)) kX11_key_c2.2.2.1 ow_10_0_3 oa_10_0_3 ot_8 rfl h (fun h => ?_)
    refine kz_stv_n (M := kt_M79) (x := w_r w 10 0 3 (x2).toNatClampNeg) [(0, .ref (w_adr E.2.1 10 0)), (1, .int x1), (2, .int x2)] kX11_key_c2.2.2.2.1 (Nat.le_of_ble_eq_true rfl) ⟨⟨rfl, rfl, .inl rfl⟩, ⟨⟨rfl, rfl, .inl rfl⟩, ⟨⟨rfl, rfl, .inr rfl⟩, trivial⟩⟩⟩ rfl ?_
    refine kz_aload_nv (M := kt_M79) (x := w_r w 10 0 3 (x2).toNatClampNeg) kX11_key_c2.2.2.2.2.1 rfl ?_
    obtain ⟨p1, hxp1, hlp1, h⟩ := h
    refine kz_nz0 (x := w_r w 10 0 3 (x2).toNatClampNeg) hxp1 ?_
    refine kz_gfp (M := kt_M79) (c := 17) (o := p1) kX11_key_c2.2.2.2.2.2.1 wf_X11_125 (.inr (by exact hlp1)) ?_
    refine kz_getsE (M := kt_M79) (v := va_rf (some (E.1.1 64))) kX11_key_c2.2.2.2.2.2.2.1 zs_X11_246 ?_
    refine kz_acmp_ne (M := kt_M79) (x := w_p w 17 p1 9) (y := some (E.1.1 64)) kX11_key_c2.2.2.2.2.2.2.2.1 (t := 81) rfl h (fun h => ?_) (fun h => ?_)
    · skip
      refine kz_inc (M := kt_M79) [(0, .ref (w_adr E.2.1 10 0)), (1, .int x1)] kX11_key_c5.2.2.2.2.2.1 rfl (Nat.le_of_ble_eq_true rfl) ⟨⟨rfl, rfl, .inl rfl⟩, ⟨⟨rfl, rfl, .inr rfl⟩, trivial⟩⟩ rfl ?_
      refine kz_goto (M := kt_M79) kX11_key_c5.2.2.2.2.2.2.1 (t := 21) rfl ?_
      exact kz_weak [(0, .ref (w_adr E.2.1 10 0)), (1, .int x1), (2, .int (x2 + 1))] ⟨rfl, ⟨rfl, ⟨rfl, trivial⟩⟩⟩ rfl h
    · skip
      refine kz_aload_n (M := kt_M79) kX11_key_c3.1 rfl ?_
      refine kz_gfc (M := kt_M79) (x := 44) (c := 10) (o := 0) kX11_key_c3.2.1 wf_X11_12 (.inl rfl) ?_
      refine kz_aload_nv (M := kt_M79) (x := w_r w 10 0 3 (x2).toNatClampNeg) kX11_key_c3.2.2.1 rfl ?_
      refine kz_nz0 (x := w_r w 10 0 3 (x2).toNatClampNeg) hxp1 ?_
      refine kz_gfa (M := kt_M79) (c := 17) (o := p1) kX11_key_c3.2.2.2.1 wf_X11_425 (.inr (by exact hlp1)) ?_
      refine kz_ic (M := kt_M79) 0 kX11_key_c3.2.2.2.2.1 rfl ?_
      refine kz_iald (M := kt_M79) (c := 17) (o := p1) (k := 12) (a := (w_d w 17 p1 12)) kX11_key_c3.2.2.2.2.2.1 (.inr ⟨.inr (by exact hlp1), rfl, rfl⟩) rfl ot_0 h (fun h => ?_)
      refine kz_iload_n (M := kt_M79) kX11_key_c3.2.2.2.2.2.2.1 rfl ?_
      refine kz_si (M := kt_M79) 255 kX11_key_c3.2.2.2.2.2.2.2.1 rfl ?_
      refine kz_iand (M := kt_M79) kX11_key_c4.1 ?_
      refine kz_cv0 (M := kt_M79) (c := 11) (o := 0) (As := [.int (w_a w 17 p1 12 (0 : Int32).toNatClampNeg), .int (x1 &&& 255)]) (rest := []) kX11_key_c4.2.1 wl_X11_348 wMv_127 rfl (.inl rfl) rfl (Nat.le_trans (Nat.le_of_ble_eq_true rfl) hL) (Nat.le_of_ble_eq_true rfl) (Nat.le_of_ble_eq_true rfl) h (fun w2 hle h => ?_) (fun _ _ _ h => kzx_no rfl h)
      have h := h hle
      have hlp1 := w_l_le hlp1 hle
      refine kz_aload_n (M := kt_M79) kX11_key_c4.2.2.1 rfl ?_
      refine kz_ic (M := kt_M79) 0 kX11_key_c4.2.2.2.1 rfl ?_
      refine kz_pfi (M := kt_M79) (c := 10) (o := 0) kX11_key_c4.2.2.2.2.1 wq_X11_198 (.inl rfl) ?_
      refine kz_aload_n (M := kt_M79) kX11_key_c4.2.2.2.2.2.1 rfl ?_
      refine kz_null (M := kt_M79) kX11_key_c4.2.2.2.2.2.2.1 ?_
      refine kz_pfp (M := kt_M79) (n := none) (c := 10) (o := 0) kX11_key_c4.2.2.2.2.2.2.2.1 wq_X11_201 (.inl rfl) ?_
      refine kz_aload_n (M := kt_M79) kX11_key_c5.1 rfl ?_
      refine kz_aload_nv (M := kt_M79) (x := w_r w 10 0 3 (x2).toNatClampNeg) kX11_key_c5.2.1 rfl ?_
      refine kz_cv0 (M := kt_M79) (c := 10) (o := 0) (As := [va_rf (w_r w 10 0 3 (x2).toNatClampNeg)]) (rest := []) kX11_key_c5.2.2.1 wl_X11_217 wMv_117 rfl (.inl rfl) rfl (Nat.le_trans (Nat.le_of_ble_eq_true rfl) hL) (by simp [lg_sl, w_cat, z_ci, z_cr, z_cl, z_cn, kt_M117]) (Nat.le_of_ble_eq_true rfl) h (fun w4 hle h => ?_) (fun _ _ _ h => kzx_no rfl h)
      have h := h hle
      have hlp1 := w_l_le hlp1 hle
      refine kz_ic (M := kt_M79) 1 kX11_key_c5.2.2.2.1 rfl ?_
      exact kz_iretz (M := kt_M79) kX11_key_c5.2.2.2.2.1 rfl (by decide) h
def zb_X11_key_p17 (E : zE) (L : Nat) (Q : kx_Rs → wS → Prop) (w : wS) : Prop := Q (.inl (some (.int 0))) w
theorem zt_X11_key_p17 {E : zE} {L : Nat} {Q : kx_Rs → wS → Prop} {w : wS} (hL : 22 ≤ L) (h : zb_X11_key_p17 E L Q  w) : kzE E L kt_M79 17 [(0, .ref (w_adr E.2.1 10 0))] [] w Q := by
  unfold zb_X11_key_p17 at h
  refine kz_ic (M := kt_M79) 0 kX11_key_c0.2.2.2.2.2.2.2.1 rfl ?_
  exact kz_iretz (M := kt_M79) kX11_key_c1.1 rfl (by decide) h
def zb_X11_key_p0 (E : zE) (L : Nat) (Q : kx_Rs → wS → Prop) (x1 : Int32) (w : wS) : Prop := (if w_i w 10 0 14 = 0 then zb_X11_key_p17 E L Q w else (if ¬ w_i w 10 0 12 = 500 then zL_X11_key_p21 E L Q x1 0 w else zb_X11_key_p17 E L Q w))
theorem zt_X11_key_p0 {E : zE} {L : Nat} {Q : kx_Rs → wS → Prop} {x1 : Int32} {w : wS} (hL : 22 ≤ L) (h : zb_X11_key_p0 E L Q x1 w) : kzE E L kt_M79 0 [(0, .ref (w_adr E.2.1 10 0)), (1, .int x1)] [] w Q := by
  unfold zb_X11_key_p0 at h
  refine kz_aload_n (M := kt_M79) kX11_key_c0.1 rfl ?_
  refine kz_gfi (M := kt_M79) (c := 10) (o := 0) kX11_key_c0.2.1 wf_X11_207 (.inl rfl) ?_
  refine kz_if_eq (M := kt_M79) kX11_key_c0.2.2.1 (t := 17) rfl h (fun h => ?_) (fun h => ?_)
  · skip
    exact kz_weak [(0, .ref (w_adr E.2.1 10 0))] ⟨rfl, trivial⟩ rfl (zt_X11_key_p17 hL  h)
  · skip
    refine kz_aload_n (M := kt_M79) kX11_key_c0.2.2.2.1 rfl ?_
    refine kz_gfi (M := kt_M79) (c := 10) (o := 0) kX11_key_c0.2.2.2.2.1 wf_X11_189 (.inl rfl) ?_
    refine kz_si (M := kt_M79) 500 kX11_key_c0.2.2.2.2.2.1 rfl ?_
    refine kz_icmp_ne (M := kt_M79) kX11_key_c0.2.2.2.2.2.2.1 (t := 19) rfl h (fun h => ?_) (fun h => ?_)
    · skip
      refine kz_ic (M := kt_M79) 0 kX11_key_c1.2.1 rfl ?_
      refine kz_sti_n (M := kt_M79) [(0, .ref (w_adr E.2.1 10 0)), (1, .int x1)] kX11_key_c1.2.2.1 (Nat.le_of_ble_eq_true rfl) ⟨⟨rfl, rfl, .inl rfl⟩, ⟨⟨rfl, rfl, .inr rfl⟩, trivial⟩⟩ rfl ?_
      exact kz_weak [(0, .ref (w_adr E.2.1 10 0)), (1, .int x1), (2, .int 0)] ⟨rfl, ⟨rfl, ⟨rfl, trivial⟩⟩⟩ rfl h
    · skip
      exact kz_weak [(0, .ref (w_adr E.2.1 10 0))] ⟨rfl, trivial⟩ rfl (zt_X11_key_p17 hL  h)
def zL_X11_way_p12 (E : zE) (L : Nat) (Q : kx_Rs → wS → Prop) (w : wS) : Prop := kzE E L kt_M117 12 [(0, .ref (w_adr E.2.1 10 0))] [] w Q
def zb_X11_way_p12 (E : zE) (L : Nat) (Q : kx_Rs → wS → Prop) (w : wS) : Prop := (if w_i w 10 0 31 = 0 then Q (.inl none) w else zw E (L - 21) kt_M76 [.ref (w_adr E.2.1 10 0)] w (wk0 (fun w1 => wle w w1 → zL_X11_way_p12 E L Q w1) (fun e w => Q (.inr e) w)))
theorem zt_X11_way_p12 {E : zE} {L : Nat} {Q : kx_Rs → wS → Prop} {w : wS} (hL : 21 ≤ L) (h : zb_X11_way_p12 E L Q  w) : kzE E L kt_M117 12 [(0, .ref (w_adr E.2.1 10 0))] [] w Q := by
  unfold zb_X11_way_p12 at h
  refine kz_aload_n (M := kt_M117) kX11_way_c0.2.2.2.2.2.2.1 rfl ?_
  refine kz_gfi (M := kt_M117) (c := 10) (o := 0) kX11_way_c0.2.2.2.2.2.2.2.1 wf_X11_115 (.inl rfl) ?_
  refine kz_if_eq (M := kt_M117) kX11_way_c1.1 (t := 26) rfl h (fun h => ?_) (fun h => ?_)
  · skip
    exact kz_ret (M := kt_M117) kX11_way_c1.2.2.2.2.1 rfl h
  · skip
    refine kz_aload_n (M := kt_M117) kX11_way_c1.2.1 rfl ?_
    refine kz_cv0 (M := kt_M117) (c := 10) (o := 0) (As := []) (rest := []) kX11_way_c1.2.2.1 wl_X11_167 wMv_76 rfl (.inl rfl) rfl (Nat.le_trans (Nat.le_of_ble_eq_true rfl) hL) (Nat.le_of_ble_eq_true rfl) (Nat.le_of_ble_eq_true rfl) h (fun w1 hle h => ?_) (fun _ _ _ h => kzx_no rfl h)
    have h := h hle
    refine kz_goto (M := kt_M117) kX11_way_c1.2.2.2.1 (t := 12) rfl ?_
    exact kz_weak [(0, .ref (w_adr E.2.1 10 0))] ⟨rfl, trivial⟩ rfl h
def zb_X11_way_p0 (E : zE) (L : Nat) (Q : kx_Rs → wS → Prop) (x1 : Option Nat) (w : wS) : Prop := zw E (L - 21) kt_M81 [.ref (w_adr E.2.1 10 0), va_rf (x1)] w (wk0 (fun w1 => wle w w1 → (∃ p3, x1 = some p3 ∧ w_l w1 E.2.1 17 p3 ∧ zL_X11_way_p12 E L Q (ws_p w1 17 p3 9 (some (E.1.1 61))))) (fun e w => Q (.inr e) w))
theorem zt_X11_way_p0 {E : zE} {L : Nat} {Q : kx_Rs → wS → Prop} {x1 : Option Nat} {w : wS} (hL : 21 ≤ L) (h : zb_X11_way_p0 E L Q x1 w) : kzE E L kt_M117 0 [(0, .ref (w_adr E.2.1 10 0)), (1, va_rf (x1))] [] w Q := by
  unfold zb_X11_way_p0 at h
  refine kz_aload_n (M := kt_M117) kX11_way_c0.1 rfl ?_
  refine kz_aload_nv (M := kt_M117) (x := x1) kX11_way_c0.2.1 rfl ?_
  refine kz_cv0 (M := kt_M117) (c := 10) (o := 0) (As := [va_rf (x1)]) (rest := []) kX11_way_c0.2.2.1 wl_X11_157 wMv_81 rfl (.inl rfl) rfl (Nat.le_trans (Nat.le_of_ble_eq_true rfl) hL) (by simp [lg_sl, w_cat, z_ci, z_cr, z_cl, z_cn, kt_M81]) (Nat.le_of_ble_eq_true rfl) h (fun w1 hle h => ?_) (fun _ _ _ h => kzx_no rfl h)
  have h := h hle
  refine kz_aload_nv (M := kt_M117) (x := x1) kX11_way_c0.2.2.2.1 rfl ?_
  refine kz_getsE (M := kt_M117) (v := va_rf (some (E.1.1 61))) kX11_way_c0.2.2.2.2.1 zs_X11_154 ?_
  obtain ⟨p3, hxp3, hlp3, h⟩ := h
  refine kz_nz1 (x := x1) hxp3 ?_
  refine kz_pfp (M := kt_M117) (n := some (E.1.1 61)) (c := 17) (o := p3) kX11_way_c0.2.2.2.2.2.1 wq_X11_125 (.inr (by exact hlp3)) ?_
  exact kz_weak [(0, .ref (w_adr E.2.1 10 0))] ⟨rfl, trivial⟩ rfl h
def zb_X11_load_p0 (E : zE) (L : Nat) (Q : kx_Rs → wS → Prop) (x1 : Option Nat) (w : wS) : Prop := (∃ p1, x1 = some p1 ∧ w_l (ws_p w 10 0 21 x1) E.2.1 17 p1 ∧ Q (.inl none) (ws_i (ws_i (ws_i (ws_p w 10 0 21 x1) 10 0 25 (w_i w 17 p1 1)) 10 0 26 (w_i w 17 p1 2)) 10 0 31 1))
theorem zt_X11_load_p0 {E : zE} {L : Nat} {Q : kx_Rs → wS → Prop} {x1 : Option Nat} {w : wS} (hL : 19 ≤ L) (h : zb_X11_load_p0 E L Q x1 w) : kzE E L kt_M81 0 [(0, .ref (w_adr E.2.1 10 0)), (1, va_rf (x1))] [] w Q := by
  unfold zb_X11_load_p0 at h
  refine kz_aload_n (M := kt_M81) kX11_load_c0.1 rfl ?_
  refine kz_aload_nv (M := kt_M81) (x := x1) kX11_load_c0.2.1 rfl ?_
  refine kz_pfp (M := kt_M81) (n := x1) (c := 10) (o := 0) kX11_load_c0.2.2.1 wq_X11_110 (.inl rfl) ?_
  refine kz_aload_n (M := kt_M81) kX11_load_c0.2.2.2.1 rfl ?_
  refine kz_aload_nv (M := kt_M81) (x := x1) kX11_load_c0.2.2.2.2.1 rfl ?_
  obtain ⟨p1, hxp1, hlp1, h⟩ := h
  refine kz_nz0 (x := x1) hxp1 ?_
  refine kz_gfiR (M := kt_M81) (c := 17) (o := p1) (w_i w 17 p1 1) kX11_load_c0.2.2.2.2.2.1 wf_X11_113 (.inr (by exact hlp1)) rd_i_p ?_
  refine kz_pfi (M := kt_M81) (c := 10) (o := 0) kX11_load_c0.2.2.2.2.2.2.1 wq_X11_59 (.inl rfl) ?_
  refine kz_aload_n (M := kt_M81) kX11_load_c0.2.2.2.2.2.2.2.1 rfl ?_
  refine kz_aload_nv (M := kt_M81) (x := x1) kX11_load_c1.1 rfl ?_
  refine kz_nz0 (x := x1) hxp1 ?_
  refine kz_gfiR (M := kt_M81) (c := 17) (o := p1) (w_i w 17 p1 2) kX11_load_c1.2.1 wf_X11_91 (.inr (by exact hlp1)) ((rd_i_i rfl).trans rd_i_p) ?_
  refine kz_pfi (M := kt_M81) (c := 10) (o := 0) kX11_load_c1.2.2.1 wq_X11_114 (.inl rfl) ?_
  refine kz_aload_n (M := kt_M81) kX11_load_c1.2.2.2.1 rfl ?_
  refine kz_ic (M := kt_M81) 1 kX11_load_c1.2.2.2.2.1 rfl ?_
  refine kz_pfz (M := kt_M81) (c := 10) (o := 0) kX11_load_c1.2.2.2.2.2.1 wq_X11_115 (.inl rfl) (by decide) ?_
  exact kz_ret (M := kt_M81) kX11_load_c1.2.2.2.2.2.2.1 rfl h
def zb_X11_instruct_p38 (E : zE) (L : Nat) (Q : kx_Rs → wS → Prop) (w : wS) : Prop := Q (.inl none) w
theorem zt_X11_instruct_p38 {E : zE} {L : Nat} {Q : kx_Rs → wS → Prop} {w : wS} (hL : 26 ≤ L) (h : zb_X11_instruct_p38 E L Q  w) : kzE E L kt_M76 38 [(0, .ref (w_adr E.2.1 10 0))] [] w Q := by
  unfold zb_X11_instruct_p38 at h
  exact kz_ret (M := kt_M76) kX11_instruct_c2.2.2.2.2.1 rfl h
def zb_X11_instruct_p0 (E : zE) (L : Nat) (Q : kx_Rs → wS → Prop) (w : wS) : Prop := zw E (L - 20) kt_M88 [.ref (w_adr E.2.1 10 0)] w (wk1 (fun v2 w1 => wle w w1 → (if 21 < v2 then (if 32 < v2 then zw E (L - 24) kt_M58 [.ref (w_adr E.2.1 10 0), .int v2] w1 (wk0 (fun w3 => wle w1 w3 → zb_X11_instruct_p38 E L Q w3) (fun e w => Q (.inr e) w)) else zw E (L - 26) kt_M74 [.ref (w_adr E.2.1 10 0), .int v2] w1 (wk0 (fun w5 => wle w1 w5 → zb_X11_instruct_p38 E L Q w5) (fun e w => Q (.inr e) w))) else zw E (L - 25) kt_M100 [.ref (w_adr E.2.1 10 0), .int v2] w1 (wk0 (fun w7 => wle w1 w7 → zb_X11_instruct_p38 E L Q w7) (fun e w => Q (.inr e) w)))) (fun e w => Q (.inr e) w))
theorem zt_X11_instruct_p0 {E : zE} {L : Nat} {Q : kx_Rs → wS → Prop} {w : wS} (hL : 26 ≤ L) (h : zb_X11_instruct_p0 E L Q  w) : kzE E L kt_M76 0 [(0, .ref (w_adr E.2.1 10 0))] [] w Q := by
  unfold zb_X11_instruct_p0 at h
  refine kz_aload_n (M := kt_M76) kX11_instruct_c0.1 rfl ?_
  refine kz_cv1 (M := kt_M76) (c := 10) (o := 0) (As := []) (rest := []) kX11_instruct_c0.2.1 wl_X11_276 wMv_88 rfl (.inl rfl) rfl (Nat.le_trans (Nat.le_of_ble_eq_true rfl) hL) (Nat.le_of_ble_eq_true rfl) (Nat.le_of_ble_eq_true rfl) h (fun v2 w1 hle h => ?_) (fun _ _ _ h => kzx_no rfl h)
  have h := h hle
  refine kz_sti_n (M := kt_M76) [(0, .ref (w_adr E.2.1 10 0))] kX11_instruct_c0.2.2.1 (Nat.le_of_ble_eq_true rfl) ⟨⟨rfl, rfl, .inr rfl⟩, trivial⟩ rfl ?_
  refine kz_iload_n (M := kt_M76) kX11_instruct_c0.2.2.2.1 rfl ?_
  refine kz_bi (M := kt_M76) 21 kX11_instruct_c0.2.2.2.2.1 rfl ?_
  refine kz_icmp_gt (M := kt_M76) kX11_instruct_c0.2.2.2.2.2.1 (t := 19) rfl h (fun h => ?_) (fun h => ?_)
  · skip
    refine kz_iload_n (M := kt_M76) kX11_instruct_c1.2.2.1 rfl ?_
    refine kz_bi (M := kt_M76) 32 kX11_instruct_c1.2.2.2.1 rfl ?_
    refine kz_icmp_gt (M := kt_M76) kX11_instruct_c1.2.2.2.2.1 (t := 33) rfl h (fun h => ?_) (fun h => ?_)
    · skip
      refine kz_aload_n (M := kt_M76) kX11_instruct_c2.2.1 rfl ?_
      refine kz_iload_n (M := kt_M76) kX11_instruct_c2.2.2.1 rfl ?_
      refine kz_cv0 (M := kt_M76) (c := 10) (o := 0) (As := [.int v2]) (rest := []) kX11_instruct_c2.2.2.2.1 wl_X11_286 wMv_58 rfl (.inl rfl) rfl (Nat.le_trans (Nat.le_of_ble_eq_true rfl) hL) (Nat.le_of_ble_eq_true rfl) (Nat.le_of_ble_eq_true rfl) h (fun w3 hle h => ?_) (fun _ _ _ h => kzx_no rfl h)
      have h := h hle
      exact kz_weak [(0, .ref (w_adr E.2.1 10 0))] ⟨rfl, trivial⟩ rfl (zt_X11_instruct_p38 hL  h)
    · skip
      refine kz_aload_n (M := kt_M76) kX11_instruct_c1.2.2.2.2.2.1 rfl ?_
      refine kz_iload_n (M := kt_M76) kX11_instruct_c1.2.2.2.2.2.2.1 rfl ?_
      refine kz_cv0 (M := kt_M76) (c := 10) (o := 0) (As := [.int v2]) (rest := []) kX11_instruct_c1.2.2.2.2.2.2.2.1 wl_X11_283 wMv_74 rfl (.inl rfl) rfl (Nat.le_trans (Nat.le_of_ble_eq_true rfl) hL) (Nat.le_of_ble_eq_true rfl) (Nat.le_of_ble_eq_true rfl) h (fun w5 hle h => ?_) (fun _ _ _ h => kzx_no rfl h)
      have h := h hle
      refine kz_goto (M := kt_M76) kX11_instruct_c2.1 (t := 38) rfl ?_
      exact kz_weak [(0, .ref (w_adr E.2.1 10 0))] ⟨rfl, trivial⟩ rfl (zt_X11_instruct_p38 hL  h)
  · skip
    refine kz_aload_n (M := kt_M76) kX11_instruct_c0.2.2.2.2.2.2.1 rfl ?_
    refine kz_iload_n (M := kt_M76) kX11_instruct_c0.2.2.2.2.2.2.2.1 rfl ?_
    refine kz_cv0 (M := kt_M76) (c := 10) (o := 0) (As := [.int v2]) (rest := []) kX11_instruct_c1.1 wl_X11_280 wMv_100 rfl (.inl rfl) rfl (Nat.le_trans (Nat.le_of_ble_eq_true rfl) hL) (Nat.le_of_ble_eq_true rfl) (Nat.le_of_ble_eq_true rfl) h (fun w7 hle h => ?_) (fun _ _ _ h => kzx_no rfl h)
    have h := h hle
    refine kz_goto (M := kt_M76) kX11_instruct_c1.2.1 (t := 38) rfl ?_
    exact kz_weak [(0, .ref (w_adr E.2.1 10 0))] ⟨rfl, trivial⟩ rfl (zt_X11_instruct_p38 hL  h)
def zb_X11_next_p0 (E : zE) (L : Nat) (Q : kx_Rs → wS → Prop) (w : wS) : Prop := (w_p w 10 0 2 = some (w_adr E.2.1 9 0) ∧ zw E (L - 21) kt_M221 [.ref (w_adr E.2.1 9 0), .int (w_i w 10 0 25)] (ws_i w 10 0 25 ((w_i w 10 0 25) + 1)) (wk1 (fun v3 w2 => wle (ws_i w 10 0 25 ((w_i w 10 0 25) + 1)) w2 → Q (.inl (some (.int v3))) w2) (fun e w => Q (.inr e) w)))
theorem zt_X11_next_p0 {E : zE} {L : Nat} {Q : kx_Rs → wS → Prop} {w : wS} (hL : 21 ≤ L) (h : zb_X11_next_p0 E L Q  w) : kzE E L kt_M88 0 [(0, .ref (w_adr E.2.1 10 0))] [] w Q := by
  unfold zb_X11_next_p0 at h
  refine kz_aload_n (M := kt_M88) kX11_next_c0.1 rfl ?_
  refine kz_gfp (M := kt_M88) (c := 10) (o := 0) kX11_next_c0.2.1 wf_X11_55 (.inl rfl) ?_
  refine kz_aload_n (M := kt_M88) kX11_next_c0.2.2.1 rfl ?_
  refine kz_dup (M := kt_M88) kX11_next_c0.2.2.2.1 rfl ?_
  refine kz_gfi (M := kt_M88) (c := 10) (o := 0) kX11_next_c0.2.2.2.2.1 wf_X11_59 (.inl rfl) ?_
  refine kz_dup_x1 (M := kt_M88) kX11_next_c0.2.2.2.2.2.1 ⟨rfl, rfl⟩ ?_
  refine kz_ic (M := kt_M88) 1 kX11_next_c0.2.2.2.2.2.2.1 rfl ?_
  refine kz_iadd (M := kt_M88) kX11_next_c0.2.2.2.2.2.2.2.1 ?_
  refine kz_pfi (M := kt_M88) (c := 10) (o := 0) kX11_next_c1.1 wq_X11_59 (.inl rfl) ?_
  obtain ⟨hf1, h⟩ := h
  refine kz_nz1 (x := w_p w 10 0 2) hf1 ?_
  refine kz_cv1 (M := kt_M88) (c := 9) (o := 0) (As := [.int (w_i w 10 0 25)]) (rest := []) kX11_next_c1.2.1 wl_X11_62 wMv_221 rfl (.inl rfl) rfl (Nat.le_trans (Nat.le_of_ble_eq_true rfl) hL) (Nat.le_of_ble_eq_true rfl) (Nat.le_of_ble_eq_true rfl) h (fun v3 w2 hle h => ?_) (fun _ _ _ h => kzx_no rfl h)
  have h := h hle
  exact kz_iret (M := kt_M88) kX11_next_c1.2.2.1 rfl rfl h
def zL_X11_reckon_p351 (E : zE) (L : Nat) (Q : kx_Rs → wS → Prop) (x2 : Int32) (x3 : Int32) (x4 : Int32) (x5 : Int32) (w : wS) : Prop := kzE E L kt_M100 351 [(0, .ref (w_adr E.2.1 10 0)), (2, .int x2), (3, .int x3), (4, .int x4), (5, .int x5)] [] w Q
def zL_X11_reckon_p115 (E : zE) (L : Nat) (Q : kx_Rs → wS → Prop) (x2 : Int32) (x3 : Int32) (w : wS) : Prop := kzE E L kt_M100 115 [(0, .ref (w_adr E.2.1 10 0)), (2, .int x2), (3, .int x3)] [] w Q
def zb_X11_reckon_p457 (E : zE) (L : Nat) (Q : kx_Rs → wS → Prop) (w : wS) : Prop := Q (.inl none) w
theorem zt_X11_reckon_p457 {E : zE} {L : Nat} {Q : kx_Rs → wS → Prop} {w : wS} (hL : 25 ≤ L) (h : zb_X11_reckon_p457 E L Q  w) : kzE E L kt_M100 457 [(0, .ref (w_adr E.2.1 10 0))] [] w Q := by
  unfold zb_X11_reckon_p457 at h
  exact kz_ret (M := kt_M100) kX11_reckon_c26.1 rfl h
def zb_X11_reckon_p443 (E : zE) (L : Nat) (Q : kx_Rs → wS → Prop) (w : wS) : Prop := zw E (L - 21) kt_M107 [.ref (w_adr E.2.1 10 0), .int 6] w (wk0 (fun w1 => wle w w1 → zb_X11_reckon_p457 E L Q w1) (fun e w => Q (.inr e) w))
theorem zt_X11_reckon_p443 {E : zE} {L : Nat} {Q : kx_Rs → wS → Prop} {w : wS} (hL : 25 ≤ L) (h : zb_X11_reckon_p443 E L Q  w) : kzE E L kt_M100 443 [(0, .ref (w_adr E.2.1 10 0))] [] w Q := by
  unfold zb_X11_reckon_p443 at h
  refine kz_aload_n (M := kt_M100) kX11_reckon_c25.2.1 rfl ?_
  refine kz_bi (M := kt_M100) 6 kX11_reckon_c25.2.2.1 rfl ?_
  refine kz_cv0 (M := kt_M100) (c := 10) (o := 0) (As := [.int 6]) (rest := []) kX11_reckon_c25.2.2.2.1 wl_X11_295 wMv_107 rfl (.inl rfl) rfl (Nat.le_trans (Nat.le_of_ble_eq_true rfl) hL) (Nat.le_of_ble_eq_true rfl) (Nat.le_of_ble_eq_true rfl) h (fun w1 hle h => ?_) (fun _ _ _ h => kzx_no rfl h)
  have h := h hle
  refine kz_goto (M := kt_M100) kX11_reckon_c25.2.2.2.2.1 (t := 457) rfl ?_
  exact kz_weak [(0, .ref (w_adr E.2.1 10 0))] ⟨rfl, trivial⟩ rfl (zt_X11_reckon_p457 hL  h)
def zb_X11_reckon_p429 (E : zE) (L : Nat) (Q : kx_Rs → wS → Prop) (x2 : Int32) (x3 : Int32) (w : wS) : Prop := (if ¬ x2 = 3 then zb_X11_reckon_p457 E L Q w else (if x3 < 0 then zb_X11_reckon_p443 E L Q w else (if x3 ≤ 1 then zb_X11_reckon_p457 E L Q w else zb_X11_reckon_p443 E L Q w)))
theorem zt_X11_reckon_p429 {E : zE} {L : Nat} {Q : kx_Rs → wS → Prop} {x2 : Int32} {x3 : Int32} {w : wS} (hL : 25 ≤ L) (h : zb_X11_reckon_p429 E L Q x2 x3 w) : kzE E L kt_M100 429 [(0, .ref (w_adr E.2.1 10 0)), (2, .int x2), (3, .int x3)] [] w Q := by
  unfold zb_X11_reckon_p429 at h
  refine kz_iload_n (M := kt_M100) kX11_reckon_c24.2.1 rfl ?_
  refine kz_ic (M := kt_M100) 3 kX11_reckon_c24.2.2.1 rfl ?_
  refine kz_icmp_ne (M := kt_M100) kX11_reckon_c24.2.2.2.1 (t := 457) rfl h (fun h => ?_) (fun h => ?_)
  · skip
    exact kz_weak [(0, .ref (w_adr E.2.1 10 0))] ⟨rfl, trivial⟩ rfl (zt_X11_reckon_p457 hL  h)
  · skip
    refine kz_iload_n (M := kt_M100) kX11_reckon_c24.2.2.2.2.1 rfl ?_
    refine kz_if_lt (M := kt_M100) kX11_reckon_c24.2.2.2.2.2.1 (t := 443) rfl h (fun h => ?_) (fun h => ?_)
    · skip
      exact kz_weak [(0, .ref (w_adr E.2.1 10 0))] ⟨rfl, trivial⟩ rfl (zt_X11_reckon_p443 hL  h)
    · skip
      refine kz_iload_n (M := kt_M100) kX11_reckon_c24.2.2.2.2.2.2.1 rfl ?_
      refine kz_ic (M := kt_M100) 1 kX11_reckon_c24.2.2.2.2.2.2.2.1 rfl ?_
      refine kz_icmp_le (M := kt_M100) kX11_reckon_c25.1 (t := 457) rfl h (fun h => ?_) (fun h => ?_)
      · skip
        exact kz_weak [(0, .ref (w_adr E.2.1 10 0))] ⟨rfl, trivial⟩ rfl (zt_X11_reckon_p457 hL  h)
      · skip
        exact kz_weak [(0, .ref (w_adr E.2.1 10 0))] ⟨rfl, trivial⟩ rfl (zt_X11_reckon_p443 hL  h)
def zb_X11_reckon_p379 (E : zE) (L : Nat) (Q : kx_Rs → wS → Prop) (x2 : Int32) (x3 : Int32) (x5 : Int32) (y0 : Int32) (w : wS) : Prop := zL_X11_reckon_p351 E L Q x2 x3 y0 (x5 + 1) w
theorem zt_X11_reckon_p379 {E : zE} {L : Nat} {Q : kx_Rs → wS → Prop} {x2 : Int32} {x3 : Int32} {x5 : Int32} {y0 : Int32} {w : wS} (hL : 25 ≤ L) (h : zb_X11_reckon_p379 E L Q x2 x3 x5 y0 w) : kzE E L kt_M100 379 [(0, .ref (w_adr E.2.1 10 0)), (2, .int x2), (3, .int x3), (5, .int x5)] [.int y0] w Q := by
  unfold zb_X11_reckon_p379 at h
  refine kz_sti (M := kt_M100) [(0, .ref (w_adr E.2.1 10 0)), (2, .int x2), (3, .int x3), (5, .int x5)] kX11_reckon_c20.2.2.2.2.2.2.2.1 (Nat.le_of_ble_eq_true rfl) ⟨⟨rfl, rfl, .inl rfl⟩, ⟨⟨rfl, rfl, .inl rfl⟩, ⟨⟨rfl, rfl, .inr rfl⟩, ⟨⟨rfl, rfl, .inl rfl⟩, trivial⟩⟩⟩⟩ rfl ?_
  refine kz_inc (M := kt_M100) [(0, .ref (w_adr E.2.1 10 0)), (2, .int x2), (3, .int x3), (4, .int y0)] kX11_reckon_c21.1 rfl (Nat.le_of_ble_eq_true rfl) ⟨⟨rfl, rfl, .inl rfl⟩, ⟨⟨rfl, rfl, .inl rfl⟩, ⟨⟨rfl, rfl, .inl rfl⟩, ⟨⟨rfl, rfl, .inr rfl⟩, trivial⟩⟩⟩⟩ rfl ?_
  refine kz_goto (M := kt_M100) kX11_reckon_c21.2.1 (t := 351) rfl ?_
  exact kz_weak [(0, .ref (w_adr E.2.1 10 0)), (2, .int x2), (3, .int x3), (4, .int y0), (5, .int (x5 + 1))] ⟨rfl, ⟨rfl, ⟨rfl, ⟨rfl, ⟨rfl, trivial⟩⟩⟩⟩⟩ rfl h
def zb_X11_reckon_p351 (E : zE) (L : Nat) (Q : kx_Rs → wS → Prop) (x2 : Int32) (x3 : Int32) (x4 : Int32) (x5 : Int32) (w : wS) : Prop := (if x2 ≤ x5 then zw E (L - 22) kt_M97 [.ref (w_adr E.2.1 10 0), .int x4] w (wk0 (fun w1 => wle w w1 → zb_X11_reckon_p457 E L Q w1) (fun e w => Q (.inr e) w)) else (if ¬ x3 = 2 then zw E (L - 20) kt_M95 [.ref (w_adr E.2.1 10 0)] w (wk1 (fun v4 w3 => wle w w3 → zb_X11_reckon_p379 E L Q x2 x3 x5 (x4 ||| v4) w3) (fun e w => Q (.inr e) w)) else zw E (L - 20) kt_M95 [.ref (w_adr E.2.1 10 0)] w (wk1 (fun v6 w5 => wle w w5 → zb_X11_reckon_p379 E L Q x2 x3 x5 (x4 &&& v6) w5) (fun e w => Q (.inr e) w))))
theorem zt_X11_reckon_p351 {E : zE} {L : Nat} {Q : kx_Rs → wS → Prop} {x2 : Int32} {x3 : Int32} {x4 : Int32} {x5 : Int32} {w : wS} (hL : 25 ≤ L) (h : zb_X11_reckon_p351 E L Q x2 x3 x4 x5 w) : kzE E L kt_M100 351 [(0, .ref (w_adr E.2.1 10 0)), (2, .int x2), (3, .int x3), (4, .int x4), (5, .int x5)] [] w Q := by
  unfold zb_X11_reckon_p351 at h
  refine kz_iload (M := kt_M100) kX11_reckon_c19.1 rfl ?_
  refine kz_iload_n (M := kt_M100) kX11_reckon_c19.2.1 rfl ?_
  refine kz_icmp_ge (M := kt_M100) kX11_reckon_c19.2.2.1 (t := 387) rfl h (fun h => ?_) (fun h => ?_)
  · skip
    refine kz_aload_n (M := kt_M100) kX11_reckon_c21.2.2.1 rfl ?_
    refine kz_iload (M := kt_M100) kX11_reckon_c21.2.2.2.1 rfl ?_
    refine kz_cv0 (M := kt_M100) (c := 10) (o := 0) (As := [.int x4]) (rest := []) kX11_reckon_c21.2.2.2.2.1 wl_X11_301 wMv_97 rfl (.inl rfl) rfl (Nat.le_trans (Nat.le_of_ble_eq_true rfl) hL) (Nat.le_of_ble_eq_true rfl) (Nat.le_of_ble_eq_true rfl) h (fun w1 hle h => ?_) (fun _ _ _ h => kzx_no rfl h)
    have h := h hle
    refine kz_goto (M := kt_M100) kX11_reckon_c21.2.2.2.2.2.1 (t := 457) rfl ?_
    exact kz_weak [(0, .ref (w_adr E.2.1 10 0))] ⟨rfl, trivial⟩ rfl (zt_X11_reckon_p457 hL  h)
  · skip
    refine kz_iload_n (M := kt_M100) kX11_reckon_c19.2.2.2.1 rfl ?_
    refine kz_ic (M := kt_M100) 2 kX11_reckon_c19.2.2.2.2.1 rfl ?_
    refine kz_icmp_ne (M := kt_M100) kX11_reckon_c19.2.2.2.2.2.1 (t := 372) rfl h (fun h => ?_) (fun h => ?_)
    · skip
      refine kz_iload (M := kt_M100) kX11_reckon_c20.2.2.2.1 rfl ?_
      refine kz_aload_n (M := kt_M100) kX11_reckon_c20.2.2.2.2.1 rfl ?_
      refine kz_cv1 (M := kt_M100) (c := 10) (o := 0) (As := []) (rest := [.int x4]) kX11_reckon_c20.2.2.2.2.2.1 wl_X11_304 wMv_95 rfl (.inl rfl) rfl (Nat.le_trans (Nat.le_of_ble_eq_true rfl) hL) (Nat.le_of_ble_eq_true rfl) (Nat.le_of_ble_eq_true rfl) h (fun v4 w3 hle h => ?_) (fun _ _ _ h => kzx_no rfl h)
      have h := h hle
      refine kz_ior (M := kt_M100) kX11_reckon_c20.2.2.2.2.2.2.1 ?_
      exact kz_weak [(0, .ref (w_adr E.2.1 10 0)), (2, .int x2), (3, .int x3), (5, .int x5)] ⟨rfl, ⟨rfl, ⟨rfl, ⟨rfl, trivial⟩⟩⟩⟩ rfl (zt_X11_reckon_p379 hL  h)
    · skip
      refine kz_iload (M := kt_M100) kX11_reckon_c19.2.2.2.2.2.2.1 rfl ?_
      refine kz_aload_n (M := kt_M100) kX11_reckon_c19.2.2.2.2.2.2.2.1 rfl ?_
      refine kz_cv1 (M := kt_M100) (c := 10) (o := 0) (As := []) (rest := [.int x4]) kX11_reckon_c20.1 wl_X11_304 wMv_95 rfl (.inl rfl) rfl (Nat.le_trans (Nat.le_of_ble_eq_true rfl) hL) (Nat.le_of_ble_eq_true rfl) (Nat.le_of_ble_eq_true rfl) h (fun v6 w5 hle h => ?_) (fun _ _ _ h => kzx_no rfl h)
      have h := h hle
      refine kz_iand (M := kt_M100) kX11_reckon_c20.2.1 ?_
      refine kz_goto (M := kt_M100) kX11_reckon_c20.2.2.1 (t := 379) rfl ?_
      exact kz_weak [(0, .ref (w_adr E.2.1 10 0)), (2, .int x2), (3, .int x3), (5, .int x5)] ⟨rfl, ⟨rfl, ⟨rfl, ⟨rfl, trivial⟩⟩⟩⟩ rfl (zt_X11_reckon_p379 hL  h)
def zb_X11_reckon_p346 (E : zE) (L : Nat) (Q : kx_Rs → wS → Prop) (x2 : Int32) (x3 : Int32) (y0 : Int32) (w : wS) : Prop := zL_X11_reckon_p351 E L Q x2 x3 y0 0 w
theorem zt_X11_reckon_p346 {E : zE} {L : Nat} {Q : kx_Rs → wS → Prop} {x2 : Int32} {x3 : Int32} {y0 : Int32} {w : wS} (hL : 25 ≤ L) (h : zb_X11_reckon_p346 E L Q x2 x3 y0 w) : kzE E L kt_M100 346 [(0, .ref (w_adr E.2.1 10 0)), (2, .int x2), (3, .int x3)] [.int y0] w Q := by
  unfold zb_X11_reckon_p346 at h
  refine kz_sti (M := kt_M100) [(0, .ref (w_adr E.2.1 10 0)), (2, .int x2), (3, .int x3)] kX11_reckon_c18.2.2.2.2.2.1 (Nat.le_of_ble_eq_true rfl) ⟨⟨rfl, rfl, .inl rfl⟩, ⟨⟨rfl, rfl, .inl rfl⟩, ⟨⟨rfl, rfl, .inr rfl⟩, trivial⟩⟩⟩ rfl ?_
  refine kz_ic (M := kt_M100) 0 kX11_reckon_c18.2.2.2.2.2.2.1 rfl ?_
  refine kz_sti (M := kt_M100) [(0, .ref (w_adr E.2.1 10 0)), (2, .int x2), (3, .int x3), (4, .int y0)] kX11_reckon_c18.2.2.2.2.2.2.2.1 (Nat.le_of_ble_eq_true rfl) ⟨⟨rfl, rfl, .inl rfl⟩, ⟨⟨rfl, rfl, .inl rfl⟩, ⟨⟨rfl, rfl, .inl rfl⟩, ⟨⟨rfl, rfl, .inr rfl⟩, trivial⟩⟩⟩⟩ rfl ?_
  exact kz_weak [(0, .ref (w_adr E.2.1 10 0)), (2, .int x2), (3, .int x3), (4, .int y0), (5, .int 0)] ⟨rfl, ⟨rfl, ⟨rfl, ⟨rfl, ⟨rfl, trivial⟩⟩⟩⟩⟩ rfl h
def zb_X11_reckon_p256 (E : zE) (L : Nat) (Q : kx_Rs → wS → Prop) (y0 : Int32) (w : wS) : Prop := zw E (L - 22) kt_M97 [.ref (w_adr E.2.1 10 0), .int y0] w (wk0 (fun w1 => wle w w1 → zb_X11_reckon_p457 E L Q w1) (fun e w => Q (.inr e) w))
theorem zt_X11_reckon_p256 {E : zE} {L : Nat} {Q : kx_Rs → wS → Prop} {y0 : Int32} {w : wS} (hL : 25 ≤ L) (h : zb_X11_reckon_p256 E L Q y0 w) : kzE E L kt_M100 256 [(0, .ref (w_adr E.2.1 10 0))] [.int y0, .ref (w_adr E.2.1 10 0)] w Q := by
  unfold zb_X11_reckon_p256 at h
  refine kz_cv0 (M := kt_M100) (c := 10) (o := 0) (As := [.int y0]) (rest := []) kX11_reckon_c12.2.2.2.2.2.2.2.1 wl_X11_301 wMv_97 rfl (.inl rfl) rfl (Nat.le_trans (Nat.le_of_ble_eq_true rfl) hL) (Nat.le_of_ble_eq_true rfl) (Nat.le_of_ble_eq_true rfl) h (fun w1 hle h => ?_) (fun _ _ _ h => kzx_no rfl h)
  have h := h hle
  refine kz_goto (M := kt_M100) kX11_reckon_c13.1 (t := 457) rfl ?_
  exact kz_weak [(0, .ref (w_adr E.2.1 10 0))] ⟨rfl, trivial⟩ rfl (zt_X11_reckon_p457 hL  h)
def zb_X11_reckon_p228 (E : zE) (L : Nat) (Q : kx_Rs → wS → Prop) (w : wS) : Prop := zw E (L - 21) kt_M107 [.ref (w_adr E.2.1 10 0), .int 3] w (wk0 (fun w1 => wle w w1 → zb_X11_reckon_p457 E L Q w1) (fun e w => Q (.inr e) w))
theorem zt_X11_reckon_p228 {E : zE} {L : Nat} {Q : kx_Rs → wS → Prop} {w : wS} (hL : 25 ≤ L) (h : zb_X11_reckon_p228 E L Q  w) : kzE E L kt_M100 228 [(0, .ref (w_adr E.2.1 10 0))] [] w Q := by
  unfold zb_X11_reckon_p228 at h
  refine kz_aload_n (M := kt_M100) kX11_reckon_c10.2.2.2.2.2.2.1 rfl ?_
  refine kz_ic (M := kt_M100) 3 kX11_reckon_c10.2.2.2.2.2.2.2.1 rfl ?_
  refine kz_cv0 (M := kt_M100) (c := 10) (o := 0) (As := [.int 3]) (rest := []) kX11_reckon_c11.1 wl_X11_295 wMv_107 rfl (.inl rfl) rfl (Nat.le_trans (Nat.le_of_ble_eq_true rfl) hL) (Nat.le_of_ble_eq_true rfl) (Nat.le_of_ble_eq_true rfl) h (fun w1 hle h => ?_) (fun _ _ _ h => kzx_no rfl h)
  have h := h hle
  refine kz_goto (M := kt_M100) kX11_reckon_c11.2.1 (t := 457) rfl ?_
  exact kz_weak [(0, .ref (w_adr E.2.1 10 0))] ⟨rfl, trivial⟩ rfl (zt_X11_reckon_p457 hL  h)
def zb_X11_reckon_p115 (E : zE) (L : Nat) (Q : kx_Rs → wS → Prop) (x2 : Int32) (x3 : Int32) (w : wS) : Prop := (if x3 ≤ 0 then zw E (L - 20) kt_M88 [.ref (w_adr E.2.1 10 0)] w (wk1 (fun v2 w1 => wle w w1 → zw E (L - 22) kt_M97 [.ref (w_adr E.2.1 10 0), .int ((x2 <<< (13 &&& 31)) ||| v2)] w1 (wk0 (fun w3 => wle w1 w3 → zb_X11_reckon_p457 E L Q w3) (fun e w => Q (.inr e) w))) (fun e w => Q (.inr e) w)) else zw E (L - 22) kt_M129 [.ref (w_adr E.2.1 11 0), .int x2, .int 0] w (wk1 (fun v6 w5 => wle w w5 → zL_X11_reckon_p115 E L Q v6 (x3 + (-1)) w5) (fun e w => Q (.inr e) w)))
theorem zt_X11_reckon_p115 {E : zE} {L : Nat} {Q : kx_Rs → wS → Prop} {x2 : Int32} {x3 : Int32} {w : wS} (hL : 25 ≤ L) (h : zb_X11_reckon_p115 E L Q x2 x3 w) : kzE E L kt_M100 115 [(0, .ref (w_adr E.2.1 10 0)), (2, .int x2), (3, .int x3)] [] w Q := by
  unfold zb_X11_reckon_p115 at h
  refine kz_iload_n (M := kt_M100) kX11_reckon_c3.2.2.2.1 rfl ?_
  refine kz_if_le (M := kt_M100) kX11_reckon_c3.2.2.2.2.1 (t := 135) rfl h (fun h => ?_) (fun h => ?_)
  · skip
    refine kz_aload_n (M := kt_M100) kX11_reckon_c4.2.2.2.2.2.1 rfl ?_
    refine kz_iload_n (M := kt_M100) kX11_reckon_c4.2.2.2.2.2.2.1 rfl ?_
    refine kz_bi (M := kt_M100) 13 kX11_reckon_c4.2.2.2.2.2.2.2.1 rfl ?_
    refine kz_ishl (M := kt_M100) kX11_reckon_c5.1 ?_
    refine kz_aload_n (M := kt_M100) kX11_reckon_c5.2.1 rfl ?_
    refine kz_cv1 (M := kt_M100) (c := 10) (o := 0) (As := []) (rest := [.int (x2 <<< (13 &&& 31)), .ref (w_adr E.2.1 10 0)]) kX11_reckon_c5.2.2.1 wl_X11_276 wMv_88 rfl (.inl rfl) rfl (Nat.le_trans (Nat.le_of_ble_eq_true rfl) hL) (Nat.le_of_ble_eq_true rfl) (Nat.le_of_ble_eq_true rfl) h (fun v2 w1 hle h => ?_) (fun _ _ _ h => kzx_no rfl h)
    have h := h hle
    refine kz_ior (M := kt_M100) kX11_reckon_c5.2.2.2.1 ?_
    refine kz_cv0 (M := kt_M100) (c := 10) (o := 0) (As := [.int ((x2 <<< (13 &&& 31)) ||| v2)]) (rest := []) kX11_reckon_c5.2.2.2.2.1 wl_X11_301 wMv_97 rfl (.inl rfl) rfl (Nat.le_trans (Nat.le_of_ble_eq_true rfl) hL) (Nat.le_of_ble_eq_true rfl) (Nat.le_of_ble_eq_true rfl) h (fun w3 hle h => ?_) (fun _ _ _ h => kzx_no rfl h)
    have h := h hle
    refine kz_goto (M := kt_M100) kX11_reckon_c5.2.2.2.2.2.1 (t := 457) rfl ?_
    exact kz_weak [(0, .ref (w_adr E.2.1 10 0))] ⟨rfl, trivial⟩ rfl (zt_X11_reckon_p457 hL  h)
  · skip
    refine kz_aload_n (M := kt_M100) kX11_reckon_c3.2.2.2.2.2.1 rfl ?_
    refine kz_gfc (M := kt_M100) (x := 44) (c := 10) (o := 0) kX11_reckon_c3.2.2.2.2.2.2.1 wf_X11_12 (.inl rfl) ?_
    refine kz_iload_n (M := kt_M100) kX11_reckon_c3.2.2.2.2.2.2.2.1 rfl ?_
    refine kz_ic (M := kt_M100) 0 kX11_reckon_c4.1 rfl ?_
    refine kz_cv1 (M := kt_M100) (c := 11) (o := 0) (As := [.int x2, .int 0]) (rest := []) kX11_reckon_c4.2.1 wl_X11_289 wMv_129 rfl (.inl rfl) rfl (Nat.le_trans (Nat.le_of_ble_eq_true rfl) hL) (Nat.le_of_ble_eq_true rfl) (Nat.le_of_ble_eq_true rfl) h (fun v6 w5 hle h => ?_) (fun _ _ _ h => kzx_no rfl h)
    have h := h hle
    refine kz_sti_n (M := kt_M100) [(0, .ref (w_adr E.2.1 10 0)), (3, .int x3)] kX11_reckon_c4.2.2.1 (Nat.le_of_ble_eq_true rfl) ⟨⟨rfl, rfl, .inl rfl⟩, ⟨⟨rfl, rfl, .inl rfl⟩, trivial⟩⟩ rfl ?_
    refine kz_inc (M := kt_M100) [(0, .ref (w_adr E.2.1 10 0)), (2, .int v6)] kX11_reckon_c4.2.2.2.1 rfl (Nat.le_of_ble_eq_true rfl) ⟨⟨rfl, rfl, .inl rfl⟩, ⟨⟨rfl, rfl, .inr rfl⟩, trivial⟩⟩ rfl ?_
    refine kz_goto (M := kt_M100) kX11_reckon_c4.2.2.2.2.1 (t := 115) rfl ?_
    exact kz_weak [(0, .ref (w_adr E.2.1 10 0)), (2, .int v6), (3, .int (x3 + (-1)))] ⟨rfl, ⟨rfl, ⟨rfl, trivial⟩⟩⟩ rfl h
def zb_X11_reckon_p0 (E : zE) (L : Nat) (Q : kx_Rs → wS → Prop) (x1 : Int32) (w : wS) : Prop := (if x1 = 0 then zw E (L - 20) kt_M59 [.ref (w_adr E.2.1 10 0)] w (wk0 (fun w1 => wle w w1 → zb_X11_reckon_p457 E L Q w1) (fun e w => Q (.inr e) w)) else (if x1 = 1 then zw E (L - 20) kt_M88 [.ref (w_adr E.2.1 10 0)] w (wk1 (fun v4 w3 => wle w w3 → (if ¬ w_i w3 10 0 27 = 0 then zb_X11_reckon_p457 E L Q w3 else (∃ p5, w_p w3 10 0 21 = some p5 ∧ w_l w3 E.2.1 17 p5 ∧ zb_X11_reckon_p457 E L Q (ws_i w3 17 p5 3 v4)))) (fun e w => Q (.inr e) w)) else (if x1 = 2 then zw E (L - 20) kt_M88 [.ref (w_adr E.2.1 10 0)] w (wk1 (fun v7 w6 => wle w w6 → zw E (L - 22) kt_M97 [.ref (w_adr E.2.1 10 0), .int v7] w6 (wk0 (fun w8 => wle w6 w8 → zb_X11_reckon_p457 E L Q w8) (fun e w => Q (.inr e) w))) (fun e w => Q (.inr e) w)) else (if x1 = 3 then zw E (L - 20) kt_M88 [.ref (w_adr E.2.1 10 0)] w (wk1 (fun v11 w10 => wle w w10 → zL_X11_reckon_p115 E L Q (w_i w 10 0 26) v11 w10) (fun e w => Q (.inr e) w)) else (if x1 = 4 then zw E (L - 20) kt_M95 [.ref (w_adr E.2.1 10 0)] w (wk1 (fun v13 w12 => wle w w12 → zw E (L - 21) kt_M123 [.ref (w_adr E.2.1 11 0), .int v13] w12 (wk1 (fun v15 w14 => wle w12 w14 → zw E (L - 22) kt_M97 [.ref (w_adr E.2.1 10 0), .int v15] w14 (wk0 (fun w16 => wle w14 w16 → zb_X11_reckon_p457 E L Q w16) (fun e w => Q (.inr e) w))) (fun e w => Q (.inr e) w))) (fun e w => Q (.inr e) w)) else (if x1 = 5 then zw E (L - 20) kt_M95 [.ref (w_adr E.2.1 10 0)] w (wk1 (fun v19 w18 => wle w w18 → zw E (L - 21) kt_M123 [.ref (w_adr E.2.1 11 0), .int v19] w18 (wk1 (fun v21 w20 => wle w18 w20 → zw E (L - 22) kt_M97 [.ref (w_adr E.2.1 10 0), .int v21] w20 (wk0 (fun w22 => wle w20 w22 → zw E (L - 21) kt_M123 [.ref (w_adr E.2.1 11 0), .int (v19 + 1)] w22 (wk1 (fun v25 w24 => wle w22 w24 → zw E (L - 22) kt_M97 [.ref (w_adr E.2.1 10 0), .int v25] w24 (wk0 (fun w26 => wle w24 w26 → zb_X11_reckon_p457 E L Q w26) (fun e w => Q (.inr e) w))) (fun e w => Q (.inr e) w))) (fun e w => Q (.inr e) w))) (fun e w => Q (.inr e) w))) (fun e w => Q (.inr e) w)) else (if x1 = 6 then zw E (L - 20) kt_M95 [.ref (w_adr E.2.1 10 0)] w (wk1 (fun v29 w28 => wle w w28 → zw E (L - 20) kt_M95 [.ref (w_adr E.2.1 10 0)] w28 (wk1 (fun v31 w30 => wle w28 w30 → zw E (L - 20) kt_M95 [.ref (w_adr E.2.1 10 0)] w30 (wk1 (fun v33 w32 => wle w30 w32 → (if v29 < 0 then zb_X11_reckon_p228 E L Q w32 else (if v29 < v31 then (if ¬ x1 = 6 then zb_X11_reckon_p256 E L Q (v33 + (2 * v29)) w32 else zb_X11_reckon_p256 E L Q (v33 + v29) w32) else zb_X11_reckon_p228 E L Q w32))) (fun e w => Q (.inr e) w))) (fun e w => Q (.inr e) w))) (fun e w => Q (.inr e) w)) else (if x1 = 7 then zw E (L - 20) kt_M95 [.ref (w_adr E.2.1 10 0)] w (wk1 (fun v35 w34 => wle w w34 → zw E (L - 20) kt_M95 [.ref (w_adr E.2.1 10 0)] w34 (wk1 (fun v37 w36 => wle w34 w36 → zw E (L - 20) kt_M95 [.ref (w_adr E.2.1 10 0)] w36 (wk1 (fun v39 w38 => wle w36 w38 → (if v35 < 0 then zb_X11_reckon_p228 E L Q w38 else (if v35 < v37 then (if ¬ x1 = 6 then zb_X11_reckon_p256 E L Q (v39 + (2 * v35)) w38 else zb_X11_reckon_p256 E L Q (v39 + v35) w38) else zb_X11_reckon_p228 E L Q w38))) (fun e w => Q (.inr e) w))) (fun e w => Q (.inr e) w))) (fun e w => Q (.inr e) w)) else (if x1 = 8 then zw E (L - 20) kt_M88 [.ref (w_adr E.2.1 10 0)] w (wk1 (fun v41 w40 => wle w w40 → zw E (L - 22) kt_M91 [.ref (w_adr E.2.1 10 0), .int v41] w40 (wk0 (fun w42 => wle w40 w42 → zb_X11_reckon_p457 E L Q w42) (fun e w => Q (.inr e) w))) (fun e w => Q (.inr e) w)) else (if x1 = 9 then zw E (L - 20) kt_M88 [.ref (w_adr E.2.1 10 0)] w (wk1 (fun v45 w44 => wle w w44 → zw E (L - 20) kt_M95 [.ref (w_adr E.2.1 10 0)] w44 (wk1 (fun v47 w46 => wle w44 w46 → zw E (L - 20) kt_M95 [.ref (w_adr E.2.1 10 0)] w46 (wk1 (fun v49 w48 => wle w46 w48 → zw E (L - 24) kt_M216 [.int v45, .int v49, .int v47] w48 (wk1 (fun v51 w50 => wle w48 w50 → (if v51 = 0 then zw E (L - 22) kt_M217 [.int v45, .int v49, .int v47] w50 (wk1 (fun v53 w52 => wle w50 w52 → zw E (L - 22) kt_M97 [.ref (w_adr E.2.1 10 0), .int v53] w52 (wk0 (fun w54 => wle w52 w54 → zb_X11_reckon_p457 E L Q w54) (fun e w => Q (.inr e) w))) (fun e w => Q (.inr e) w)) else zw E (L - 21) kt_M107 [.ref (w_adr E.2.1 10 0), .int v51] w50 (wk0 (fun w56 => wle w50 w56 → zb_X11_reckon_p457 E L Q w56) (fun e w => Q (.inr e) w)))) (fun e w => Q (.inr e) w))) (fun e w => Q (.inr e) w))) (fun e w => Q (.inr e) w))) (fun e w => Q (.inr e) w)) else (if x1 = 10 then zw E (L - 20) kt_M88 [.ref (w_adr E.2.1 10 0)] w (wk1 (fun v59 w58 => wle w w58 → zw E (L - 20) kt_M88 [.ref (w_adr E.2.1 10 0)] w58 (wk1 (fun v61 w60 => wle w58 w60 → (if ¬ v61 = 2 then zb_X11_reckon_p346 E L Q v59 v61 0 w60 else zb_X11_reckon_p346 E L Q v59 v61 1 w60)) (fun e w => Q (.inr e) w))) (fun e w => Q (.inr e) w)) else (if x1 = 11 then zw E (L - 20) kt_M88 [.ref (w_adr E.2.1 10 0)] w (wk1 (fun v63 w62 => wle w w62 → (kx_inb ((w_i w62 10 0 29) - 1) (w_n w62 10 0 30) = true ∧ (if ¬ v63 = 2 then zb_X11_reckon_p429 E L Q v63 (w_a w62 10 0 30 (((w_i w62 10 0 29) - 1)).toNatClampNeg) w62 else (if w_a w62 10 0 30 (((w_i w62 10 0 29) - 1)).toNatClampNeg < 0 then zb_X11_reckon_p443 E L Q w62 else (if 255 < w_a w62 10 0 30 (((w_i w62 10 0 29) - 1)).toNatClampNeg then zb_X11_reckon_p443 E L Q w62 else zb_X11_reckon_p429 E L Q v63 (w_a w62 10 0 30 (((w_i w62 10 0 29) - 1)).toNatClampNeg) w62))))) (fun e w => Q (.inr e) w)) else zw E (L - 25) kt_M84 [.ref (w_adr E.2.1 10 0), .int x1] w (wk0 (fun w64 => wle w w64 → zb_X11_reckon_p457 E L Q w64) (fun e w => Q (.inr e) w))))))))))))))
theorem zt_X11_reckon_p0 {E : zE} {L : Nat} {Q : kx_Rs → wS → Prop} {x1 : Int32} {w : wS} (hL : 25 ≤ L) (h : zb_X11_reckon_p0 E L Q x1 w) : kzE E L kt_M100 0 [(0, .ref (w_adr E.2.1 10 0)), (1, .int x1)] [] w Q := by
  unfold zb_X11_reckon_p0 at h
  refine kz_iload_n (M := kt_M100) kX11_reckon_c0.1 rfl ?_
  refine kz_tsw (M := kt_M100) [(0, 64), (1, 71), (2, 94), (3, 105), (4, 151), (5, 169), (6, 203), (7, 203), (8, 262), (9, 273), (10, 326), (11, 396)] [_, _, _, _, _, _, _, _, _, _, _, _] 452 dX11_reckon_p1 (by decide +kernel) h ⟨fun h => ?_, fun h => ?_, fun h => ?_, fun h => ?_, fun h => ?_, fun h => ?_, fun h => ?_, fun h => ?_, fun h => ?_, fun h => ?_, fun h => ?_, fun h => ?_, trivial⟩ (fun h => ?_)
  · skip
    refine kz_aload_n (M := kt_M100) kX11_reckon_c0.2.2.1 rfl ?_
    refine kz_cv0 (M := kt_M100) (c := 10) (o := 0) (As := []) (rest := []) kX11_reckon_c0.2.2.2.1 wl_X11_298 wMv_59 rfl (.inl rfl) rfl (Nat.le_trans (Nat.le_of_ble_eq_true rfl) hL) (Nat.le_of_ble_eq_true rfl) (Nat.le_of_ble_eq_true rfl) h (fun w1 hle h => ?_) (fun _ _ _ h => kzx_no rfl h)
    have h := h hle
    refine kz_goto (M := kt_M100) kX11_reckon_c0.2.2.2.2.1 (t := 457) rfl ?_
    exact kz_weak [(0, .ref (w_adr E.2.1 10 0))] ⟨rfl, trivial⟩ rfl (zt_X11_reckon_p457 hL  h)
  · skip
    refine kz_aload_n (M := kt_M100) kX11_reckon_c0.2.2.2.2.2.1 rfl ?_
    refine kz_cv1 (M := kt_M100) (c := 10) (o := 0) (As := []) (rest := []) kX11_reckon_c0.2.2.2.2.2.2.1 wl_X11_276 wMv_88 rfl (.inl rfl) rfl (Nat.le_trans (Nat.le_of_ble_eq_true rfl) hL) (Nat.le_of_ble_eq_true rfl) (Nat.le_of_ble_eq_true rfl) h (fun v4 w3 hle h => ?_) (fun _ _ _ h => kzx_no rfl h)
    have h := h hle
    refine kz_sti_n (M := kt_M100) [(0, .ref (w_adr E.2.1 10 0))] kX11_reckon_c0.2.2.2.2.2.2.2.1 (Nat.le_of_ble_eq_true rfl) ⟨⟨rfl, rfl, .inl rfl⟩, trivial⟩ rfl ?_
    refine kz_aload_n (M := kt_M100) kX11_reckon_c1.1 rfl ?_
    refine kz_gfi (M := kt_M100) (c := 10) (o := 0) kX11_reckon_c1.2.1 wf_X11_135 (.inl rfl) ?_
    refine kz_if_ne (M := kt_M100) kX11_reckon_c1.2.2.1 (t := 457) rfl h (fun h => ?_) (fun h => ?_)
    · skip
      exact kz_weak [(0, .ref (w_adr E.2.1 10 0))] ⟨rfl, trivial⟩ rfl (zt_X11_reckon_p457 hL  h)
    · skip
      refine kz_aload_n (M := kt_M100) kX11_reckon_c1.2.2.2.1 rfl ?_
      refine kz_gfp (M := kt_M100) (c := 10) (o := 0) kX11_reckon_c1.2.2.2.2.1 wf_X11_110 (.inl rfl) ?_
      refine kz_iload_n (M := kt_M100) kX11_reckon_c1.2.2.2.2.2.1 rfl ?_
      obtain ⟨p5, hxp5, hlp5, h⟩ := h
      refine kz_nz1 (x := w_p w3 10 0 21) hxp5 ?_
      refine kz_pfi (M := kt_M100) (c := 17) (o := p5) kX11_reckon_c1.2.2.2.2.2.2.1 wq_X11_273 (.inr (by exact hlp5)) ?_
      refine kz_goto (M := kt_M100) kX11_reckon_c1.2.2.2.2.2.2.2.1 (t := 457) rfl ?_
      exact kz_weak [(0, .ref (w_adr E.2.1 10 0))] ⟨rfl, trivial⟩ rfl (zt_X11_reckon_p457 hL  h)
  · skip
    refine kz_aload_n (M := kt_M100) kX11_reckon_c2.1 rfl ?_
    refine kz_aload_n (M := kt_M100) kX11_reckon_c2.2.1 rfl ?_
    refine kz_cv1 (M := kt_M100) (c := 10) (o := 0) (As := []) (rest := [.ref (w_adr E.2.1 10 0)]) kX11_reckon_c2.2.2.1 wl_X11_276 wMv_88 rfl (.inl rfl) rfl (Nat.le_trans (Nat.le_of_ble_eq_true rfl) hL) (Nat.le_of_ble_eq_true rfl) (Nat.le_of_ble_eq_true rfl) h (fun v7 w6 hle h => ?_) (fun _ _ _ h => kzx_no rfl h)
    have h := h hle
    refine kz_cv0 (M := kt_M100) (c := 10) (o := 0) (As := [.int v7]) (rest := []) kX11_reckon_c2.2.2.2.1 wl_X11_301 wMv_97 rfl (.inl rfl) rfl (Nat.le_trans (Nat.le_of_ble_eq_true rfl) hL) (Nat.le_of_ble_eq_true rfl) (Nat.le_of_ble_eq_true rfl) h (fun w8 hle h => ?_) (fun _ _ _ h => kzx_no rfl h)
    have h := h hle
    refine kz_goto (M := kt_M100) kX11_reckon_c2.2.2.2.2.1 (t := 457) rfl ?_
    exact kz_weak [(0, .ref (w_adr E.2.1 10 0))] ⟨rfl, trivial⟩ rfl (zt_X11_reckon_p457 hL  h)
  · skip
    refine kz_aload_n (M := kt_M100) kX11_reckon_c2.2.2.2.2.2.1 rfl ?_
    refine kz_gfi (M := kt_M100) (c := 10) (o := 0) kX11_reckon_c2.2.2.2.2.2.2.1 wf_X11_114 (.inl rfl) ?_
    refine kz_sti_n (M := kt_M100) [(0, .ref (w_adr E.2.1 10 0))] kX11_reckon_c2.2.2.2.2.2.2.2.1 (Nat.le_of_ble_eq_true rfl) ⟨⟨rfl, rfl, .inl rfl⟩, trivial⟩ rfl ?_
    refine kz_aload_n (M := kt_M100) kX11_reckon_c3.1 rfl ?_
    refine kz_cv1 (M := kt_M100) (c := 10) (o := 0) (As := []) (rest := []) kX11_reckon_c3.2.1 wl_X11_276 wMv_88 rfl (.inl rfl) rfl (Nat.le_trans (Nat.le_of_ble_eq_true rfl) hL) (Nat.le_of_ble_eq_true rfl) (Nat.le_of_ble_eq_true rfl) h (fun v11 w10 hle h => ?_) (fun _ _ _ h => kzx_no rfl h)
    have h := h hle
    refine kz_sti_n (M := kt_M100) [(0, .ref (w_adr E.2.1 10 0)), (2, .int (w_i w 10 0 26))] kX11_reckon_c3.2.2.1 (Nat.le_of_ble_eq_true rfl) ⟨⟨rfl, rfl, .inl rfl⟩, ⟨⟨rfl, rfl, .inr rfl⟩, trivial⟩⟩ rfl ?_
    exact kz_weak [(0, .ref (w_adr E.2.1 10 0)), (2, .int (w_i w 10 0 26)), (3, .int v11)] ⟨rfl, ⟨rfl, ⟨rfl, trivial⟩⟩⟩ rfl h
  · skip
    refine kz_aload_n (M := kt_M100) kX11_reckon_c5.2.2.2.2.2.2.1 rfl ?_
    refine kz_aload_n (M := kt_M100) kX11_reckon_c5.2.2.2.2.2.2.2.1 rfl ?_
    refine kz_gfc (M := kt_M100) (x := 44) (c := 10) (o := 0) kX11_reckon_c6.1 wf_X11_12 (.inl rfl) ?_
    refine kz_aload_n (M := kt_M100) kX11_reckon_c6.2.1 rfl ?_
    refine kz_cv1 (M := kt_M100) (c := 10) (o := 0) (As := []) (rest := [.ref (w_adr E.2.1 11 0), .ref (w_adr E.2.1 10 0)]) kX11_reckon_c6.2.2.1 wl_X11_304 wMv_95 rfl (.inl rfl) rfl (Nat.le_trans (Nat.le_of_ble_eq_true rfl) hL) (Nat.le_of_ble_eq_true rfl) (Nat.le_of_ble_eq_true rfl) h (fun v13 w12 hle h => ?_) (fun _ _ _ h => kzx_no rfl h)
    have h := h hle
    refine kz_cv1 (M := kt_M100) (c := 11) (o := 0) (As := [.int v13]) (rest := [.ref (w_adr E.2.1 10 0)]) kX11_reckon_c6.2.2.2.1 wl_X11_307 wMv_123 rfl (.inl rfl) rfl (Nat.le_trans (Nat.le_of_ble_eq_true rfl) hL) (Nat.le_of_ble_eq_true rfl) (Nat.le_of_ble_eq_true rfl) h (fun v15 w14 hle h => ?_) (fun _ _ _ h => kzx_no rfl h)
    have h := h hle
    refine kz_cv0 (M := kt_M100) (c := 10) (o := 0) (As := [.int v15]) (rest := []) kX11_reckon_c6.2.2.2.2.1 wl_X11_301 wMv_97 rfl (.inl rfl) rfl (Nat.le_trans (Nat.le_of_ble_eq_true rfl) hL) (Nat.le_of_ble_eq_true rfl) (Nat.le_of_ble_eq_true rfl) h (fun w16 hle h => ?_) (fun _ _ _ h => kzx_no rfl h)
    have h := h hle
    refine kz_goto (M := kt_M100) kX11_reckon_c6.2.2.2.2.2.1 (t := 457) rfl ?_
    exact kz_weak [(0, .ref (w_adr E.2.1 10 0))] ⟨rfl, trivial⟩ rfl (zt_X11_reckon_p457 hL  h)
  · skip
    refine kz_aload_n (M := kt_M100) kX11_reckon_c6.2.2.2.2.2.2.1 rfl ?_
    refine kz_cv1 (M := kt_M100) (c := 10) (o := 0) (As := []) (rest := []) kX11_reckon_c6.2.2.2.2.2.2.2.1 wl_X11_304 wMv_95 rfl (.inl rfl) rfl (Nat.le_trans (Nat.le_of_ble_eq_true rfl) hL) (Nat.le_of_ble_eq_true rfl) (Nat.le_of_ble_eq_true rfl) h (fun v19 w18 hle h => ?_) (fun _ _ _ h => kzx_no rfl h)
    have h := h hle
    refine kz_sti_n (M := kt_M100) [(0, .ref (w_adr E.2.1 10 0))] kX11_reckon_c7.1 (Nat.le_of_ble_eq_true rfl) ⟨⟨rfl, rfl, .inl rfl⟩, trivial⟩ rfl ?_
    refine kz_aload_n (M := kt_M100) kX11_reckon_c7.2.1 rfl ?_
    refine kz_aload_n (M := kt_M100) kX11_reckon_c7.2.2.1 rfl ?_
    refine kz_gfc (M := kt_M100) (x := 44) (c := 10) (o := 0) kX11_reckon_c7.2.2.2.1 wf_X11_12 (.inl rfl) ?_
    refine kz_iload_n (M := kt_M100) kX11_reckon_c7.2.2.2.2.1 rfl ?_
    refine kz_cv1 (M := kt_M100) (c := 11) (o := 0) (As := [.int v19]) (rest := [.ref (w_adr E.2.1 10 0)]) kX11_reckon_c7.2.2.2.2.2.1 wl_X11_307 wMv_123 rfl (.inl rfl) rfl (Nat.le_trans (Nat.le_of_ble_eq_true rfl) hL) (Nat.le_of_ble_eq_true rfl) (Nat.le_of_ble_eq_true rfl) h (fun v21 w20 hle h => ?_) (fun _ _ _ h => kzx_no rfl h)
    have h := h hle
    refine kz_cv0 (M := kt_M100) (c := 10) (o := 0) (As := [.int v21]) (rest := []) kX11_reckon_c7.2.2.2.2.2.2.1 wl_X11_301 wMv_97 rfl (.inl rfl) rfl (Nat.le_trans (Nat.le_of_ble_eq_true rfl) hL) (Nat.le_of_ble_eq_true rfl) (Nat.le_of_ble_eq_true rfl) h (fun w22 hle h => ?_) (fun _ _ _ h => kzx_no rfl h)
    have h := h hle
    refine kz_aload_n (M := kt_M100) kX11_reckon_c7.2.2.2.2.2.2.2.1 rfl ?_
    refine kz_aload_n (M := kt_M100) kX11_reckon_c8.1 rfl ?_
    refine kz_gfc (M := kt_M100) (x := 44) (c := 10) (o := 0) kX11_reckon_c8.2.1 wf_X11_12 (.inl rfl) ?_
    refine kz_iload_n (M := kt_M100) kX11_reckon_c8.2.2.1 rfl ?_
    refine kz_ic (M := kt_M100) 1 kX11_reckon_c8.2.2.2.1 rfl ?_
    refine kz_iadd (M := kt_M100) kX11_reckon_c8.2.2.2.2.1 ?_
    refine kz_cv1 (M := kt_M100) (c := 11) (o := 0) (As := [.int (v19 + 1)]) (rest := [.ref (w_adr E.2.1 10 0)]) kX11_reckon_c8.2.2.2.2.2.1 wl_X11_307 wMv_123 rfl (.inl rfl) rfl (Nat.le_trans (Nat.le_of_ble_eq_true rfl) hL) (Nat.le_of_ble_eq_true rfl) (Nat.le_of_ble_eq_true rfl) h (fun v25 w24 hle h => ?_) (fun _ _ _ h => kzx_no rfl h)
    have h := h hle
    refine kz_cv0 (M := kt_M100) (c := 10) (o := 0) (As := [.int v25]) (rest := []) kX11_reckon_c8.2.2.2.2.2.2.1 wl_X11_301 wMv_97 rfl (.inl rfl) rfl (Nat.le_trans (Nat.le_of_ble_eq_true rfl) hL) (Nat.le_of_ble_eq_true rfl) (Nat.le_of_ble_eq_true rfl) h (fun w26 hle h => ?_) (fun _ _ _ h => kzx_no rfl h)
    have h := h hle
    refine kz_goto (M := kt_M100) kX11_reckon_c8.2.2.2.2.2.2.2.1 (t := 457) rfl ?_
    exact kz_weak [(0, .ref (w_adr E.2.1 10 0))] ⟨rfl, trivial⟩ rfl (zt_X11_reckon_p457 hL  h)
  · skip
    refine kz_aload_n (M := kt_M100) kX11_reckon_c9.1 rfl ?_
    refine kz_cv1 (M := kt_M100) (c := 10) (o := 0) (As := []) (rest := []) kX11_reckon_c9.2.1 wl_X11_304 wMv_95 rfl (.inl rfl) rfl (Nat.le_trans (Nat.le_of_ble_eq_true rfl) hL) (Nat.le_of_ble_eq_true rfl) (Nat.le_of_ble_eq_true rfl) h (fun v29 w28 hle h => ?_) (fun _ _ _ h => kzx_no rfl h)
    have h := h hle
    refine kz_sti_n (M := kt_M100) [(0, .ref (w_adr E.2.1 10 0)), (1, .int x1)] kX11_reckon_c9.2.2.1 (Nat.le_of_ble_eq_true rfl) ⟨⟨rfl, rfl, .inl rfl⟩, ⟨⟨rfl, rfl, .inr rfl⟩, trivial⟩⟩ rfl ?_
    refine kz_aload_n (M := kt_M100) kX11_reckon_c9.2.2.2.1 rfl ?_
    refine kz_cv1 (M := kt_M100) (c := 10) (o := 0) (As := []) (rest := []) kX11_reckon_c9.2.2.2.2.1 wl_X11_304 wMv_95 rfl (.inl rfl) rfl (Nat.le_trans (Nat.le_of_ble_eq_true rfl) hL) (Nat.le_of_ble_eq_true rfl) (Nat.le_of_ble_eq_true rfl) h (fun v31 w30 hle h => ?_) (fun _ _ _ h => kzx_no rfl h)
    have h := h hle
    refine kz_sti_n (M := kt_M100) [(0, .ref (w_adr E.2.1 10 0)), (1, .int x1), (2, .int v29)] kX11_reckon_c9.2.2.2.2.2.1 (Nat.le_of_ble_eq_true rfl) ⟨⟨rfl, rfl, .inl rfl⟩, ⟨⟨rfl, rfl, .inl rfl⟩, ⟨⟨rfl, rfl, .inr rfl⟩, trivial⟩⟩⟩ rfl ?_
    refine kz_aload_n (M := kt_M100) kX11_reckon_c9.2.2.2.2.2.2.1 rfl ?_
    refine kz_cv1 (M := kt_M100) (c := 10) (o := 0) (As := []) (rest := []) kX11_reckon_c9.2.2.2.2.2.2.2.1 wl_X11_304 wMv_95 rfl (.inl rfl) rfl (Nat.le_trans (Nat.le_of_ble_eq_true rfl) hL) (Nat.le_of_ble_eq_true rfl) (Nat.le_of_ble_eq_true rfl) h (fun v33 w32 hle h => ?_) (fun _ _ _ h => kzx_no rfl h)
    have h := h hle
    refine kz_sti (M := kt_M100) [(0, .ref (w_adr E.2.1 10 0)), (1, .int x1), (2, .int v29), (3, .int v31)] kX11_reckon_c10.1 (Nat.le_of_ble_eq_true rfl) ⟨⟨rfl, rfl, .inl rfl⟩, ⟨⟨rfl, rfl, .inl rfl⟩, ⟨⟨rfl, rfl, .inl rfl⟩, ⟨⟨rfl, rfl, .inr rfl⟩, trivial⟩⟩⟩⟩ rfl ?_
    refine kz_iload_n (M := kt_M100) kX11_reckon_c10.2.1 rfl ?_
    refine kz_if_lt (M := kt_M100) kX11_reckon_c10.2.2.1 (t := 228) rfl h (fun h => ?_) (fun h => ?_)
    · skip
      exact kz_weak [(0, .ref (w_adr E.2.1 10 0))] ⟨rfl, trivial⟩ rfl (zt_X11_reckon_p228 hL  h)
    · skip
      refine kz_iload_n (M := kt_M100) kX11_reckon_c10.2.2.2.1 rfl ?_
      refine kz_iload_n (M := kt_M100) kX11_reckon_c10.2.2.2.2.1 rfl ?_
      refine kz_icmp_lt (M := kt_M100) kX11_reckon_c10.2.2.2.2.2.1 (t := 236) rfl h (fun h => ?_) (fun h => ?_)
      · skip
        refine kz_aload_n (M := kt_M100) kX11_reckon_c11.2.2.1 rfl ?_
        refine kz_iload_n (M := kt_M100) kX11_reckon_c11.2.2.2.1 rfl ?_
        refine kz_bi (M := kt_M100) 6 kX11_reckon_c11.2.2.2.2.1 rfl ?_
        refine kz_icmp_ne (M := kt_M100) kX11_reckon_c11.2.2.2.2.2.1 (t := 250) rfl h (fun h => ?_) (fun h => ?_)
        · skip
          refine kz_iload (M := kt_M100) kX11_reckon_c12.2.2.1 rfl ?_
          refine kz_ic (M := kt_M100) 2 kX11_reckon_c12.2.2.2.1 rfl ?_
          refine kz_iload_n (M := kt_M100) kX11_reckon_c12.2.2.2.2.1 rfl ?_
          refine kz_imul (M := kt_M100) kX11_reckon_c12.2.2.2.2.2.1 ?_
          refine kz_iadd (M := kt_M100) kX11_reckon_c12.2.2.2.2.2.2.1 ?_
          exact kz_weak [(0, .ref (w_adr E.2.1 10 0))] ⟨rfl, trivial⟩ rfl (zt_X11_reckon_p256 hL  h)
        · skip
          refine kz_iload (M := kt_M100) kX11_reckon_c11.2.2.2.2.2.2.1 rfl ?_
          refine kz_iload_n (M := kt_M100) kX11_reckon_c11.2.2.2.2.2.2.2.1 rfl ?_
          refine kz_iadd (M := kt_M100) kX11_reckon_c12.1 ?_
          refine kz_goto (M := kt_M100) kX11_reckon_c12.2.1 (t := 256) rfl ?_
          exact kz_weak [(0, .ref (w_adr E.2.1 10 0))] ⟨rfl, trivial⟩ rfl (zt_X11_reckon_p256 hL  h)
      · skip
        exact kz_weak [(0, .ref (w_adr E.2.1 10 0))] ⟨rfl, trivial⟩ rfl (zt_X11_reckon_p228 hL  h)
  · skip
    refine kz_aload_n (M := kt_M100) kX11_reckon_c9.1 rfl ?_
    refine kz_cv1 (M := kt_M100) (c := 10) (o := 0) (As := []) (rest := []) kX11_reckon_c9.2.1 wl_X11_304 wMv_95 rfl (.inl rfl) rfl (Nat.le_trans (Nat.le_of_ble_eq_true rfl) hL) (Nat.le_of_ble_eq_true rfl) (Nat.le_of_ble_eq_true rfl) h (fun v35 w34 hle h => ?_) (fun _ _ _ h => kzx_no rfl h)
    have h := h hle
    refine kz_sti_n (M := kt_M100) [(0, .ref (w_adr E.2.1 10 0)), (1, .int x1)] kX11_reckon_c9.2.2.1 (Nat.le_of_ble_eq_true rfl) ⟨⟨rfl, rfl, .inl rfl⟩, ⟨⟨rfl, rfl, .inr rfl⟩, trivial⟩⟩ rfl ?_
    refine kz_aload_n (M := kt_M100) kX11_reckon_c9.2.2.2.1 rfl ?_
    refine kz_cv1 (M := kt_M100) (c := 10) (o := 0) (As := []) (rest := []) kX11_reckon_c9.2.2.2.2.1 wl_X11_304 wMv_95 rfl (.inl rfl) rfl (Nat.le_trans (Nat.le_of_ble_eq_true rfl) hL) (Nat.le_of_ble_eq_true rfl) (Nat.le_of_ble_eq_true rfl) h (fun v37 w36 hle h => ?_) (fun _ _ _ h => kzx_no rfl h)
    have h := h hle
    refine kz_sti_n (M := kt_M100) [(0, .ref (w_adr E.2.1 10 0)), (1, .int x1), (2, .int v35)] kX11_reckon_c9.2.2.2.2.2.1 (Nat.le_of_ble_eq_true rfl) ⟨⟨rfl, rfl, .inl rfl⟩, ⟨⟨rfl, rfl, .inl rfl⟩, ⟨⟨rfl, rfl, .inr rfl⟩, trivial⟩⟩⟩ rfl ?_
    refine kz_aload_n (M := kt_M100) kX11_reckon_c9.2.2.2.2.2.2.1 rfl ?_
    refine kz_cv1 (M := kt_M100) (c := 10) (o := 0) (As := []) (rest := []) kX11_reckon_c9.2.2.2.2.2.2.2.1 wl_X11_304 wMv_95 rfl (.inl rfl) rfl (Nat.le_trans (Nat.le_of_ble_eq_true rfl) hL) (Nat.le_of_ble_eq_true rfl) (Nat.le_of_ble_eq_true rfl) h (fun v39 w38 hle h => ?_) (fun _ _ _ h => kzx_no rfl h)
    have h := h hle
    refine kz_sti (M := kt_M100) [(0, .ref (w_adr E.2.1 10 0)), (1, .int x1), (2, .int v35), (3, .int v37)] kX11_reckon_c10.1 (Nat.le_of_ble_eq_true rfl) ⟨⟨rfl, rfl, .inl rfl⟩, ⟨⟨rfl, rfl, .inl rfl⟩, ⟨⟨rfl, rfl, .inl rfl⟩, ⟨⟨rfl, rfl, .inr rfl⟩, trivial⟩⟩⟩⟩ rfl ?_
    refine kz_iload_n (M := kt_M100) kX11_reckon_c10.2.1 rfl ?_
    refine kz_if_lt (M := kt_M100) kX11_reckon_c10.2.2.1 (t := 228) rfl h (fun h => ?_) (fun h => ?_)
    · skip
      exact kz_weak [(0, .ref (w_adr E.2.1 10 0))] ⟨rfl, trivial⟩ rfl (zt_X11_reckon_p228 hL  h)
    · skip
      refine kz_iload_n (M := kt_M100) kX11_reckon_c10.2.2.2.1 rfl ?_
      refine kz_iload_n (M := kt_M100) kX11_reckon_c10.2.2.2.2.1 rfl ?_
      refine kz_icmp_lt (M := kt_M100) kX11_reckon_c10.2.2.2.2.2.1 (t := 236) rfl h (fun h => ?_) (fun h => ?_)
      · skip
        refine kz_aload_n (M := kt_M100) kX11_reckon_c11.2.2.1 rfl ?_
        refine kz_iload_n (M := kt_M100) kX11_reckon_c11.2.2.2.1 rfl ?_
        refine kz_bi (M := kt_M100) 6 kX11_reckon_c11.2.2.2.2.1 rfl ?_
        refine kz_icmp_ne (M := kt_M100) kX11_reckon_c11.2.2.2.2.2.1 (t := 250) rfl h (fun h => ?_) (fun h => ?_)
        · skip
          refine kz_iload (M := kt_M100) kX11_reckon_c12.2.2.1 rfl ?_
          refine kz_ic (M := kt_M100) 2 kX11_reckon_c12.2.2.2.1 rfl ?_
          refine kz_iload_n (M := kt_M100) kX11_reckon_c12.2.2.2.2.1 rfl ?_
          refine kz_imul (M := kt_M100) kX11_reckon_c12.2.2.2.2.2.1 ?_
          refine kz_iadd (M := kt_M100) kX11_reckon_c12.2.2.2.2.2.2.1 ?_
          exact kz_weak [(0, .ref (w_adr E.2.1 10 0))] ⟨rfl, trivial⟩ rfl (zt_X11_reckon_p256 hL  h)
        · skip
          refine kz_iload (M := kt_M100) kX11_reckon_c11.2.2.2.2.2.2.1 rfl ?_
          refine kz_iload_n (M := kt_M100) kX11_reckon_c11.2.2.2.2.2.2.2.1 rfl ?_
          refine kz_iadd (M := kt_M100) kX11_reckon_c12.1 ?_
          refine kz_goto (M := kt_M100) kX11_reckon_c12.2.1 (t := 256) rfl ?_
          exact kz_weak [(0, .ref (w_adr E.2.1 10 0))] ⟨rfl, trivial⟩ rfl (zt_X11_reckon_p256 hL  h)
      · skip
        exact kz_weak [(0, .ref (w_adr E.2.1 10 0))] ⟨rfl, trivial⟩ rfl (zt_X11_reckon_p228 hL  h)
  · skip
    refine kz_aload_n (M := kt_M100) kX11_reckon_c13.2.1 rfl ?_
    refine kz_aload_n (M := kt_M100) kX11_reckon_c13.2.2.1 rfl ?_
    refine kz_cv1 (M := kt_M100) (c := 10) (o := 0) (As := []) (rest := [.ref (w_adr E.2.1 10 0)]) kX11_reckon_c13.2.2.2.1 wl_X11_276 wMv_88 rfl (.inl rfl) rfl (Nat.le_trans (Nat.le_of_ble_eq_true rfl) hL) (Nat.le_of_ble_eq_true rfl) (Nat.le_of_ble_eq_true rfl) h (fun v41 w40 hle h => ?_) (fun _ _ _ h => kzx_no rfl h)
    have h := h hle
    refine kz_cv0 (M := kt_M100) (c := 10) (o := 0) (As := [.int v41]) (rest := []) kX11_reckon_c13.2.2.2.2.1 wl_X11_308 wMv_91 rfl (.inl rfl) rfl (Nat.le_trans (Nat.le_of_ble_eq_true rfl) hL) (Nat.le_of_ble_eq_true rfl) (Nat.le_of_ble_eq_true rfl) h (fun w42 hle h => ?_) (fun _ _ _ h => kzx_no rfl h)
    have h := h hle
    refine kz_goto (M := kt_M100) kX11_reckon_c13.2.2.2.2.2.1 (t := 457) rfl ?_
    exact kz_weak [(0, .ref (w_adr E.2.1 10 0))] ⟨rfl, trivial⟩ rfl (zt_X11_reckon_p457 hL  h)
  · skip
    refine kz_aload_n (M := kt_M100) kX11_reckon_c13.2.2.2.2.2.2.1 rfl ?_
    refine kz_cv1 (M := kt_M100) (c := 10) (o := 0) (As := []) (rest := []) kX11_reckon_c13.2.2.2.2.2.2.2.1 wl_X11_276 wMv_88 rfl (.inl rfl) rfl (Nat.le_trans (Nat.le_of_ble_eq_true rfl) hL) (Nat.le_of_ble_eq_true rfl) (Nat.le_of_ble_eq_true rfl) h (fun v45 w44 hle h => ?_) (fun _ _ _ h => kzx_no rfl h)
    have h := h hle
    refine kz_sti_n (M := kt_M100) [(0, .ref (w_adr E.2.1 10 0))] kX11_reckon_c14.1 (Nat.le_of_ble_eq_true rfl) ⟨⟨rfl, rfl, .inl rfl⟩, trivial⟩ rfl ?_
    refine kz_aload_n (M := kt_M100) kX11_reckon_c14.2.1 rfl ?_
    refine kz_cv1 (M := kt_M100) (c := 10) (o := 0) (As := []) (rest := []) kX11_reckon_c14.2.2.1 wl_X11_304 wMv_95 rfl (.inl rfl) rfl (Nat.le_trans (Nat.le_of_ble_eq_true rfl) hL) (Nat.le_of_ble_eq_true rfl) (Nat.le_of_ble_eq_true rfl) h (fun v47 w46 hle h => ?_) (fun _ _ _ h => kzx_no rfl h)
    have h := h hle
    refine kz_sti_n (M := kt_M100) [(0, .ref (w_adr E.2.1 10 0)), (2, .int v45)] kX11_reckon_c14.2.2.2.1 (Nat.le_of_ble_eq_true rfl) ⟨⟨rfl, rfl, .inl rfl⟩, ⟨⟨rfl, rfl, .inr rfl⟩, trivial⟩⟩ rfl ?_
    refine kz_aload_n (M := kt_M100) kX11_reckon_c14.2.2.2.2.1 rfl ?_
    refine kz_cv1 (M := kt_M100) (c := 10) (o := 0) (As := []) (rest := []) kX11_reckon_c14.2.2.2.2.2.1 wl_X11_304 wMv_95 rfl (.inl rfl) rfl (Nat.le_trans (Nat.le_of_ble_eq_true rfl) hL) (Nat.le_of_ble_eq_true rfl) (Nat.le_of_ble_eq_true rfl) h (fun v49 w48 hle h => ?_) (fun _ _ _ h => kzx_no rfl h)
    have h := h hle
    refine kz_sti (M := kt_M100) [(0, .ref (w_adr E.2.1 10 0)), (2, .int v45), (3, .int v47)] kX11_reckon_c14.2.2.2.2.2.2.1 (Nat.le_of_ble_eq_true rfl) ⟨⟨rfl, rfl, .inl rfl⟩, ⟨⟨rfl, rfl, .inl rfl⟩, ⟨⟨rfl, rfl, .inr rfl⟩, trivial⟩⟩⟩ rfl ?_
    refine kz_iload_n (M := kt_M100) kX11_reckon_c14.2.2.2.2.2.2.2.1 rfl ?_
    refine kz_iload (M := kt_M100) kX11_reckon_c15.1 rfl ?_
    refine kz_iload_n (M := kt_M100) kX11_reckon_c15.2.1 rfl ?_
    refine kz_cs1 (M := kt_M100) (As := [.int v45, .int v49, .int v47]) (rest := []) kX11_reckon_c15.2.2.1 wl_X11_311 wMs_216 rfl (Nat.le_trans (Nat.le_of_ble_eq_true rfl) hL) (Nat.le_of_ble_eq_true rfl) (Nat.le_of_ble_eq_true rfl) h (fun v51 w50 hle h => ?_) (fun _ _ _ h => kzx_no rfl h)
    have h := h hle
    refine kz_sti (M := kt_M100) [(0, .ref (w_adr E.2.1 10 0)), (2, .int v45), (3, .int v47), (4, .int v49)] kX11_reckon_c15.2.2.2.1 (Nat.le_of_ble_eq_true rfl) ⟨⟨rfl, rfl, .inl rfl⟩, ⟨⟨rfl, rfl, .inl rfl⟩, ⟨⟨rfl, rfl, .inl rfl⟩, ⟨⟨rfl, rfl, .inr rfl⟩, trivial⟩⟩⟩⟩ rfl ?_
    refine kz_iload (M := kt_M100) kX11_reckon_c15.2.2.2.2.1 rfl ?_
    refine kz_if_eq (M := kt_M100) kX11_reckon_c15.2.2.2.2.2.1 (t := 312) rfl h (fun h => ?_) (fun h => ?_)
    · skip
      refine kz_aload_n (M := kt_M100) kX11_reckon_c16.2.2.1 rfl ?_
      refine kz_iload_n (M := kt_M100) kX11_reckon_c16.2.2.2.1 rfl ?_
      refine kz_iload (M := kt_M100) kX11_reckon_c16.2.2.2.2.1 rfl ?_
      refine kz_iload_n (M := kt_M100) kX11_reckon_c16.2.2.2.2.2.1 rfl ?_
      refine kz_cs1 (M := kt_M100) (As := [.int v45, .int v49, .int v47]) (rest := [.ref (w_adr E.2.1 10 0)]) kX11_reckon_c16.2.2.2.2.2.2.1 wl_X11_316 wMs_217 rfl (Nat.le_trans (Nat.le_of_ble_eq_true rfl) hL) (Nat.le_of_ble_eq_true rfl) (Nat.le_of_ble_eq_true rfl) h (fun v53 w52 hle h => ?_) (fun _ _ _ h => kzx_no rfl h)
      have h := h hle
      refine kz_cv0 (M := kt_M100) (c := 10) (o := 0) (As := [.int v53]) (rest := []) kX11_reckon_c16.2.2.2.2.2.2.2.1 wl_X11_301 wMv_97 rfl (.inl rfl) rfl (Nat.le_trans (Nat.le_of_ble_eq_true rfl) hL) (Nat.le_of_ble_eq_true rfl) (Nat.le_of_ble_eq_true rfl) h (fun w54 hle h => ?_) (fun _ _ _ h => kzx_no rfl h)
      have h := h hle
      refine kz_goto (M := kt_M100) kX11_reckon_c17.1 (t := 457) rfl ?_
      exact kz_weak [(0, .ref (w_adr E.2.1 10 0))] ⟨rfl, trivial⟩ rfl (zt_X11_reckon_p457 hL  h)
    · skip
      refine kz_aload_n (M := kt_M100) kX11_reckon_c15.2.2.2.2.2.2.1 rfl ?_
      refine kz_iload (M := kt_M100) kX11_reckon_c15.2.2.2.2.2.2.2.1 rfl ?_
      refine kz_cv0 (M := kt_M100) (c := 10) (o := 0) (As := [.int v51]) (rest := []) kX11_reckon_c16.1 wl_X11_295 wMv_107 rfl (.inl rfl) rfl (Nat.le_trans (Nat.le_of_ble_eq_true rfl) hL) (Nat.le_of_ble_eq_true rfl) (Nat.le_of_ble_eq_true rfl) h (fun w56 hle h => ?_) (fun _ _ _ h => kzx_no rfl h)
      have h := h hle
      refine kz_goto (M := kt_M100) kX11_reckon_c16.2.1 (t := 457) rfl ?_
      exact kz_weak [(0, .ref (w_adr E.2.1 10 0))] ⟨rfl, trivial⟩ rfl (zt_X11_reckon_p457 hL  h)
  · skip
    refine kz_aload_n (M := kt_M100) kX11_reckon_c17.2.1 rfl ?_
    refine kz_cv1 (M := kt_M100) (c := 10) (o := 0) (As := []) (rest := []) kX11_reckon_c17.2.2.1 wl_X11_276 wMv_88 rfl (.inl rfl) rfl (Nat.le_trans (Nat.le_of_ble_eq_true rfl) hL) (Nat.le_of_ble_eq_true rfl) (Nat.le_of_ble_eq_true rfl) h (fun v59 w58 hle h => ?_) (fun _ _ _ h => kzx_no rfl h)
    have h := h hle
    refine kz_sti_n (M := kt_M100) [(0, .ref (w_adr E.2.1 10 0))] kX11_reckon_c17.2.2.2.1 (Nat.le_of_ble_eq_true rfl) ⟨⟨rfl, rfl, .inl rfl⟩, trivial⟩ rfl ?_
    refine kz_aload_n (M := kt_M100) kX11_reckon_c17.2.2.2.2.1 rfl ?_
    refine kz_cv1 (M := kt_M100) (c := 10) (o := 0) (As := []) (rest := []) kX11_reckon_c17.2.2.2.2.2.1 wl_X11_276 wMv_88 rfl (.inl rfl) rfl (Nat.le_trans (Nat.le_of_ble_eq_true rfl) hL) (Nat.le_of_ble_eq_true rfl) (Nat.le_of_ble_eq_true rfl) h (fun v61 w60 hle h => ?_) (fun _ _ _ h => kzx_no rfl h)
    have h := h hle
    refine kz_sti_n (M := kt_M100) [(0, .ref (w_adr E.2.1 10 0)), (2, .int v59)] kX11_reckon_c17.2.2.2.2.2.2.1 (Nat.le_of_ble_eq_true rfl) ⟨⟨rfl, rfl, .inl rfl⟩, ⟨⟨rfl, rfl, .inr rfl⟩, trivial⟩⟩ rfl ?_
    refine kz_iload_n (M := kt_M100) kX11_reckon_c17.2.2.2.2.2.2.2.1 rfl ?_
    refine kz_ic (M := kt_M100) 2 kX11_reckon_c18.1 rfl ?_
    refine kz_icmp_ne (M := kt_M100) kX11_reckon_c18.2.1 (t := 345) rfl h (fun h => ?_) (fun h => ?_)
    · skip
      refine kz_ic (M := kt_M100) 0 kX11_reckon_c18.2.2.2.2.1 rfl ?_
      exact kz_weak [(0, .ref (w_adr E.2.1 10 0)), (2, .int v59), (3, .int v61)] ⟨rfl, ⟨rfl, ⟨rfl, trivial⟩⟩⟩ rfl (zt_X11_reckon_p346 hL  h)
    · skip
      refine kz_ic (M := kt_M100) 1 kX11_reckon_c18.2.2.1 rfl ?_
      refine kz_goto (M := kt_M100) kX11_reckon_c18.2.2.2.1 (t := 346) rfl ?_
      exact kz_weak [(0, .ref (w_adr E.2.1 10 0)), (2, .int v59), (3, .int v61)] ⟨rfl, ⟨rfl, ⟨rfl, trivial⟩⟩⟩ rfl (zt_X11_reckon_p346 hL  h)
  · skip
    refine kz_aload_n (M := kt_M100) kX11_reckon_c21.2.2.2.2.2.2.1 rfl ?_
    refine kz_cv1 (M := kt_M100) (c := 10) (o := 0) (As := []) (rest := []) kX11_reckon_c21.2.2.2.2.2.2.2.1 wl_X11_276 wMv_88 rfl (.inl rfl) rfl (Nat.le_trans (Nat.le_of_ble_eq_true rfl) hL) (Nat.le_of_ble_eq_true rfl) (Nat.le_of_ble_eq_true rfl) h (fun v63 w62 hle h => ?_) (fun _ _ _ h => kzx_no rfl h)
    have h := h hle
    refine kz_sti_n (M := kt_M100) [(0, .ref (w_adr E.2.1 10 0))] kX11_reckon_c22.1 (Nat.le_of_ble_eq_true rfl) ⟨⟨rfl, rfl, .inl rfl⟩, trivial⟩ rfl ?_
    refine kz_aload_n (M := kt_M100) kX11_reckon_c22.2.1 rfl ?_
    refine kz_gfa (M := kt_M100) (c := 10) (o := 0) kX11_reckon_c22.2.2.1 wf_X11_38 (.inl rfl) ?_
    refine kz_aload_n (M := kt_M100) kX11_reckon_c22.2.2.2.1 rfl ?_
    refine kz_gfi (M := kt_M100) (c := 10) (o := 0) kX11_reckon_c22.2.2.2.2.1 wf_X11_45 (.inl rfl) ?_
    refine kz_ic (M := kt_M100) 1 kX11_reckon_c22.2.2.2.2.2.1 rfl ?_
    refine kz_isub (M := kt_M100) kX11_reckon_c22.2.2.2.2.2.2.1 ?_
    refine kz_iald (M := kt_M100) (c := 10) (o := 0) (k := 30) (a := (w_d w62 10 0 30)) kX11_reckon_c22.2.2.2.2.2.2.2.1 ow_10_0_30 oa_10_0_30 ot_0 h (fun h => ?_)
    refine kz_sti_n (M := kt_M100) [(0, .ref (w_adr E.2.1 10 0)), (2, .int v63)] kX11_reckon_c23.1 (Nat.le_of_ble_eq_true rfl) ⟨⟨rfl, rfl, .inl rfl⟩, ⟨⟨rfl, rfl, .inr rfl⟩, trivial⟩⟩ rfl ?_
    refine kz_iload_n (M := kt_M100) kX11_reckon_c23.2.1 rfl ?_
    refine kz_ic (M := kt_M100) 2 kX11_reckon_c23.2.2.1 rfl ?_
    refine kz_icmp_ne (M := kt_M100) kX11_reckon_c23.2.2.2.1 (t := 429) rfl h (fun h => ?_) (fun h => ?_)
    · skip
      exact kz_weak [(0, .ref (w_adr E.2.1 10 0)), (2, .int v63), (3, .int (w_a w62 10 0 30 (((w_i w62 10 0 29) - 1)).toNatClampNeg))] ⟨rfl, ⟨rfl, ⟨rfl, trivial⟩⟩⟩ rfl (zt_X11_reckon_p429 hL  h)
    · skip
      refine kz_iload_n (M := kt_M100) kX11_reckon_c23.2.2.2.2.1 rfl ?_
      refine kz_if_lt (M := kt_M100) kX11_reckon_c23.2.2.2.2.2.1 (t := 443) rfl h (fun h => ?_) (fun h => ?_)
      · skip
        exact kz_weak [(0, .ref (w_adr E.2.1 10 0))] ⟨rfl, trivial⟩ rfl (zt_X11_reckon_p443 hL  h)
      · skip
        refine kz_iload_n (M := kt_M100) kX11_reckon_c23.2.2.2.2.2.2.1 rfl ?_
        refine kz_si (M := kt_M100) 255 kX11_reckon_c23.2.2.2.2.2.2.2.1 rfl ?_
        refine kz_icmp_gt (M := kt_M100) kX11_reckon_c24.1 (t := 443) rfl h (fun h => ?_) (fun h => ?_)
        · skip
          exact kz_weak [(0, .ref (w_adr E.2.1 10 0))] ⟨rfl, trivial⟩ rfl (zt_X11_reckon_p443 hL  h)
        · skip
          exact kz_weak [(0, .ref (w_adr E.2.1 10 0)), (2, .int v63), (3, .int (w_a w62 10 0 30 (((w_i w62 10 0 29) - 1)).toNatClampNeg))] ⟨rfl, ⟨rfl, ⟨rfl, trivial⟩⟩⟩ rfl (zt_X11_reckon_p429 hL  h)
  · skip
    refine kz_aload_n (M := kt_M100) kX11_reckon_c25.2.2.2.2.2.1 rfl ?_
    refine kz_iload_n (M := kt_M100) kX11_reckon_c25.2.2.2.2.2.2.1 rfl ?_
    refine kz_cv0 (M := kt_M100) (c := 10) (o := 0) (As := [.int x1]) (rest := []) kX11_reckon_c25.2.2.2.2.2.2.2.1 wl_X11_321 wMv_84 rfl (.inl rfl) rfl (Nat.le_trans (Nat.le_of_ble_eq_true rfl) hL) (Nat.le_of_ble_eq_true rfl) (Nat.le_of_ble_eq_true rfl) h (fun w64 hle h => ?_) (fun _ _ _ h => kzx_no rfl h)
    have h := h hle
    exact kz_weak [(0, .ref (w_adr E.2.1 10 0))] ⟨rfl, trivial⟩ rfl (zt_X11_reckon_p457 hL  h)
def zb_X11_ahead_p0 (E : zE) (L : Nat) (Q : kx_Rs → wS → Prop) (w : wS) : Prop := (if w_i w 10 0 27 ≤ 0 then zw E (L - 22) kt_M70 [.ref (w_adr E.2.1 10 0), va_rf (w_p w 10 0 21), .int 0] (ws_i w 10 0 25 ((w_i w 10 0 25) - 1)) (wk0 (fun w1 => wle (ws_i w 10 0 25 ((w_i w 10 0 25) - 1)) w1 → zw E (L - 20) kt_M102 [.ref (w_adr E.2.1 10 0)] w1 (wk0 (fun w3 => wle w1 w3 → Q (.inl none) w3) (fun e w => Q (.inr e) w))) (fun e w => Q (.inr e) w)) else zw E (L - 22) kt_M129 [.ref (w_adr E.2.1 11 0), .int (w_i w 10 0 26), .int 3] w (wk1 (fun v6 w5 => wle w w5 → zw E (L - 22) kt_M70 [.ref (w_adr E.2.1 10 0), va_rf (w_p w 10 0 21), .int v6] w5 (wk0 (fun w7 => wle w5 w7 → zw E (L - 20) kt_M104 [.ref (w_adr E.2.1 10 0)] (ws_i w7 10 0 25 ((w_i w7 10 0 25) + 1)) (wk0 (fun w9 => wle (ws_i w7 10 0 25 ((w_i w7 10 0 25) + 1)) w9 → Q (.inl none) w9) (fun e w => Q (.inr e) w))) (fun e w => Q (.inr e) w))) (fun e w => Q (.inr e) w)))
theorem zt_X11_ahead_p0 {E : zE} {L : Nat} {Q : kx_Rs → wS → Prop} {w : wS} (hL : 22 ≤ L) (h : zb_X11_ahead_p0 E L Q  w) : kzE E L kt_M59 0 [(0, .ref (w_adr E.2.1 10 0))] [] w Q := by
  unfold zb_X11_ahead_p0 at h
  refine kz_aload_n (M := kt_M59) kX11_ahead_c0.1 rfl ?_
  refine kz_gfi (M := kt_M59) (c := 10) (o := 0) kX11_ahead_c0.2.1 wf_X11_135 (.inl rfl) ?_
  refine kz_if_le (M := kt_M59) kX11_ahead_c0.2.2.1 (t := 42) rfl h (fun h => ?_) (fun h => ?_)
  · skip
    refine kz_aload_n (M := kt_M59) kX11_ahead_c2.2.2.2.2.2.2.1 rfl ?_
    refine kz_dup (M := kt_M59) kX11_ahead_c2.2.2.2.2.2.2.2.1 rfl ?_
    refine kz_gfi (M := kt_M59) (c := 10) (o := 0) kX11_ahead_c3.1 wf_X11_59 (.inl rfl) ?_
    refine kz_ic (M := kt_M59) 1 kX11_ahead_c3.2.1 rfl ?_
    refine kz_isub (M := kt_M59) kX11_ahead_c3.2.2.1 ?_
    refine kz_pfi (M := kt_M59) (c := 10) (o := 0) kX11_ahead_c3.2.2.2.1 wq_X11_59 (.inl rfl) ?_
    refine kz_aload_n (M := kt_M59) kX11_ahead_c3.2.2.2.2.1 rfl ?_
    refine kz_aload_n (M := kt_M59) kX11_ahead_c3.2.2.2.2.2.1 rfl ?_
    refine kz_gfpR (M := kt_M59) (c := 10) (o := 0) (w_p w 10 0 21) kX11_ahead_c3.2.2.2.2.2.2.1 wf_X11_110 (.inl rfl) rd_p_i ?_
    refine kz_ic (M := kt_M59) 0 kX11_ahead_c3.2.2.2.2.2.2.2.1 rfl ?_
    refine kz_cv0 (M := kt_M59) (c := 10) (o := 0) (As := [va_rf (w_p w 10 0 21), .int 0]) (rest := []) kX11_ahead_c4.1 wl_X11_131 wMv_70 rfl (.inl rfl) rfl (Nat.le_trans (Nat.le_of_ble_eq_true rfl) hL) (by simp [lg_sl, w_cat, z_ci, z_cr, z_cl, z_cn, kt_M70]) (Nat.le_of_ble_eq_true rfl) h (fun w1 hle h => ?_) (fun _ _ _ h => kzx_no rfl h)
    have h := h hle
    refine kz_aload_n (M := kt_M59) kX11_ahead_c4.2.1 rfl ?_
    refine kz_cv0 (M := kt_M59) (c := 10) (o := 0) (As := []) (rest := []) kX11_ahead_c4.2.2.1 wl_X11_138 wMv_102 rfl (.inl rfl) rfl (Nat.le_trans (Nat.le_of_ble_eq_true rfl) hL) (Nat.le_of_ble_eq_true rfl) (Nat.le_of_ble_eq_true rfl) h (fun w3 hle h => ?_) (fun _ _ _ h => kzx_no rfl h)
    have h := h hle
    exact kz_ret (M := kt_M59) kX11_ahead_c4.2.2.2.1 rfl h
  · skip
    refine kz_aload_n (M := kt_M59) kX11_ahead_c0.2.2.2.1 rfl ?_
    refine kz_aload_n (M := kt_M59) kX11_ahead_c0.2.2.2.2.1 rfl ?_
    refine kz_gfp (M := kt_M59) (c := 10) (o := 0) kX11_ahead_c0.2.2.2.2.2.1 wf_X11_110 (.inl rfl) ?_
    refine kz_aload_n (M := kt_M59) kX11_ahead_c0.2.2.2.2.2.2.1 rfl ?_
    refine kz_gfc (M := kt_M59) (x := 44) (c := 10) (o := 0) kX11_ahead_c0.2.2.2.2.2.2.2.1 wf_X11_12 (.inl rfl) ?_
    refine kz_aload_n (M := kt_M59) kX11_ahead_c1.1 rfl ?_
    refine kz_gfi (M := kt_M59) (c := 10) (o := 0) kX11_ahead_c1.2.1 wf_X11_114 (.inl rfl) ?_
    refine kz_ic (M := kt_M59) 3 kX11_ahead_c1.2.2.1 rfl ?_
    refine kz_cv1 (M := kt_M59) (c := 11) (o := 0) (As := [.int (w_i w 10 0 26), .int 3]) (rest := [va_rf (w_p w 10 0 21), .ref (w_adr E.2.1 10 0)]) kX11_ahead_c1.2.2.2.1 wl_X11_289 wMv_129 rfl (.inl rfl) rfl (Nat.le_trans (Nat.le_of_ble_eq_true rfl) hL) (Nat.le_of_ble_eq_true rfl) (by simp [kx_cat, w_cat, z_ci, z_cr, z_cl, z_cn]) h (fun v6 w5 hle h => ?_) (fun _ _ _ h => kzx_no rfl h)
    have h := h hle
    refine kz_cv0 (M := kt_M59) (c := 10) (o := 0) (As := [va_rf (w_p w 10 0 21), .int v6]) (rest := []) kX11_ahead_c1.2.2.2.2.1 wl_X11_131 wMv_70 rfl (.inl rfl) rfl (Nat.le_trans (Nat.le_of_ble_eq_true rfl) hL) (by simp [lg_sl, w_cat, z_ci, z_cr, z_cl, z_cn, kt_M70]) (Nat.le_of_ble_eq_true rfl) h (fun w7 hle h => ?_) (fun _ _ _ h => kzx_no rfl h)
    have h := h hle
    refine kz_aload_n (M := kt_M59) kX11_ahead_c1.2.2.2.2.2.1 rfl ?_
    refine kz_dup (M := kt_M59) kX11_ahead_c1.2.2.2.2.2.2.1 rfl ?_
    refine kz_gfi (M := kt_M59) (c := 10) (o := 0) kX11_ahead_c1.2.2.2.2.2.2.2.1 wf_X11_59 (.inl rfl) ?_
    refine kz_ic (M := kt_M59) 1 kX11_ahead_c2.1 rfl ?_
    refine kz_iadd (M := kt_M59) kX11_ahead_c2.2.1 ?_
    refine kz_pfi (M := kt_M59) (c := 10) (o := 0) kX11_ahead_c2.2.2.1 wq_X11_59 (.inl rfl) ?_
    refine kz_aload_n (M := kt_M59) kX11_ahead_c2.2.2.2.1 rfl ?_
    refine kz_cv0 (M := kt_M59) (c := 10) (o := 0) (As := []) (rest := []) kX11_ahead_c2.2.2.2.2.1 wl_X11_292 wMv_104 rfl (.inl rfl) rfl (Nat.le_trans (Nat.le_of_ble_eq_true rfl) hL) (Nat.le_of_ble_eq_true rfl) (Nat.le_of_ble_eq_true rfl) h (fun w9 hle h => ?_) (fun _ _ _ h => kzx_no rfl h)
    have h := h hle
    exact kz_ret (M := kt_M59) kX11_ahead_c2.2.2.2.2.2.1 rfl h
def zL_X11_drop_p0 (E : zE) (L : Nat) (Q : kx_Rs → wS → Prop) (x1 : Option Nat) (x2 : Int32) (w : wS) : Prop := kzE E L kt_M70 0 [(0, .ref (w_adr E.2.1 10 0)), (1, va_rf (x1)), (2, .int x2)] [] w Q
def zb_X11_drop_p0 (E : zE) (L : Nat) (Q : kx_Rs → wS → Prop) (x1 : Option Nat) (x2 : Int32) (w : wS) : Prop := (∃ p1, x1 = some p1 ∧ w_l w E.2.1 17 p1 ∧ (if w_i w 17 p1 17 ≤ x2 then Q (.inl none) w else (kx_inb ((w_i w 17 p1 17) - 1) (w_n w 17 p1 14) = true ∧ zw E (L - 21) kt_M122 [.ref (w_adr E.2.1 11 0), .int (w_a w 17 p1 14 (((w_i w 17 p1 17) - 1)).toNatClampNeg)] (ws_i w 17 p1 17 ((w_i w 17 p1 17) - 1)) (wk0 (fun w2 => wle (ws_i w 17 p1 17 ((w_i w 17 p1 17) - 1)) w2 → zL_X11_drop_p0 E L Q x1 x2 w2) (fun e w => Q (.inr e) w)))))
theorem zt_X11_drop_p0 {E : zE} {L : Nat} {Q : kx_Rs → wS → Prop} {x1 : Option Nat} {x2 : Int32} {w : wS} (hL : 21 ≤ L) (h : zb_X11_drop_p0 E L Q x1 x2 w) : kzE E L kt_M70 0 [(0, .ref (w_adr E.2.1 10 0)), (1, va_rf (x1)), (2, .int x2)] [] w Q := by
  unfold zb_X11_drop_p0 at h
  refine kz_aload_nv (M := kt_M70) (x := x1) kX11_drop_c0.1 rfl ?_
  obtain ⟨p1, hxp1, hlp1, h⟩ := h
  refine kz_nz0 (x := x1) hxp1 ?_
  refine kz_gfi (M := kt_M70) (c := 17) (o := p1) kX11_drop_c0.2.1 wf_X11_161 (.inr (by exact hlp1)) ?_
  refine kz_iload_n (M := kt_M70) kX11_drop_c0.2.2.1 rfl ?_
  refine kz_icmp_le (M := kt_M70) kX11_drop_c0.2.2.2.1 (t := 34) rfl h (fun h => ?_) (fun h => ?_)
  · skip
    exact kz_ret (M := kt_M70) kX11_drop_c2.2.2.1 rfl h
  · skip
    refine kz_aload_n (M := kt_M70) kX11_drop_c0.2.2.2.2.1 rfl ?_
    refine kz_gfc (M := kt_M70) (x := 44) (c := 10) (o := 0) kX11_drop_c0.2.2.2.2.2.1 wf_X11_12 (.inl rfl) ?_
    refine kz_aload_nv (M := kt_M70) (x := x1) kX11_drop_c0.2.2.2.2.2.2.1 rfl ?_
    refine kz_nz0 (x := x1) hxp1 ?_
    refine kz_gfa (M := kt_M70) (c := 17) (o := p1) kX11_drop_c0.2.2.2.2.2.2.2.1 wf_X11_164 (.inr (by exact hlp1)) ?_
    refine kz_aload_nv (M := kt_M70) (x := x1) kX11_drop_c1.1 rfl ?_
    refine kz_dup (M := kt_M70) kX11_drop_c1.2.1 (w_cat _) ?_
    refine kz_nz0 (x := x1) hxp1 ?_
    refine kz_gfi (M := kt_M70) (c := 17) (o := p1) kX11_drop_c1.2.2.1 wf_X11_161 (.inr (by exact hlp1)) ?_
    refine kz_ic (M := kt_M70) 1 kX11_drop_c1.2.2.2.1 rfl ?_
    refine kz_isub (M := kt_M70) kX11_drop_c1.2.2.2.2.1 ?_
    refine kz_dup_x1 (M := kt_M70) kX11_drop_c1.2.2.2.2.2.1 ⟨rfl, w_cat _⟩ ?_
    refine kz_nz1 (x := x1) hxp1 ?_
    refine kz_pfi (M := kt_M70) (c := 17) (o := p1) kX11_drop_c1.2.2.2.2.2.2.1 wq_X11_161 (.inr (by exact hlp1)) ?_
    refine kz_ialdR (M := kt_M70) (n := w_n w 17 p1 14) (c := 17) (o := p1) (k := 14) (a := (w_d w 17 p1 14)) (w_a w 17 p1 14 (((w_i w 17 p1 17) - 1)).toNatClampNeg) kX11_drop_c1.2.2.2.2.2.2.2.1 (.inr ⟨.inr (by exact hlp1), rfl, rfl⟩) rfl ot_0 rd_n_i rd_a_i h (fun h => ?_)
    refine kz_cv0 (M := kt_M70) (c := 11) (o := 0) (As := [.int (w_a w 17 p1 14 (((w_i w 17 p1 17) - 1)).toNatClampNeg)]) (rest := []) kX11_drop_c2.1 wl_X11_141 wMv_122 rfl (.inl rfl) rfl (Nat.le_trans (Nat.le_of_ble_eq_true rfl) hL) (Nat.le_of_ble_eq_true rfl) (Nat.le_of_ble_eq_true rfl) h (fun w2 hle h => ?_) (fun _ _ _ h => kzx_no rfl h)
    have h := h hle
    have hlp1 := w_l_le hlp1 hle
    refine kz_goto (M := kt_M70) kX11_drop_c2.2.1 (t := 0) rfl ?_
    exact kz_weak [(0, .ref (w_adr E.2.1 10 0)), (1, va_rf (x1)), (2, .int x2)] ⟨rfl, ⟨rfl, ⟨rfl, trivial⟩⟩⟩ rfl h
def zb_X11_spend_p25 (E : zE) (L : Nat) (Q : kx_Rs → wS → Prop) (w : wS) : Prop := Q (.inl none) w
theorem zt_X11_spend_p25 {E : zE} {L : Nat} {Q : kx_Rs → wS → Prop} {w : wS} (hL : 21 ≤ L) (h : zb_X11_spend_p25 E L Q  w) : kzE E L kt_M104 25 [(0, .ref (w_adr E.2.1 10 0))] [] w Q := by
  unfold zb_X11_spend_p25 at h
  exact kz_ret (M := kt_M104) kX11_spend_c1.2.2.2.2.2.1 rfl h
def zb_X11_spend_p0 (E : zE) (L : Nat) (Q : kx_Rs → wS → Prop) (w : wS) : Prop := (if ((w_i w 10 0 28) + 1) ≤ 100 then zb_X11_spend_p25 E L Q (ws_i w 10 0 28 ((w_i w 10 0 28) + 1)) else zw E (L - 21) kt_M107 [.ref (w_adr E.2.1 10 0), .int 11] (ws_i w 10 0 28 ((w_i w 10 0 28) + 1)) (wk0 (fun w1 => wle (ws_i w 10 0 28 ((w_i w 10 0 28) + 1)) w1 → zb_X11_spend_p25 E L Q w1) (fun e w => Q (.inr e) w)))
theorem zt_X11_spend_p0 {E : zE} {L : Nat} {Q : kx_Rs → wS → Prop} {w : wS} (hL : 21 ≤ L) (h : zb_X11_spend_p0 E L Q  w) : kzE E L kt_M104 0 [(0, .ref (w_adr E.2.1 10 0))] [] w Q := by
  unfold zb_X11_spend_p0 at h
  refine kz_aload_n (M := kt_M104) kX11_spend_c0.1 rfl ?_
  refine kz_dup (M := kt_M104) kX11_spend_c0.2.1 rfl ?_
  refine kz_gfi (M := kt_M104) (c := 10) (o := 0) kX11_spend_c0.2.2.1 wf_X11_198 (.inl rfl) ?_
  refine kz_ic (M := kt_M104) 1 kX11_spend_c0.2.2.2.1 rfl ?_
  refine kz_iadd (M := kt_M104) kX11_spend_c0.2.2.2.2.1 ?_
  refine kz_pfi (M := kt_M104) (c := 10) (o := 0) kX11_spend_c0.2.2.2.2.2.1 wq_X11_198 (.inl rfl) ?_
  refine kz_aload_n (M := kt_M104) kX11_spend_c0.2.2.2.2.2.2.1 rfl ?_
  refine kz_gfiR (M := kt_M104) (c := 10) (o := 0) ((w_i w 10 0 28) + 1) kX11_spend_c0.2.2.2.2.2.2.2.1 wf_X11_198 (.inl rfl) rd_i_e ?_
  refine kz_bi (M := kt_M104) 100 kX11_spend_c1.1 rfl ?_
  refine kz_icmp_le (M := kt_M104) kX11_spend_c1.2.1 (t := 25) rfl h (fun h => ?_) (fun h => ?_)
  · skip
    exact kz_weak [(0, .ref (w_adr E.2.1 10 0))] ⟨rfl, trivial⟩ rfl (zt_X11_spend_p25 hL  h)
  · skip
    refine kz_aload_n (M := kt_M104) kX11_spend_c1.2.2.1 rfl ?_
    refine kz_bi (M := kt_M104) 11 kX11_spend_c1.2.2.2.1 rfl ?_
    refine kz_cv0 (M := kt_M104) (c := 10) (o := 0) (As := [.int 11]) (rest := []) kX11_spend_c1.2.2.2.2.1 wl_X11_295 wMv_107 rfl (.inl rfl) rfl (Nat.le_trans (Nat.le_of_ble_eq_true rfl) hL) (Nat.le_of_ble_eq_true rfl) (Nat.le_of_ble_eq_true rfl) h (fun w1 hle h => ?_) (fun _ _ _ h => kzx_no rfl h)
    have h := h hle
    exact kz_weak [(0, .ref (w_adr E.2.1 10 0))] ⟨rfl, trivial⟩ rfl (zt_X11_spend_p25 hL  h)
def zb_X11_stop_p0 (E : zE) (L : Nat) (Q : kx_Rs → wS → Prop) (x1 : Int32) (w : wS) : Prop := (∃ p1, w_p w 10 0 21 = some p1 ∧ w_l w E.2.1 17 p1 ∧ zw E (L - 22) kt_M70 [.ref (w_adr E.2.1 10 0), va_rf (w_p w 10 0 21), .int 0] (ws_i (ws_p w 17 p1 9 (some (E.1.1 65))) 17 p1 4 x1) (wk0 (fun w2 => wle (ws_i (ws_p w 17 p1 9 (some (E.1.1 65))) 17 p1 4 x1) w2 → zw E (L - 20) kt_M102 [.ref (w_adr E.2.1 10 0)] (ws_i (ws_i w2 10 0 29 0) 10 0 27 0) (wk0 (fun w4 => wle (ws_i (ws_i w2 10 0 29 0) 10 0 27 0) w4 → Q (.inl none) w4) (fun e w => Q (.inr e) w))) (fun e w => Q (.inr e) w)))
theorem zt_X11_stop_p0 {E : zE} {L : Nat} {Q : kx_Rs → wS → Prop} {x1 : Int32} {w : wS} (hL : 22 ≤ L) (h : zb_X11_stop_p0 E L Q x1 w) : kzE E L kt_M107 0 [(0, .ref (w_adr E.2.1 10 0)), (1, .int x1)] [] w Q := by
  unfold zb_X11_stop_p0 at h
  refine kz_aload_n (M := kt_M107) kX11_stop_c0.1 rfl ?_
  refine kz_gfp (M := kt_M107) (c := 10) (o := 0) kX11_stop_c0.2.1 wf_X11_110 (.inl rfl) ?_
  refine kz_getsE (M := kt_M107) (v := va_rf (some (E.1.1 65))) kX11_stop_c0.2.2.1 zs_X11_119 ?_
  obtain ⟨p1, hxp1, hlp1, h⟩ := h
  refine kz_nz1 (x := w_p w 10 0 21) hxp1 ?_
  refine kz_pfp (M := kt_M107) (n := some (E.1.1 65)) (c := 17) (o := p1) kX11_stop_c0.2.2.2.1 wq_X11_125 (.inr (by exact hlp1)) ?_
  refine kz_aload_n (M := kt_M107) kX11_stop_c0.2.2.2.2.1 rfl ?_
  refine kz_gfpR (M := kt_M107) (c := 10) (o := 0) (w_p w 10 0 21) kX11_stop_c0.2.2.2.2.2.1 wf_X11_110 (.inl rfl) (rd_p_p rfl) ?_
  refine kz_iload_n (M := kt_M107) kX11_stop_c0.2.2.2.2.2.2.1 rfl ?_
  refine kz_nz1 (x := w_p w 10 0 21) hxp1 ?_
  refine kz_pfi (M := kt_M107) (c := 17) (o := p1) kX11_stop_c0.2.2.2.2.2.2.2.1 wq_X11_128 (.inr (by exact hlp1)) ?_
  refine kz_aload_n (M := kt_M107) kX11_stop_c1.1 rfl ?_
  refine kz_aload_n (M := kt_M107) kX11_stop_c1.2.1 rfl ?_
  refine kz_gfpR (M := kt_M107) (c := 10) (o := 0) (w_p w 10 0 21) kX11_stop_c1.2.2.1 wf_X11_110 (.inl rfl) (rd_p_i.trans (rd_p_p rfl)) ?_
  refine kz_ic (M := kt_M107) 0 kX11_stop_c1.2.2.2.1 rfl ?_
  refine kz_cv0 (M := kt_M107) (c := 10) (o := 0) (As := [va_rf (w_p w 10 0 21), .int 0]) (rest := []) kX11_stop_c1.2.2.2.2.1 wl_X11_131 wMv_70 rfl (.inl rfl) rfl (Nat.le_trans (Nat.le_of_ble_eq_true rfl) hL) (by simp [lg_sl, w_cat, z_ci, z_cr, z_cl, z_cn, kt_M70]) (Nat.le_of_ble_eq_true rfl) h (fun w2 hle h => ?_) (fun _ _ _ h => kzx_no rfl h)
  have h := h hle
  have hlp1 := w_l_le hlp1 hle
  refine kz_aload_n (M := kt_M107) kX11_stop_c1.2.2.2.2.2.1 rfl ?_
  refine kz_ic (M := kt_M107) 0 kX11_stop_c1.2.2.2.2.2.2.1 rfl ?_
  refine kz_pfi (M := kt_M107) (c := 10) (o := 0) kX11_stop_c1.2.2.2.2.2.2.2.1 wq_X11_45 (.inl rfl) ?_
  refine kz_aload_n (M := kt_M107) kX11_stop_c2.1 rfl ?_
  refine kz_ic (M := kt_M107) 0 kX11_stop_c2.2.1 rfl ?_
  refine kz_pfi (M := kt_M107) (c := 10) (o := 0) kX11_stop_c2.2.2.1 wq_X11_135 (.inl rfl) ?_
  refine kz_aload_n (M := kt_M107) kX11_stop_c2.2.2.2.1 rfl ?_
  refine kz_cv0 (M := kt_M107) (c := 10) (o := 0) (As := []) (rest := []) kX11_stop_c2.2.2.2.2.1 wl_X11_138 wMv_102 rfl (.inl rfl) rfl (Nat.le_trans (Nat.le_of_ble_eq_true rfl) hL) (Nat.le_of_ble_eq_true rfl) (Nat.le_of_ble_eq_true rfl) h (fun w4 hle h => ?_) (fun _ _ _ h => kzx_no rfl h)
  have h := h hle
  have hlp1 := w_l_le hlp1 hle
  exact kz_ret (M := kt_M107) kX11_stop_c2.2.2.2.2.2.1 rfl h
def zb_X11_save_p0 (E : zE) (L : Nat) (Q : kx_Rs → wS → Prop) (w : wS) : Prop := (∃ p1, w_p w 10 0 21 = some p1 ∧ w_l w E.2.1 17 p1 ∧ Q (.inl none) (ws_i (ws_i (ws_i w 17 p1 1 (w_i w 10 0 25)) 17 p1 2 (w_i w 10 0 26)) 10 0 31 0))
theorem zt_X11_save_p0 {E : zE} {L : Nat} {Q : kx_Rs → wS → Prop} {w : wS} (hL : 19 ≤ L) (h : zb_X11_save_p0 E L Q  w) : kzE E L kt_M102 0 [(0, .ref (w_adr E.2.1 10 0))] [] w Q := by
  unfold zb_X11_save_p0 at h
  refine kz_aload_n (M := kt_M102) kX11_save_c0.1 rfl ?_
  refine kz_gfp (M := kt_M102) (c := 10) (o := 0) kX11_save_c0.2.1 wf_X11_110 (.inl rfl) ?_
  refine kz_aload_n (M := kt_M102) kX11_save_c0.2.2.1 rfl ?_
  refine kz_gfi (M := kt_M102) (c := 10) (o := 0) kX11_save_c0.2.2.2.1 wf_X11_59 (.inl rfl) ?_
  obtain ⟨p1, hxp1, hlp1, h⟩ := h
  refine kz_nz1 (x := w_p w 10 0 21) hxp1 ?_
  refine kz_pfi (M := kt_M102) (c := 17) (o := p1) kX11_save_c0.2.2.2.2.1 wq_X11_113 (.inr (by exact hlp1)) ?_
  refine kz_aload_n (M := kt_M102) kX11_save_c0.2.2.2.2.2.1 rfl ?_
  refine kz_gfpR (M := kt_M102) (c := 10) (o := 0) (w_p w 10 0 21) kX11_save_c0.2.2.2.2.2.2.1 wf_X11_110 (.inl rfl) rd_p_i ?_
  refine kz_aload_n (M := kt_M102) kX11_save_c0.2.2.2.2.2.2.2.1 rfl ?_
  refine kz_gfiR (M := kt_M102) (c := 10) (o := 0) (w_i w 10 0 26) kX11_save_c1.1 wf_X11_114 (.inl rfl) (rd_i_i rfl) ?_
  refine kz_nz1 (x := w_p w 10 0 21) hxp1 ?_
  refine kz_pfi (M := kt_M102) (c := 17) (o := p1) kX11_save_c1.2.1 wq_X11_91 (.inr (by exact hlp1)) ?_
  refine kz_aload_n (M := kt_M102) kX11_save_c1.2.2.1 rfl ?_
  refine kz_ic (M := kt_M102) 0 kX11_save_c1.2.2.2.1 rfl ?_
  refine kz_pfz (M := kt_M102) (c := 10) (o := 0) kX11_save_c1.2.2.2.2.1 wq_X11_115 (.inl rfl) (by decide) ?_
  exact kz_ret (M := kt_M102) kX11_save_c1.2.2.2.2.2.1 rfl h
def zb_X11_push_p40 (E : zE) (L : Nat) (Q : kx_Rs → wS → Prop) (x1 : Int32) (w : wS) : Prop := (kx_inb (w_i w 10 0 29) (w_n w 10 0 30) = true ∧ Q (.inl none) (ws_a (ws_i w 10 0 29 ((w_i w 10 0 29) + 1)) 10 0 30 (w_i w 10 0 29).toNatClampNeg x1))
theorem zt_X11_push_p40 {E : zE} {L : Nat} {Q : kx_Rs → wS → Prop} {x1 : Int32} {w : wS} (hL : 60 ≤ L) (h : zb_X11_push_p40 E L Q x1 w) : kzE E L kt_M97 40 [(0, .ref (w_adr E.2.1 10 0)), (1, .int x1)] [] w Q := by
  unfold zb_X11_push_p40 at h
  refine kz_aload_n (M := kt_M97) kX11_push_c2.2.2.2.2.2.2.2.1 rfl ?_
  refine kz_gfa (M := kt_M97) (c := 10) (o := 0) kX11_push_c3.1 wf_X11_38 (.inl rfl) ?_
  refine kz_aload_n (M := kt_M97) kX11_push_c3.2.1 rfl ?_
  refine kz_dup (M := kt_M97) kX11_push_c3.2.2.1 rfl ?_
  refine kz_gfi (M := kt_M97) (c := 10) (o := 0) kX11_push_c3.2.2.2.1 wf_X11_45 (.inl rfl) ?_
  refine kz_dup_x1 (M := kt_M97) kX11_push_c3.2.2.2.2.1 ⟨rfl, rfl⟩ ?_
  refine kz_ic (M := kt_M97) 1 kX11_push_c3.2.2.2.2.2.1 rfl ?_
  refine kz_iadd (M := kt_M97) kX11_push_c3.2.2.2.2.2.2.1 ?_
  refine kz_pfi (M := kt_M97) (c := 10) (o := 0) kX11_push_c3.2.2.2.2.2.2.2.1 wq_X11_45 (.inl rfl) ?_
  refine kz_iload_n (M := kt_M97) kX11_push_c4.1 rfl ?_
  refine kz_iastR (M := kt_M97) (n := w_n w 10 0 30) (c := 10) (o := 0) (k := 30) (a := (w_d w 10 0 30)) kX11_push_c4.2.1 ow_10_0_30 rfl ot_0 rd_n_i h (fun h => ?_)
  exact kz_ret (M := kt_M97) kX11_push_c4.2.2.1 rfl h
def zb_X11_push_p0 (E : zE) (L : Nat) (Q : kx_Rs → wS → Prop) (x1 : Int32) (w : wS) : Prop := (if ¬ w_i w 10 0 29 = (Int32.ofNat (w_n w 10 0 30)) then zb_X11_push_p40 E L Q x1 w else ((¬ ((2 * (w_i w 10 0 29))) < 0 ∧ ((2 * (w_i w 10 0 29))).toNatClampNeg * 4 ≤ 536870912 ∧ 1 ≤ w_C w ∧ ((2 * (w_i w 10 0 29))).toNatClampNeg ≤ w_S w) ∧ ((w_o (ws_new w 0 ((2 * (w_i w 10 0 29))).toNatClampNeg) (w_z w) = some (99, (w_z w), 0) ∧ w_t (ws_new w 0 ((2 * (w_i w 10 0 29))).toNatClampNeg) (w_z w) = 0) ∧ (((¬ (0 : Int32) < 0 ∧ ¬ (0 : Int32) < 0 ∧ ¬ (w_i (ws_new w 0 ((2 * (w_i w 10 0 29))).toNatClampNeg) 10 0 29) < 0) ∧ (0 : Int32).toNatClampNeg + (w_i (ws_new w 0 ((2 * (w_i w 10 0 29))).toNatClampNeg) 10 0 29).toNatClampNeg ≤ w_n (ws_new w 0 ((2 * (w_i w 10 0 29))).toNatClampNeg) 10 0 30 ∧ (0 : Int32).toNatClampNeg + (w_i (ws_new w 0 ((2 * (w_i w 10 0 29))).toNatClampNeg) 10 0 29).toNatClampNeg ≤ w_n (ws_new w 0 ((2 * (w_i w 10 0 29))).toNatClampNeg) 99 (w_z w) 0 ∧ ∀ i, i < (w_i (ws_new w 0 ((2 * (w_i w 10 0 29))).toNatClampNeg) 10 0 29).toNatClampNeg → fits .int (.int (w_a (ws_new w 0 ((2 * (w_i w 10 0 29))).toNatClampNeg) 10 0 30 ((0 : Int32).toNatClampNeg + i))) = true) ∧ ((w_o (ws_A (ws_new w 0 ((2 * (w_i w 10 0 29))).toNatClampNeg) 99 (w_z w) 0 (va_cpy (w_a (ws_new w 0 ((2 * (w_i w 10 0 29))).toNatClampNeg) 10 0 30) (w_a (ws_new w 0 ((2 * (w_i w 10 0 29))).toNatClampNeg) 99 (w_z w) 0) (0 : Int32).toNatClampNeg (0 : Int32).toNatClampNeg (w_i (ws_new w 0 ((2 * (w_i w 10 0 29))).toNatClampNeg) 10 0 29).toNatClampNeg)) (w_z w) = some (99, (w_z w), 0) ∧ w_t (ws_A (ws_new w 0 ((2 * (w_i w 10 0 29))).toNatClampNeg) 99 (w_z w) 0 (va_cpy (w_a (ws_new w 0 ((2 * (w_i w 10 0 29))).toNatClampNeg) 10 0 30) (w_a (ws_new w 0 ((2 * (w_i w 10 0 29))).toNatClampNeg) 99 (w_z w) 0) (0 : Int32).toNatClampNeg (0 : Int32).toNatClampNeg (w_i (ws_new w 0 ((2 * (w_i w 10 0 29))).toNatClampNeg) 10 0 29).toNatClampNeg)) (w_z w) = 0) ∧ zb_X11_push_p40 E L Q x1 (ws_put (ws_A (ws_new w 0 ((2 * (w_i w 10 0 29))).toNatClampNeg) 99 (w_z w) 0 (va_cpy (w_a (ws_new w 0 ((2 * (w_i w 10 0 29))).toNatClampNeg) 10 0 30) (w_a (ws_new w 0 ((2 * (w_i w 10 0 29))).toNatClampNeg) 99 (w_z w) 0) (0 : Int32).toNatClampNeg (0 : Int32).toNatClampNeg (w_i (ws_new w 0 ((2 * (w_i w 10 0 29))).toNatClampNeg) 10 0 29).toNatClampNeg)) 10 0 30 (w_z w)))))))
theorem zt_X11_push_p0 {E : zE} {L : Nat} {Q : kx_Rs → wS → Prop} {x1 : Int32} {w : wS} (hL : 60 ≤ L) (h : zb_X11_push_p0 E L Q x1 w) : kzE E L kt_M97 0 [(0, .ref (w_adr E.2.1 10 0)), (1, .int x1)] [] w Q := by
  unfold zb_X11_push_p0 at h
  refine kz_aload_n (M := kt_M97) kX11_push_c0.1 rfl ?_
  refine kz_gfi (M := kt_M97) (c := 10) (o := 0) kX11_push_c0.2.1 wf_X11_45 (.inl rfl) ?_
  refine kz_aload_n (M := kt_M97) kX11_push_c0.2.2.1 rfl ?_
  refine kz_gfa (M := kt_M97) (c := 10) (o := 0) kX11_push_c0.2.2.2.1 wf_X11_38 (.inl rfl) ?_
  refine kz_alen (M := kt_M97) (c := 10) (o := 0) (k := 30) (a := (w_d w 10 0 30)) (τ := 0) kX11_push_c0.2.2.2.2.1 ow_10_0_30 oa_10_0_30 (Nat.le_of_ble_eq_true rfl) ?_
  refine kz_icmp_ne (M := kt_M97) kX11_push_c0.2.2.2.2.2.1 (t := 40) rfl h (fun h => ?_) (fun h => ?_)
  · skip
    exact kz_weak [(0, .ref (w_adr E.2.1 10 0)), (1, .int x1)] ⟨rfl, ⟨rfl, trivial⟩⟩ rfl (zt_X11_push_p40 hL  h)
  · skip
    refine kz_ic (M := kt_M97) 2 kX11_push_c0.2.2.2.2.2.2.1 rfl ?_
    refine kz_aload_n (M := kt_M97) kX11_push_c0.2.2.2.2.2.2.2.1 rfl ?_
    refine kz_gfi (M := kt_M97) (c := 10) (o := 0) kX11_push_c1.1 wf_X11_45 (.inl rfl) ?_
    refine kz_imul (M := kt_M97) kX11_push_c1.2.1 ?_
    refine kz_newi (M := kt_M97) kX11_push_c1.2.2.1 ot_f0 ot_0 ot_ai h (fun h => ?_)
    refine kz_sta_n (M := kt_M97) [(0, .ref (w_adr E.2.1 10 0)), (1, .int x1)] kX11_push_c1.2.2.2.1 (Nat.le_of_ble_eq_true rfl) ⟨⟨rfl, rfl, .inl rfl⟩, ⟨⟨rfl, rfl, .inr rfl⟩, trivial⟩⟩ rfl ?_
    refine kz_aload_n (M := kt_M97) kX11_push_c1.2.2.2.2.1 rfl ?_
    refine kz_gfa (M := kt_M97) (c := 10) (o := 0) kX11_push_c1.2.2.2.2.2.1 wf_X11_38 (.inl rfl) ?_
    refine kz_ic (M := kt_M97) 0 kX11_push_c1.2.2.2.2.2.2.1 rfl ?_
    refine kz_aload_n (M := kt_M97) kX11_push_c1.2.2.2.2.2.2.2.1 rfl ?_
    refine kz_ic (M := kt_M97) 0 kX11_push_c2.1 rfl ?_
    refine kz_aload_n (M := kt_M97) kX11_push_c2.2.1 rfl ?_
    refine kz_gfi (M := kt_M97) (c := 10) (o := 0) kX11_push_c2.2.2.1 wf_X11_45 (.inl rfl) ?_
    obtain ⟨h0, h⟩ := h
    refine kz_cpyi (M := kt_M97) (τ := 0) (ty := .int) (c0 := 10) (o0 := 0) (k0 := 30) (c := 99) (o := (w_z w)) (k := 0) (a0 := (w_d (ws_new w 0 ((2 * (w_i w 10 0 29))).toNatClampNeg) 10 0 30)) (a := (w_z w)) kX11_push_c2.2.2.2.1 (zac_X11_49) (by decide) rfl rfl ow_10_0_30 oa_10_0_30 (.inl ⟨rfl, rfl, h0.1, h0.2⟩) rfl (Nat.le_trans (by simp [kx_cat, w_cat, zac_w, z_ci, z_cr, z_cl, z_cn]) hL) h (fun h => ?_)
    refine kz_aload_n (M := kt_M97) kX11_push_c2.2.2.2.2.1 rfl ?_
    refine kz_aload_n (M := kt_M97) kX11_push_c2.2.2.2.2.2.1 rfl ?_
    refine kz_pfa (M := kt_M97) (c := 10) (o := 0) (τ := 0) kX11_push_c2.2.2.2.2.2.2.1 wq_X11_38 (.inl rfl) rfl h (fun h => ?_)
    exact kz_weak [(0, .ref (w_adr E.2.1 10 0)), (1, .int x1)] ⟨rfl, ⟨rfl, trivial⟩⟩ rfl (zt_X11_push_p40 hL  h)
def zb_X11_pop_p0 (E : zE) (L : Nat) (Q : kx_Rs → wS → Prop) (w : wS) : Prop := (kx_inb ((w_i w 10 0 29) - 1) (w_n w 10 0 30) = true ∧ Q (.inl (some (.int (w_a w 10 0 30 (((w_i w 10 0 29) - 1)).toNatClampNeg)))) (ws_i w 10 0 29 ((w_i w 10 0 29) - 1)))
theorem zt_X11_pop_p0 {E : zE} {L : Nat} {Q : kx_Rs → wS → Prop} {w : wS} (hL : 19 ≤ L) (h : zb_X11_pop_p0 E L Q  w) : kzE E L kt_M95 0 [(0, .ref (w_adr E.2.1 10 0))] [] w Q := by
  unfold zb_X11_pop_p0 at h
  refine kz_aload_n (M := kt_M95) kX11_pop_c0.1 rfl ?_
  refine kz_gfa (M := kt_M95) (c := 10) (o := 0) kX11_pop_c0.2.1 wf_X11_38 (.inl rfl) ?_
  refine kz_aload_n (M := kt_M95) kX11_pop_c0.2.2.1 rfl ?_
  refine kz_dup (M := kt_M95) kX11_pop_c0.2.2.2.1 rfl ?_
  refine kz_gfi (M := kt_M95) (c := 10) (o := 0) kX11_pop_c0.2.2.2.2.1 wf_X11_45 (.inl rfl) ?_
  refine kz_ic (M := kt_M95) 1 kX11_pop_c0.2.2.2.2.2.1 rfl ?_
  refine kz_isub (M := kt_M95) kX11_pop_c0.2.2.2.2.2.2.1 ?_
  refine kz_dup_x1 (M := kt_M95) kX11_pop_c0.2.2.2.2.2.2.2.1 ⟨rfl, rfl⟩ ?_
  refine kz_pfi (M := kt_M95) (c := 10) (o := 0) kX11_pop_c1.1 wq_X11_45 (.inl rfl) ?_
  refine kz_ialdR (M := kt_M95) (n := w_n w 10 0 30) (c := 10) (o := 0) (k := 30) (a := (w_d w 10 0 30)) (w_a w 10 0 30 (((w_i w 10 0 29) - 1)).toNatClampNeg) kX11_pop_c1.2.1 ow_10_0_30 rfl ot_0 rd_n_i rd_a_i h (fun h => ?_)
  exact kz_iret (M := kt_M95) kX11_pop_c1.2.2.1 rfl rfl h
def zb_X11_one_p56 (E : zE) (L : Nat) (Q : kx_Rs → wS → Prop) (w : wS) : Prop := Q (.inl none) w
theorem zt_X11_one_p56 {E : zE} {L : Nat} {Q : kx_Rs → wS → Prop} {w : wS} (hL : 22 ≤ L) (h : zb_X11_one_p56 E L Q  w) : kzE E L kt_M91 56 [(0, .ref (w_adr E.2.1 10 0))] [] w Q := by
  unfold zb_X11_one_p56 at h
  exact kz_ret (M := kt_M91) kX11_one_c3.2.2.2.2.2.2.2.1 rfl h
def zb_X11_one_p53 (E : zE) (L : Nat) (Q : kx_Rs → wS → Prop) (y0 : Int32) (w : wS) : Prop := zw E (L - 22) kt_M97 [.ref (w_adr E.2.1 10 0), .int y0] w (wk0 (fun w1 => wle w w1 → zb_X11_one_p56 E L Q w1) (fun e w => Q (.inr e) w))
theorem zt_X11_one_p53 {E : zE} {L : Nat} {Q : kx_Rs → wS → Prop} {y0 : Int32} {w : wS} (hL : 22 ≤ L) (h : zb_X11_one_p53 E L Q y0 w) : kzE E L kt_M91 53 [(0, .ref (w_adr E.2.1 10 0))] [.int y0, .ref (w_adr E.2.1 10 0)] w Q := by
  unfold zb_X11_one_p53 at h
  refine kz_cv0 (M := kt_M91) (c := 10) (o := 0) (As := [.int y0]) (rest := []) kX11_one_c3.2.2.2.2.2.2.1 wl_X11_301 wMv_97 rfl (.inl rfl) rfl (Nat.le_trans (Nat.le_of_ble_eq_true rfl) hL) (Nat.le_of_ble_eq_true rfl) (Nat.le_of_ble_eq_true rfl) h (fun w1 hle h => ?_) (fun _ _ _ h => kzx_no rfl h)
  have h := h hle
  exact kz_weak [(0, .ref (w_adr E.2.1 10 0))] ⟨rfl, trivial⟩ rfl (zt_X11_one_p56 hL  h)
def zb_X11_one_p26 (E : zE) (L : Nat) (Q : kx_Rs → wS → Prop) (x1 : Int32) (x2 : Int32) (w : wS) : Prop := (if ¬ x1 = 17 then (if ¬ x1 = 63 then zb_X11_one_p53 E L Q (-x2) w else zb_X11_one_p53 E L Q (x2 ^^^ (-1)) w) else zb_X11_one_p53 E L Q (1 - x2) w)
theorem zt_X11_one_p26 {E : zE} {L : Nat} {Q : kx_Rs → wS → Prop} {x1 : Int32} {x2 : Int32} {w : wS} (hL : 22 ≤ L) (h : zb_X11_one_p26 E L Q x1 x2 w) : kzE E L kt_M91 26 [(0, .ref (w_adr E.2.1 10 0)), (1, .int x1), (2, .int x2)] [] w Q := by
  unfold zb_X11_one_p26 at h
  refine kz_aload_n (M := kt_M91) kX11_one_c1.2.2.2.2.2.1 rfl ?_
  refine kz_iload_n (M := kt_M91) kX11_one_c1.2.2.2.2.2.2.1 rfl ?_
  refine kz_bi (M := kt_M91) 17 kX11_one_c1.2.2.2.2.2.2.2.1 rfl ?_
  refine kz_icmp_ne (M := kt_M91) kX11_one_c2.1 (t := 39) rfl h (fun h => ?_) (fun h => ?_)
  · skip
    refine kz_iload_n (M := kt_M91) kX11_one_c2.2.2.2.2.2.1 rfl ?_
    refine kz_bi (M := kt_M91) 63 kX11_one_c2.2.2.2.2.2.2.1 rfl ?_
    refine kz_icmp_ne (M := kt_M91) kX11_one_c2.2.2.2.2.2.2.2.1 (t := 51) rfl h (fun h => ?_) (fun h => ?_)
    · skip
      refine kz_iload_n (M := kt_M91) kX11_one_c3.2.2.2.2.1 rfl ?_
      refine kz_ineg (M := kt_M91) kX11_one_c3.2.2.2.2.2.1 ?_
      exact kz_weak [(0, .ref (w_adr E.2.1 10 0))] ⟨rfl, trivial⟩ rfl (zt_X11_one_p53 hL  h)
    · skip
      refine kz_iload_n (M := kt_M91) kX11_one_c3.1 rfl ?_
      refine kz_ic (M := kt_M91) (-1) kX11_one_c3.2.1 rfl ?_
      refine kz_ixor (M := kt_M91) kX11_one_c3.2.2.1 ?_
      refine kz_goto (M := kt_M91) kX11_one_c3.2.2.2.1 (t := 53) rfl ?_
      exact kz_weak [(0, .ref (w_adr E.2.1 10 0))] ⟨rfl, trivial⟩ rfl (zt_X11_one_p53 hL  h)
  · skip
    refine kz_ic (M := kt_M91) 1 kX11_one_c2.2.1 rfl ?_
    refine kz_iload_n (M := kt_M91) kX11_one_c2.2.2.1 rfl ?_
    refine kz_isub (M := kt_M91) kX11_one_c2.2.2.2.1 ?_
    refine kz_goto (M := kt_M91) kX11_one_c2.2.2.2.2.1 (t := 53) rfl ?_
    exact kz_weak [(0, .ref (w_adr E.2.1 10 0))] ⟨rfl, trivial⟩ rfl (zt_X11_one_p53 hL  h)
def zb_X11_one_p0 (E : zE) (L : Nat) (Q : kx_Rs → wS → Prop) (x1 : Int32) (w : wS) : Prop := zw E (L - 20) kt_M95 [.ref (w_adr E.2.1 10 0)] w (wk1 (fun v2 w1 => wle w w1 → (if ¬ x1 = 54 then zb_X11_one_p26 E L Q x1 v2 w1 else (if ¬ v2 = (-2147483648) then zb_X11_one_p26 E L Q x1 v2 w1 else zw E (L - 21) kt_M107 [.ref (w_adr E.2.1 10 0), .int 1] w1 (wk0 (fun w3 => wle w1 w3 → zb_X11_one_p56 E L Q w3) (fun e w => Q (.inr e) w))))) (fun e w => Q (.inr e) w))
theorem zt_X11_one_p0 {E : zE} {L : Nat} {Q : kx_Rs → wS → Prop} {x1 : Int32} {w : wS} (hL : 22 ≤ L) (h : zb_X11_one_p0 E L Q x1 w) : kzE E L kt_M91 0 [(0, .ref (w_adr E.2.1 10 0)), (1, .int x1)] [] w Q := by
  unfold zb_X11_one_p0 at h
  refine kz_aload_n (M := kt_M91) kX11_one_c0.1 rfl ?_
  refine kz_cv1 (M := kt_M91) (c := 10) (o := 0) (As := []) (rest := []) kX11_one_c0.2.1 wl_X11_304 wMv_95 rfl (.inl rfl) rfl (Nat.le_trans (Nat.le_of_ble_eq_true rfl) hL) (Nat.le_of_ble_eq_true rfl) (Nat.le_of_ble_eq_true rfl) h (fun v2 w1 hle h => ?_) (fun _ _ _ h => kzx_no rfl h)
  have h := h hle
  refine kz_sti_n (M := kt_M91) [(0, .ref (w_adr E.2.1 10 0)), (1, .int x1)] kX11_one_c0.2.2.1 (Nat.le_of_ble_eq_true rfl) ⟨⟨rfl, rfl, .inl rfl⟩, ⟨⟨rfl, rfl, .inr rfl⟩, trivial⟩⟩ rfl ?_
  refine kz_iload_n (M := kt_M91) kX11_one_c0.2.2.2.1 rfl ?_
  refine kz_bi (M := kt_M91) 54 kX11_one_c0.2.2.2.2.1 rfl ?_
  refine kz_icmp_ne (M := kt_M91) kX11_one_c0.2.2.2.2.2.1 (t := 26) rfl h (fun h => ?_) (fun h => ?_)
  · skip
    exact kz_weak [(0, .ref (w_adr E.2.1 10 0)), (1, .int x1), (2, .int v2)] ⟨rfl, ⟨rfl, ⟨rfl, trivial⟩⟩⟩ rfl (zt_X11_one_p26 hL  h)
  · skip
    refine kz_iload_n (M := kt_M91) kX11_one_c0.2.2.2.2.2.2.1 rfl ?_
    refine kz_ldcw (M := kt_M91) (x := (-2147483648)) kX11_one_c0.2.2.2.2.2.2.2.1 (zc_X11_326) ?_
    refine kz_icmp_ne (M := kt_M91) kX11_one_c1.1 (t := 26) rfl h (fun h => ?_) (fun h => ?_)
    · skip
      exact kz_weak [(0, .ref (w_adr E.2.1 10 0)), (1, .int x1), (2, .int v2)] ⟨rfl, ⟨rfl, ⟨rfl, trivial⟩⟩⟩ rfl (zt_X11_one_p26 hL  h)
    · skip
      refine kz_aload_n (M := kt_M91) kX11_one_c1.2.1 rfl ?_
      refine kz_ic (M := kt_M91) 1 kX11_one_c1.2.2.1 rfl ?_
      refine kz_cv0 (M := kt_M91) (c := 10) (o := 0) (As := [.int 1]) (rest := []) kX11_one_c1.2.2.2.1 wl_X11_295 wMv_107 rfl (.inl rfl) rfl (Nat.le_trans (Nat.le_of_ble_eq_true rfl) hL) (Nat.le_of_ble_eq_true rfl) (Nat.le_of_ble_eq_true rfl) h (fun w3 hle h => ?_) (fun _ _ _ h => kzx_no rfl h)
      have h := h hle
      refine kz_goto (M := kt_M91) kX11_one_c1.2.2.2.2.1 (t := 56) rfl ?_
      exact kz_weak [(0, .ref (w_adr E.2.1 10 0))] ⟨rfl, trivial⟩ rfl (zt_X11_one_p56 hL  h)
def zL_X11_more_p145 (E : zE) (L : Nat) (Q : kx_Rs → wS → Prop) (x2 : Int32) (x3 : Int32) (x4 : Int32) (w : wS) : Prop := kzE E L kt_M84 145 [(0, .ref (w_adr E.2.1 10 0)), (2, .int x2), (3, .int x3), (4, .int x4)] [] w Q
def zL_X11_more_p72 (E : zE) (L : Nat) (Q : kx_Rs → wS → Prop) (x2 : Int32) (x3 : Int32) (x4 : Int32) (x5 : Int32) (w : wS) : Prop := kzE E L kt_M84 72 [(0, .ref (w_adr E.2.1 10 0)), (2, .int x2), (3, .int x3), (4, .int x4), (5, .int x5)] [] w Q
def zb_X11_more_p501 (E : zE) (L : Nat) (Q : kx_Rs → wS → Prop) (w : wS) : Prop := Q (.inl none) w
theorem zt_X11_more_p501 {E : zE} {L : Nat} {Q : kx_Rs → wS → Prop} {w : wS} (hL : 23 ≤ L) (h : zb_X11_more_p501 E L Q  w) : kzE E L kt_M84 501 [(0, .ref (w_adr E.2.1 10 0))] [] w Q := by
  unfold zb_X11_more_p501 at h
  exact kz_ret (M := kt_M84) kX11_more_c30.2.1 rfl h
def zb_X11_more_p145 (E : zE) (L : Nat) (Q : kx_Rs → wS → Prop) (x2 : Int32) (x3 : Int32) (x4 : Int32) (w : wS) : Prop := (if x2 ≤ x4 then zw E (L - 22) kt_M93 [.ref (w_adr E.2.1 10 0), .int x3, .int x2] w (wk0 (fun w1 => wle w w1 → zb_X11_more_p501 E L Q w1) (fun e w => Q (.inr e) w)) else (kx_inb ((w_i w 10 0 29) + x4) (w_n w 10 0 30) = true ∧ zw E (L - 23) kt_M128 [.ref (w_adr E.2.1 11 0), .int x3, .int x4, .int (w_a w 10 0 30 (((w_i w 10 0 29) + x4)).toNatClampNeg)] w (wk0 (fun w3 => wle w w3 → zL_X11_more_p145 E L Q x2 x3 (x4 + 1) w3) (fun e w => Q (.inr e) w))))
theorem zt_X11_more_p145 {E : zE} {L : Nat} {Q : kx_Rs → wS → Prop} {x2 : Int32} {x3 : Int32} {x4 : Int32} {w : wS} (hL : 23 ≤ L) (h : zb_X11_more_p145 E L Q x2 x3 x4 w) : kzE E L kt_M84 145 [(0, .ref (w_adr E.2.1 10 0)), (2, .int x2), (3, .int x3), (4, .int x4)] [] w Q := by
  unfold zb_X11_more_p145 at h
  refine kz_iload (M := kt_M84) kX11_more_c6.2.2.2.2.2.1 rfl ?_
  refine kz_iload_n (M := kt_M84) kX11_more_c6.2.2.2.2.2.2.1 rfl ?_
  refine kz_icmp_ge (M := kt_M84) kX11_more_c6.2.2.2.2.2.2.2.1 (t := 179) rfl h (fun h => ?_) (fun h => ?_)
  · skip
    refine kz_aload_n (M := kt_M84) kX11_more_c8.2.2.2.2.2.2.1 rfl ?_
    refine kz_iload_n (M := kt_M84) kX11_more_c8.2.2.2.2.2.2.2.1 rfl ?_
    refine kz_iload_n (M := kt_M84) kX11_more_c9.1 rfl ?_
    refine kz_cv0 (M := kt_M84) (c := 10) (o := 0) (As := [.int x3, .int x2]) (rest := []) kX11_more_c9.2.1 wl_X11_332 wMv_93 rfl (.inl rfl) rfl (Nat.le_trans (Nat.le_of_ble_eq_true rfl) hL) (Nat.le_of_ble_eq_true rfl) (Nat.le_of_ble_eq_true rfl) h (fun w1 hle h => ?_) (fun _ _ _ h => kzx_no rfl h)
    have h := h hle
    refine kz_goto (M := kt_M84) kX11_more_c9.2.2.1 (t := 501) rfl ?_
    exact kz_weak [(0, .ref (w_adr E.2.1 10 0))] ⟨rfl, trivial⟩ rfl (zt_X11_more_p501 hL  h)
  · skip
    refine kz_aload_n (M := kt_M84) kX11_more_c7.1 rfl ?_
    refine kz_gfc (M := kt_M84) (x := 44) (c := 10) (o := 0) kX11_more_c7.2.1 wf_X11_12 (.inl rfl) ?_
    refine kz_iload_n (M := kt_M84) kX11_more_c7.2.2.1 rfl ?_
    refine kz_iload (M := kt_M84) kX11_more_c7.2.2.2.1 rfl ?_
    refine kz_aload_n (M := kt_M84) kX11_more_c7.2.2.2.2.1 rfl ?_
    refine kz_gfa (M := kt_M84) (c := 10) (o := 0) kX11_more_c7.2.2.2.2.2.1 wf_X11_38 (.inl rfl) ?_
    refine kz_aload_n (M := kt_M84) kX11_more_c7.2.2.2.2.2.2.1 rfl ?_
    refine kz_gfi (M := kt_M84) (c := 10) (o := 0) kX11_more_c7.2.2.2.2.2.2.2.1 wf_X11_45 (.inl rfl) ?_
    refine kz_iload (M := kt_M84) kX11_more_c8.1 rfl ?_
    refine kz_iadd (M := kt_M84) kX11_more_c8.2.1 ?_
    refine kz_iald (M := kt_M84) (c := 10) (o := 0) (k := 30) (a := (w_d w 10 0 30)) kX11_more_c8.2.2.1 ow_10_0_30 oa_10_0_30 ot_0 h (fun h => ?_)
    refine kz_cv0 (M := kt_M84) (c := 11) (o := 0) (As := [.int x3, .int x4, .int (w_a w 10 0 30 (((w_i w 10 0 29) + x4)).toNatClampNeg)]) (rest := []) kX11_more_c8.2.2.2.1 wl_X11_94 wMv_128 rfl (.inl rfl) rfl (Nat.le_trans (Nat.le_of_ble_eq_true rfl) hL) (Nat.le_of_ble_eq_true rfl) (Nat.le_of_ble_eq_true rfl) h (fun w3 hle h => ?_) (fun _ _ _ h => kzx_no rfl h)
    have h := h hle
    refine kz_inc (M := kt_M84) [(0, .ref (w_adr E.2.1 10 0)), (2, .int x2), (3, .int x3)] kX11_more_c8.2.2.2.2.1 rfl (Nat.le_of_ble_eq_true rfl) ⟨⟨rfl, rfl, .inl rfl⟩, ⟨⟨rfl, rfl, .inl rfl⟩, ⟨⟨rfl, rfl, .inr rfl⟩, trivial⟩⟩⟩ rfl ?_
    refine kz_goto (M := kt_M84) kX11_more_c8.2.2.2.2.2.1 (t := 145) rfl ?_
    exact kz_weak [(0, .ref (w_adr E.2.1 10 0)), (2, .int x2), (3, .int x3), (4, .int (x4 + 1))] ⟨rfl, ⟨rfl, ⟨rfl, ⟨rfl, trivial⟩⟩⟩⟩ rfl h
def zb_X11_more_p72 (E : zE) (L : Nat) (Q : kx_Rs → wS → Prop) (x2 : Int32) (x3 : Int32) (x4 : Int32) (x5 : Int32) (w : wS) : Prop := (if x3 ≤ x5 then zw E (L - 22) kt_M93 [.ref (w_adr E.2.1 10 0), .int x4, .int x3] w (wk0 (fun w1 => wle w w1 → zb_X11_more_p501 E L Q w1) (fun e w => Q (.inr e) w)) else (kx_inb (x2 + x5) (w_n w 8 0 1) = true ∧ zw E (L - 23) kt_M128 [.ref (w_adr E.2.1 11 0), .int x4, .int x5, .int ((w_a w 8 0 1 ((x2 + x5)).toNatClampNeg) &&& 255)] w (wk0 (fun w3 => wle w w3 → zL_X11_more_p72 E L Q x2 x3 x4 (x5 + 1) w3) (fun e w => Q (.inr e) w))))
theorem zt_X11_more_p72 {E : zE} {L : Nat} {Q : kx_Rs → wS → Prop} {x2 : Int32} {x3 : Int32} {x4 : Int32} {x5 : Int32} {w : wS} (hL : 23 ≤ L) (h : zb_X11_more_p72 E L Q x2 x3 x4 x5 w) : kzE E L kt_M84 72 [(0, .ref (w_adr E.2.1 10 0)), (2, .int x2), (3, .int x3), (4, .int x4), (5, .int x5)] [] w Q := by
  unfold zb_X11_more_p72 at h
  refine kz_iload (M := kt_M84) kX11_more_c1.2.2.2.2.2.2.1 rfl ?_
  refine kz_iload_n (M := kt_M84) kX11_more_c1.2.2.2.2.2.2.2.1 rfl ?_
  refine kz_icmp_ge (M := kt_M84) kX11_more_c2.1 (t := 111) rfl h (fun h => ?_) (fun h => ?_)
  · skip
    refine kz_aload_n (M := kt_M84) kX11_more_c4.2.1 rfl ?_
    refine kz_iload (M := kt_M84) kX11_more_c4.2.2.1 rfl ?_
    refine kz_iload_n (M := kt_M84) kX11_more_c4.2.2.2.1 rfl ?_
    refine kz_cv0 (M := kt_M84) (c := 10) (o := 0) (As := [.int x4, .int x3]) (rest := []) kX11_more_c4.2.2.2.2.1 wl_X11_332 wMv_93 rfl (.inl rfl) rfl (Nat.le_trans (Nat.le_of_ble_eq_true rfl) hL) (Nat.le_of_ble_eq_true rfl) (Nat.le_of_ble_eq_true rfl) h (fun w1 hle h => ?_) (fun _ _ _ h => kzx_no rfl h)
    have h := h hle
    refine kz_goto (M := kt_M84) kX11_more_c4.2.2.2.2.2.1 (t := 501) rfl ?_
    exact kz_weak [(0, .ref (w_adr E.2.1 10 0))] ⟨rfl, trivial⟩ rfl (zt_X11_more_p501 hL  h)
  · skip
    refine kz_aload_n (M := kt_M84) kX11_more_c2.2.1 rfl ?_
    refine kz_gfc (M := kt_M84) (x := 44) (c := 10) (o := 0) kX11_more_c2.2.2.1 wf_X11_12 (.inl rfl) ?_
    refine kz_iload (M := kt_M84) kX11_more_c2.2.2.2.1 rfl ?_
    refine kz_iload (M := kt_M84) kX11_more_c2.2.2.2.2.1 rfl ?_
    refine kz_aload_n (M := kt_M84) kX11_more_c2.2.2.2.2.2.1 rfl ?_
    refine kz_gfc (M := kt_M84) (x := 32) (c := 10) (o := 0) kX11_more_c2.2.2.2.2.2.2.1 wf_X11_41 (.inl rfl) ?_
    refine kz_gfc (M := kt_M84) (x := 3049) (c := 8) (o := 0) kX11_more_c2.2.2.2.2.2.2.2.1 wf_X11_329 (.inl rfl) ?_
    refine kz_iload_n (M := kt_M84) kX11_more_c3.1 rfl ?_
    refine kz_iload (M := kt_M84) kX11_more_c3.2.1 rfl ?_
    refine kz_iadd (M := kt_M84) kX11_more_c3.2.2.1 ?_
    refine kz_bald (M := kt_M84) (c := 8) (o := 0) (k := 1) (a := (E.2.1 3049)) kX11_more_c3.2.2.2.1 ow_8_0_1 oa_8_0_1 ot_1 h (fun h => ?_)
    refine kz_si (M := kt_M84) 255 kX11_more_c3.2.2.2.2.1 rfl ?_
    refine kz_iand (M := kt_M84) kX11_more_c3.2.2.2.2.2.1 ?_
    refine kz_cv0 (M := kt_M84) (c := 11) (o := 0) (As := [.int x4, .int x5, .int ((w_a w 8 0 1 ((x2 + x5)).toNatClampNeg) &&& 255)]) (rest := []) kX11_more_c3.2.2.2.2.2.2.1 wl_X11_94 wMv_128 rfl (.inl rfl) rfl (Nat.le_trans (Nat.le_of_ble_eq_true rfl) hL) (Nat.le_of_ble_eq_true rfl) (Nat.le_of_ble_eq_true rfl) h (fun w3 hle h => ?_) (fun _ _ _ h => kzx_no rfl h)
    have h := h hle
    refine kz_inc (M := kt_M84) [(0, .ref (w_adr E.2.1 10 0)), (2, .int x2), (3, .int x3), (4, .int x4)] kX11_more_c3.2.2.2.2.2.2.2.1 rfl (Nat.le_of_ble_eq_true rfl) ⟨⟨rfl, rfl, .inl rfl⟩, ⟨⟨rfl, rfl, .inl rfl⟩, ⟨⟨rfl, rfl, .inl rfl⟩, ⟨⟨rfl, rfl, .inr rfl⟩, trivial⟩⟩⟩⟩ rfl ?_
    refine kz_goto (M := kt_M84) kX11_more_c4.1 (t := 72) rfl ?_
    exact kz_weak [(0, .ref (w_adr E.2.1 10 0)), (2, .int x2), (3, .int x3), (4, .int x4), (5, .int (x5 + 1))] ⟨rfl, ⟨rfl, ⟨rfl, ⟨rfl, ⟨rfl, trivial⟩⟩⟩⟩⟩ rfl h
def zb_X11_more_p0 (E : zE) (L : Nat) (Q : kx_Rs → wS → Prop) (x1 : Int32) (w : wS) : Prop := (if x1 = 12 then zw E (L - 20) kt_M88 [.ref (w_adr E.2.1 10 0)] w (wk1 (fun v2 w1 => wle w w1 → zw E (L - 20) kt_M88 [.ref (w_adr E.2.1 10 0)] w1 (wk1 (fun v4 w3 => wle w1 w3 → zw E (L - 22) kt_M111 [.ref (w_adr E.2.1 10 0), .int v4] w3 (wk1 (fun v6 w5 => wle w3 w5 → zL_X11_more_p72 E L Q v2 v4 v6 0 w5) (fun e w => Q (.inr e) w))) (fun e w => Q (.inr e) w))) (fun e w => Q (.inr e) w)) else (if x1 = 13 then zw E (L - 20) kt_M88 [.ref (w_adr E.2.1 10 0)] w (wk1 (fun v8 w7 => wle w w7 → zw E (L - 22) kt_M111 [.ref (w_adr E.2.1 10 0), .int v8] w7 (wk1 (fun v10 w9 => wle w7 w9 → zL_X11_more_p145 E L Q v8 v10 0 (ws_i w9 10 0 29 ((w_i w9 10 0 29) - v8))) (fun e w => Q (.inr e) w))) (fun e w => Q (.inr e) w)) else (if x1 = 14 then zw E (L - 20) kt_M95 [.ref (w_adr E.2.1 10 0)] w (wk1 (fun v12 w11 => wle w w11 → zw E (L - 22) kt_M97 [.ref (w_adr E.2.1 10 0), .int v12] (ws_i w11 10 0 29 ((w_i w11 10 0 29) - 1)) (wk0 (fun w13 => wle (ws_i w11 10 0 29 ((w_i w11 10 0 29) - 1)) w13 → zb_X11_more_p501 E L Q w13) (fun e w => Q (.inr e) w))) (fun e w => Q (.inr e) w)) else (if x1 = 15 then (w_p w 10 0 2 = some (w_adr E.2.1 9 0) ∧ zw E (L - 21) kt_M221 [.ref (w_adr E.2.1 9 0), .int (w_i w 10 0 25)] w (wk1 (fun v17 w16 => wle w w16 → zb_X11_more_p501 E L Q (ws_i w16 10 0 25 v17)) (fun e w => Q (.inr e) w))) else (if x1 = 16 then zw E (L - 20) kt_M88 [.ref (w_adr E.2.1 10 0)] w (wk1 (fun v19 w18 => wle w w18 → zw E (L - 20) kt_M95 [.ref (w_adr E.2.1 10 0)] w18 (wk1 (fun v21 w20 => wle w18 w20 → (if ¬ v21 = 0 then zb_X11_more_p501 E L Q w20 else zb_X11_more_p501 E L Q (ws_i w20 10 0 25 v19))) (fun e w => Q (.inr e) w))) (fun e w => Q (.inr e) w)) else (if x1 = 17 then zw E (L - 20) kt_M88 [.ref (w_adr E.2.1 10 0)] w (wk1 (fun v23 w22 => wle w w22 → zw E (L - 20) kt_M88 [.ref (w_adr E.2.1 10 0)] w22 (wk1 (fun v25 w24 => wle w22 w24 → (kx_inb ((w_i w24 10 0 29) - 1) (w_n w24 10 0 30) = true ∧ (if ¬ w_a w24 10 0 30 (((w_i w24 10 0 29) - 1)).toNatClampNeg = v23 then zb_X11_more_p501 E L Q w24 else zb_X11_more_p501 E L Q (ws_i (ws_i w24 10 0 29 ((w_i w24 10 0 29) - 1)) 10 0 25 v25)))) (fun e w => Q (.inr e) w))) (fun e w => Q (.inr e) w)) else (if x1 = 18 then zb_X11_more_p501 E L Q (ws_i w 10 0 29 ((w_i w 10 0 29) - 1)) else (if x1 = 19 then zw E (L - 20) kt_M88 [.ref (w_adr E.2.1 10 0)] w (wk1 (fun v27 w26 => wle w w26 → zw E (L - 20) kt_M88 [.ref (w_adr E.2.1 10 0)] w26 (wk1 (fun v29 w28 => wle w26 w28 → zw E (L - 20) kt_M95 [.ref (w_adr E.2.1 10 0)] w28 (wk1 (fun v31 w30 => wle w28 w30 → zw E (L - 20) kt_M95 [.ref (w_adr E.2.1 10 0)] w30 (wk1 (fun v33 w32 => wle w30 w32 → (if 0 ≤ v31 then zw E (L - 23) kt_M128 [.ref (w_adr E.2.1 11 0), .int (w_i w32 10 0 26), .int v27, .int (v33 - 1)] w32 (wk0 (fun w34 => wle w32 w34 → zw E (L - 23) kt_M128 [.ref (w_adr E.2.1 11 0), .int (w_i w34 10 0 26), .int v29, .int v31] w34 (wk0 (fun w36 => wle w34 w36 → zb_X11_more_p501 E L Q w36) (fun e w => Q (.inr e) w))) (fun e w => Q (.inr e) w)) else zw E (L - 21) kt_M107 [.ref (w_adr E.2.1 10 0), .int 7] w32 (wk0 (fun w38 => wle w32 w38 → zb_X11_more_p501 E L Q w38) (fun e w => Q (.inr e) w)))) (fun e w => Q (.inr e) w))) (fun e w => Q (.inr e) w))) (fun e w => Q (.inr e) w))) (fun e w => Q (.inr e) w)) else (if x1 = 20 then zw E (L - 20) kt_M88 [.ref (w_adr E.2.1 10 0)] w (wk1 (fun v41 w40 => wle w w40 → zw E (L - 20) kt_M88 [.ref (w_adr E.2.1 10 0)] w40 (wk1 (fun v43 w42 => wle w40 w42 → zw E (L - 20) kt_M88 [.ref (w_adr E.2.1 10 0)] w42 (wk1 (fun v45 w44 => wle w42 w44 → zw E (L - 22) kt_M129 [.ref (w_adr E.2.1 11 0), .int (w_i w44 10 0 26), .int v43] w44 (wk1 (fun v47 w46 => wle w44 w46 → (if ¬ v47 = 0 then zw E (L - 23) kt_M128 [.ref (w_adr E.2.1 11 0), .int (w_i w46 10 0 26), .int v43, .int (v47 - 1)] w46 (wk0 (fun w48 => wle w46 w48 → zw E (L - 22) kt_M129 [.ref (w_adr E.2.1 11 0), .int (w_i w48 10 0 26), .int v41] w48 (wk1 (fun v51 w50 => wle w48 w50 → zw E (L - 23) kt_M128 [.ref (w_adr E.2.1 11 0), .int (w_i w48 10 0 26), .int v41, .int (v51 + 1)] w50 (wk0 (fun w52 => wle w50 w52 → zb_X11_more_p501 E L Q w52) (fun e w => Q (.inr e) w))) (fun e w => Q (.inr e) w))) (fun e w => Q (.inr e) w)) else zb_X11_more_p501 E L Q (ws_i w46 10 0 25 v45))) (fun e w => Q (.inr e) w))) (fun e w => Q (.inr e) w))) (fun e w => Q (.inr e) w))) (fun e w => Q (.inr e) w)) else zw E (L - 20) kt_M95 [.ref (w_adr E.2.1 10 0)] w (wk1 (fun v55 w54 => wle w w54 → zw E (L - 20) kt_M95 [.ref (w_adr E.2.1 10 0)] w54 (wk1 (fun v57 w56 => wle w54 w56 → zw E (L - 22) kt_M111 [.ref (w_adr E.2.1 10 0), .int v55] w56 (wk1 (fun v59 w58 => wle w56 w58 → zw E (L - 23) kt_M126 [.ref (w_adr E.2.1 11 0), .int (v59 <<< (13 &&& 31)), .int v57, .int v55] w58 (wk0 (fun w60 => wle w58 w60 → zw E (L - 22) kt_M93 [.ref (w_adr E.2.1 10 0), .int v59, .int v55] w60 (wk0 (fun w62 => wle w60 w62 → zb_X11_more_p501 E L Q w62) (fun e w => Q (.inr e) w))) (fun e w => Q (.inr e) w))) (fun e w => Q (.inr e) w))) (fun e w => Q (.inr e) w))) (fun e w => Q (.inr e) w)))))))))))
theorem zt_X11_more_p0 {E : zE} {L : Nat} {Q : kx_Rs → wS → Prop} {x1 : Int32} {w : wS} (hL : 23 ≤ L) (h : zb_X11_more_p0 E L Q x1 w) : kzE E L kt_M84 0 [(0, .ref (w_adr E.2.1 10 0)), (1, .int x1)] [] w Q := by
  unfold zb_X11_more_p0 at h
  refine kz_iload_n (M := kt_M84) kX11_more_c0.1 rfl ?_
  refine kz_tsw (M := kt_M84) [(12, 52), (13, 121), (14, 188), (15, 211), (16, 229), (17, 249), (18, 292), (19, 305), (20, 374)] [_, _, _, _, _, _, _, _, _] 463 dX11_more_p1 (by decide +kernel) h ⟨fun h => ?_, fun h => ?_, fun h => ?_, fun h => ?_, fun h => ?_, fun h => ?_, fun h => ?_, fun h => ?_, fun h => ?_, trivial⟩ (fun h => ?_)
  · skip
    refine kz_aload_n (M := kt_M84) kX11_more_c0.2.2.1 rfl ?_
    refine kz_cv1 (M := kt_M84) (c := 10) (o := 0) (As := []) (rest := []) kX11_more_c0.2.2.2.1 wl_X11_276 wMv_88 rfl (.inl rfl) rfl (Nat.le_trans (Nat.le_of_ble_eq_true rfl) hL) (Nat.le_of_ble_eq_true rfl) (Nat.le_of_ble_eq_true rfl) h (fun v2 w1 hle h => ?_) (fun _ _ _ h => kzx_no rfl h)
    have h := h hle
    refine kz_sti_n (M := kt_M84) [(0, .ref (w_adr E.2.1 10 0))] kX11_more_c0.2.2.2.2.1 (Nat.le_of_ble_eq_true rfl) ⟨⟨rfl, rfl, .inl rfl⟩, trivial⟩ rfl ?_
    refine kz_aload_n (M := kt_M84) kX11_more_c0.2.2.2.2.2.1 rfl ?_
    refine kz_cv1 (M := kt_M84) (c := 10) (o := 0) (As := []) (rest := []) kX11_more_c0.2.2.2.2.2.2.1 wl_X11_276 wMv_88 rfl (.inl rfl) rfl (Nat.le_trans (Nat.le_of_ble_eq_true rfl) hL) (Nat.le_of_ble_eq_true rfl) (Nat.le_of_ble_eq_true rfl) h (fun v4 w3 hle h => ?_) (fun _ _ _ h => kzx_no rfl h)
    have h := h hle
    refine kz_sti_n (M := kt_M84) [(0, .ref (w_adr E.2.1 10 0)), (2, .int v2)] kX11_more_c0.2.2.2.2.2.2.2.1 (Nat.le_of_ble_eq_true rfl) ⟨⟨rfl, rfl, .inl rfl⟩, ⟨⟨rfl, rfl, .inr rfl⟩, trivial⟩⟩ rfl ?_
    refine kz_aload_n (M := kt_M84) kX11_more_c1.1 rfl ?_
    refine kz_iload_n (M := kt_M84) kX11_more_c1.2.1 rfl ?_
    refine kz_cv1 (M := kt_M84) (c := 10) (o := 0) (As := [.int v4]) (rest := []) kX11_more_c1.2.2.1 wl_X11_327 wMv_111 rfl (.inl rfl) rfl (Nat.le_trans (Nat.le_of_ble_eq_true rfl) hL) (Nat.le_of_ble_eq_true rfl) (Nat.le_of_ble_eq_true rfl) h (fun v6 w5 hle h => ?_) (fun _ _ _ h => kzx_no rfl h)
    have h := h hle
    refine kz_sti (M := kt_M84) [(0, .ref (w_adr E.2.1 10 0)), (2, .int v2), (3, .int v4)] kX11_more_c1.2.2.2.1 (Nat.le_of_ble_eq_true rfl) ⟨⟨rfl, rfl, .inl rfl⟩, ⟨⟨rfl, rfl, .inl rfl⟩, ⟨⟨rfl, rfl, .inr rfl⟩, trivial⟩⟩⟩ rfl ?_
    refine kz_ic (M := kt_M84) 0 kX11_more_c1.2.2.2.2.1 rfl ?_
    refine kz_sti (M := kt_M84) [(0, .ref (w_adr E.2.1 10 0)), (2, .int v2), (3, .int v4), (4, .int v6)] kX11_more_c1.2.2.2.2.2.1 (Nat.le_of_ble_eq_true rfl) ⟨⟨rfl, rfl, .inl rfl⟩, ⟨⟨rfl, rfl, .inl rfl⟩, ⟨⟨rfl, rfl, .inl rfl⟩, ⟨⟨rfl, rfl, .inr rfl⟩, trivial⟩⟩⟩⟩ rfl ?_
    exact kz_weak [(0, .ref (w_adr E.2.1 10 0)), (2, .int v2), (3, .int v4), (4, .int v6), (5, .int 0)] ⟨rfl, ⟨rfl, ⟨rfl, ⟨rfl, ⟨rfl, trivial⟩⟩⟩⟩⟩ rfl h
  · skip
    refine kz_aload_n (M := kt_M84) kX11_more_c4.2.2.2.2.2.2.1 rfl ?_
    refine kz_cv1 (M := kt_M84) (c := 10) (o := 0) (As := []) (rest := []) kX11_more_c4.2.2.2.2.2.2.2.1 wl_X11_276 wMv_88 rfl (.inl rfl) rfl (Nat.le_trans (Nat.le_of_ble_eq_true rfl) hL) (Nat.le_of_ble_eq_true rfl) (Nat.le_of_ble_eq_true rfl) h (fun v8 w7 hle h => ?_) (fun _ _ _ h => kzx_no rfl h)
    have h := h hle
    refine kz_sti_n (M := kt_M84) [(0, .ref (w_adr E.2.1 10 0))] kX11_more_c5.1 (Nat.le_of_ble_eq_true rfl) ⟨⟨rfl, rfl, .inl rfl⟩, trivial⟩ rfl ?_
    refine kz_aload_n (M := kt_M84) kX11_more_c5.2.1 rfl ?_
    refine kz_iload_n (M := kt_M84) kX11_more_c5.2.2.1 rfl ?_
    refine kz_cv1 (M := kt_M84) (c := 10) (o := 0) (As := [.int v8]) (rest := []) kX11_more_c5.2.2.2.1 wl_X11_327 wMv_111 rfl (.inl rfl) rfl (Nat.le_trans (Nat.le_of_ble_eq_true rfl) hL) (Nat.le_of_ble_eq_true rfl) (Nat.le_of_ble_eq_true rfl) h (fun v10 w9 hle h => ?_) (fun _ _ _ h => kzx_no rfl h)
    have h := h hle
    refine kz_sti_n (M := kt_M84) [(0, .ref (w_adr E.2.1 10 0)), (2, .int v8)] kX11_more_c5.2.2.2.2.1 (Nat.le_of_ble_eq_true rfl) ⟨⟨rfl, rfl, .inl rfl⟩, ⟨⟨rfl, rfl, .inr rfl⟩, trivial⟩⟩ rfl ?_
    refine kz_aload_n (M := kt_M84) kX11_more_c5.2.2.2.2.2.1 rfl ?_
    refine kz_dup (M := kt_M84) kX11_more_c5.2.2.2.2.2.2.1 rfl ?_
    refine kz_gfi (M := kt_M84) (c := 10) (o := 0) kX11_more_c5.2.2.2.2.2.2.2.1 wf_X11_45 (.inl rfl) ?_
    refine kz_iload_n (M := kt_M84) kX11_more_c6.1 rfl ?_
    refine kz_isub (M := kt_M84) kX11_more_c6.2.1 ?_
    refine kz_pfi (M := kt_M84) (c := 10) (o := 0) kX11_more_c6.2.2.1 wq_X11_45 (.inl rfl) ?_
    refine kz_ic (M := kt_M84) 0 kX11_more_c6.2.2.2.1 rfl ?_
    refine kz_sti (M := kt_M84) [(0, .ref (w_adr E.2.1 10 0)), (2, .int v8), (3, .int v10)] kX11_more_c6.2.2.2.2.1 (Nat.le_of_ble_eq_true rfl) ⟨⟨rfl, rfl, .inl rfl⟩, ⟨⟨rfl, rfl, .inl rfl⟩, ⟨⟨rfl, rfl, .inr rfl⟩, trivial⟩⟩⟩ rfl ?_
    exact kz_weak [(0, .ref (w_adr E.2.1 10 0)), (2, .int v8), (3, .int v10), (4, .int 0)] ⟨rfl, ⟨rfl, ⟨rfl, ⟨rfl, trivial⟩⟩⟩⟩ rfl h
  · skip
    refine kz_aload_n (M := kt_M84) kX11_more_c9.2.2.2.1 rfl ?_
    refine kz_cv1 (M := kt_M84) (c := 10) (o := 0) (As := []) (rest := []) kX11_more_c9.2.2.2.2.1 wl_X11_304 wMv_95 rfl (.inl rfl) rfl (Nat.le_trans (Nat.le_of_ble_eq_true rfl) hL) (Nat.le_of_ble_eq_true rfl) (Nat.le_of_ble_eq_true rfl) h (fun v12 w11 hle h => ?_) (fun _ _ _ h => kzx_no rfl h)
    have h := h hle
    refine kz_sti_n (M := kt_M84) [(0, .ref (w_adr E.2.1 10 0))] kX11_more_c9.2.2.2.2.2.1 (Nat.le_of_ble_eq_true rfl) ⟨⟨rfl, rfl, .inl rfl⟩, trivial⟩ rfl ?_
    refine kz_aload_n (M := kt_M84) kX11_more_c9.2.2.2.2.2.2.1 rfl ?_
    refine kz_dup (M := kt_M84) kX11_more_c9.2.2.2.2.2.2.2.1 rfl ?_
    refine kz_gfi (M := kt_M84) (c := 10) (o := 0) kX11_more_c10.1 wf_X11_45 (.inl rfl) ?_
    refine kz_ic (M := kt_M84) 1 kX11_more_c10.2.1 rfl ?_
    refine kz_isub (M := kt_M84) kX11_more_c10.2.2.1 ?_
    refine kz_pfi (M := kt_M84) (c := 10) (o := 0) kX11_more_c10.2.2.2.1 wq_X11_45 (.inl rfl) ?_
    refine kz_aload_n (M := kt_M84) kX11_more_c10.2.2.2.2.1 rfl ?_
    refine kz_iload_n (M := kt_M84) kX11_more_c10.2.2.2.2.2.1 rfl ?_
    refine kz_cv0 (M := kt_M84) (c := 10) (o := 0) (As := [.int v12]) (rest := []) kX11_more_c10.2.2.2.2.2.2.1 wl_X11_301 wMv_97 rfl (.inl rfl) rfl (Nat.le_trans (Nat.le_of_ble_eq_true rfl) hL) (Nat.le_of_ble_eq_true rfl) (Nat.le_of_ble_eq_true rfl) h (fun w13 hle h => ?_) (fun _ _ _ h => kzx_no rfl h)
    have h := h hle
    refine kz_goto (M := kt_M84) kX11_more_c10.2.2.2.2.2.2.2.1 (t := 501) rfl ?_
    exact kz_weak [(0, .ref (w_adr E.2.1 10 0))] ⟨rfl, trivial⟩ rfl (zt_X11_more_p501 hL  h)
  · skip
    refine kz_aload_n (M := kt_M84) kX11_more_c11.1 rfl ?_
    refine kz_aload_n (M := kt_M84) kX11_more_c11.2.1 rfl ?_
    refine kz_gfp (M := kt_M84) (c := 10) (o := 0) kX11_more_c11.2.2.1 wf_X11_55 (.inl rfl) ?_
    refine kz_aload_n (M := kt_M84) kX11_more_c11.2.2.2.1 rfl ?_
    refine kz_gfi (M := kt_M84) (c := 10) (o := 0) kX11_more_c11.2.2.2.2.1 wf_X11_59 (.inl rfl) ?_
    obtain ⟨hf15, h⟩ := h
    refine kz_nz1 (x := w_p w 10 0 2) hf15 ?_
    refine kz_cv1 (M := kt_M84) (c := 9) (o := 0) (As := [.int (w_i w 10 0 25)]) (rest := [.ref (w_adr E.2.1 10 0)]) kX11_more_c11.2.2.2.2.2.1 wl_X11_62 wMv_221 rfl (.inl rfl) rfl (Nat.le_trans (Nat.le_of_ble_eq_true rfl) hL) (Nat.le_of_ble_eq_true rfl) (Nat.le_of_ble_eq_true rfl) h (fun v17 w16 hle h => ?_) (fun _ _ _ h => kzx_no rfl h)
    have h := h hle
    refine kz_pfi (M := kt_M84) (c := 10) (o := 0) kX11_more_c11.2.2.2.2.2.2.1 wq_X11_59 (.inl rfl) ?_
    refine kz_goto (M := kt_M84) kX11_more_c11.2.2.2.2.2.2.2.1 (t := 501) rfl ?_
    exact kz_weak [(0, .ref (w_adr E.2.1 10 0))] ⟨rfl, trivial⟩ rfl (zt_X11_more_p501 hL  h)
  · skip
    refine kz_aload_n (M := kt_M84) kX11_more_c12.1 rfl ?_
    refine kz_cv1 (M := kt_M84) (c := 10) (o := 0) (As := []) (rest := []) kX11_more_c12.2.1 wl_X11_276 wMv_88 rfl (.inl rfl) rfl (Nat.le_trans (Nat.le_of_ble_eq_true rfl) hL) (Nat.le_of_ble_eq_true rfl) (Nat.le_of_ble_eq_true rfl) h (fun v19 w18 hle h => ?_) (fun _ _ _ h => kzx_no rfl h)
    have h := h hle
    refine kz_sti_n (M := kt_M84) [(0, .ref (w_adr E.2.1 10 0))] kX11_more_c12.2.2.1 (Nat.le_of_ble_eq_true rfl) ⟨⟨rfl, rfl, .inl rfl⟩, trivial⟩ rfl ?_
    refine kz_aload_n (M := kt_M84) kX11_more_c12.2.2.2.1 rfl ?_
    refine kz_cv1 (M := kt_M84) (c := 10) (o := 0) (As := []) (rest := []) kX11_more_c12.2.2.2.2.1 wl_X11_304 wMv_95 rfl (.inl rfl) rfl (Nat.le_trans (Nat.le_of_ble_eq_true rfl) hL) (Nat.le_of_ble_eq_true rfl) (Nat.le_of_ble_eq_true rfl) h (fun v21 w20 hle h => ?_) (fun _ _ _ h => kzx_no rfl h)
    have h := h hle
    refine kz_if_ne (M := kt_M84) kX11_more_c12.2.2.2.2.2.1 (t := 501) rfl h (fun h => ?_) (fun h => ?_)
    · skip
      exact kz_weak [(0, .ref (w_adr E.2.1 10 0))] ⟨rfl, trivial⟩ rfl (zt_X11_more_p501 hL  h)
    · skip
      refine kz_aload_n (M := kt_M84) kX11_more_c12.2.2.2.2.2.2.1 rfl ?_
      refine kz_iload_n (M := kt_M84) kX11_more_c12.2.2.2.2.2.2.2.1 rfl ?_
      refine kz_pfi (M := kt_M84) (c := 10) (o := 0) kX11_more_c13.1 wq_X11_59 (.inl rfl) ?_
      refine kz_goto (M := kt_M84) kX11_more_c13.2.1 (t := 501) rfl ?_
      exact kz_weak [(0, .ref (w_adr E.2.1 10 0))] ⟨rfl, trivial⟩ rfl (zt_X11_more_p501 hL  h)
  · skip
    refine kz_aload_n (M := kt_M84) kX11_more_c13.2.2.1 rfl ?_
    refine kz_cv1 (M := kt_M84) (c := 10) (o := 0) (As := []) (rest := []) kX11_more_c13.2.2.2.1 wl_X11_276 wMv_88 rfl (.inl rfl) rfl (Nat.le_trans (Nat.le_of_ble_eq_true rfl) hL) (Nat.le_of_ble_eq_true rfl) (Nat.le_of_ble_eq_true rfl) h (fun v23 w22 hle h => ?_) (fun _ _ _ h => kzx_no rfl h)
    have h := h hle
    refine kz_sti_n (M := kt_M84) [(0, .ref (w_adr E.2.1 10 0))] kX11_more_c13.2.2.2.2.1 (Nat.le_of_ble_eq_true rfl) ⟨⟨rfl, rfl, .inl rfl⟩, trivial⟩ rfl ?_
    refine kz_aload_n (M := kt_M84) kX11_more_c13.2.2.2.2.2.1 rfl ?_
    refine kz_cv1 (M := kt_M84) (c := 10) (o := 0) (As := []) (rest := []) kX11_more_c13.2.2.2.2.2.2.1 wl_X11_276 wMv_88 rfl (.inl rfl) rfl (Nat.le_trans (Nat.le_of_ble_eq_true rfl) hL) (Nat.le_of_ble_eq_true rfl) (Nat.le_of_ble_eq_true rfl) h (fun v25 w24 hle h => ?_) (fun _ _ _ h => kzx_no rfl h)
    have h := h hle
    refine kz_sti_n (M := kt_M84) [(0, .ref (w_adr E.2.1 10 0)), (2, .int v23)] kX11_more_c13.2.2.2.2.2.2.2.1 (Nat.le_of_ble_eq_true rfl) ⟨⟨rfl, rfl, .inl rfl⟩, ⟨⟨rfl, rfl, .inr rfl⟩, trivial⟩⟩ rfl ?_
    refine kz_aload_n (M := kt_M84) kX11_more_c14.1 rfl ?_
    refine kz_gfa (M := kt_M84) (c := 10) (o := 0) kX11_more_c14.2.1 wf_X11_38 (.inl rfl) ?_
    refine kz_aload_n (M := kt_M84) kX11_more_c14.2.2.1 rfl ?_
    refine kz_gfi (M := kt_M84) (c := 10) (o := 0) kX11_more_c14.2.2.2.1 wf_X11_45 (.inl rfl) ?_
    refine kz_ic (M := kt_M84) 1 kX11_more_c14.2.2.2.2.1 rfl ?_
    refine kz_isub (M := kt_M84) kX11_more_c14.2.2.2.2.2.1 ?_
    refine kz_iald (M := kt_M84) (c := 10) (o := 0) (k := 30) (a := (w_d w24 10 0 30)) kX11_more_c14.2.2.2.2.2.2.1 ow_10_0_30 oa_10_0_30 ot_0 h (fun h => ?_)
    refine kz_iload_n (M := kt_M84) kX11_more_c14.2.2.2.2.2.2.2.1 rfl ?_
    refine kz_icmp_ne (M := kt_M84) kX11_more_c15.1 (t := 501) rfl h (fun h => ?_) (fun h => ?_)
    · skip
      exact kz_weak [(0, .ref (w_adr E.2.1 10 0))] ⟨rfl, trivial⟩ rfl (zt_X11_more_p501 hL  h)
    · skip
      refine kz_aload_n (M := kt_M84) kX11_more_c15.2.1 rfl ?_
      refine kz_dup (M := kt_M84) kX11_more_c15.2.2.1 rfl ?_
      refine kz_gfi (M := kt_M84) (c := 10) (o := 0) kX11_more_c15.2.2.2.1 wf_X11_45 (.inl rfl) ?_
      refine kz_ic (M := kt_M84) 1 kX11_more_c15.2.2.2.2.1 rfl ?_
      refine kz_isub (M := kt_M84) kX11_more_c15.2.2.2.2.2.1 ?_
      refine kz_pfi (M := kt_M84) (c := 10) (o := 0) kX11_more_c15.2.2.2.2.2.2.1 wq_X11_45 (.inl rfl) ?_
      refine kz_aload_n (M := kt_M84) kX11_more_c15.2.2.2.2.2.2.2.1 rfl ?_
      refine kz_iload_n (M := kt_M84) kX11_more_c16.1 rfl ?_
      refine kz_pfi (M := kt_M84) (c := 10) (o := 0) kX11_more_c16.2.1 wq_X11_59 (.inl rfl) ?_
      refine kz_goto (M := kt_M84) kX11_more_c16.2.2.1 (t := 501) rfl ?_
      exact kz_weak [(0, .ref (w_adr E.2.1 10 0))] ⟨rfl, trivial⟩ rfl (zt_X11_more_p501 hL  h)
  · skip
    refine kz_aload_n (M := kt_M84) kX11_more_c16.2.2.2.1 rfl ?_
    refine kz_dup (M := kt_M84) kX11_more_c16.2.2.2.2.1 rfl ?_
    refine kz_gfi (M := kt_M84) (c := 10) (o := 0) kX11_more_c16.2.2.2.2.2.1 wf_X11_45 (.inl rfl) ?_
    refine kz_ic (M := kt_M84) 1 kX11_more_c16.2.2.2.2.2.2.1 rfl ?_
    refine kz_isub (M := kt_M84) kX11_more_c16.2.2.2.2.2.2.2.1 ?_
    refine kz_pfi (M := kt_M84) (c := 10) (o := 0) kX11_more_c17.1 wq_X11_45 (.inl rfl) ?_
    refine kz_goto (M := kt_M84) kX11_more_c17.2.1 (t := 501) rfl ?_
    exact kz_weak [(0, .ref (w_adr E.2.1 10 0))] ⟨rfl, trivial⟩ rfl (zt_X11_more_p501 hL  h)
  · skip
    refine kz_aload_n (M := kt_M84) kX11_more_c17.2.2.1 rfl ?_
    refine kz_cv1 (M := kt_M84) (c := 10) (o := 0) (As := []) (rest := []) kX11_more_c17.2.2.2.1 wl_X11_276 wMv_88 rfl (.inl rfl) rfl (Nat.le_trans (Nat.le_of_ble_eq_true rfl) hL) (Nat.le_of_ble_eq_true rfl) (Nat.le_of_ble_eq_true rfl) h (fun v27 w26 hle h => ?_) (fun _ _ _ h => kzx_no rfl h)
    have h := h hle
    refine kz_sti_n (M := kt_M84) [(0, .ref (w_adr E.2.1 10 0))] kX11_more_c17.2.2.2.2.1 (Nat.le_of_ble_eq_true rfl) ⟨⟨rfl, rfl, .inl rfl⟩, trivial⟩ rfl ?_
    refine kz_aload_n (M := kt_M84) kX11_more_c17.2.2.2.2.2.1 rfl ?_
    refine kz_cv1 (M := kt_M84) (c := 10) (o := 0) (As := []) (rest := []) kX11_more_c17.2.2.2.2.2.2.1 wl_X11_276 wMv_88 rfl (.inl rfl) rfl (Nat.le_trans (Nat.le_of_ble_eq_true rfl) hL) (Nat.le_of_ble_eq_true rfl) (Nat.le_of_ble_eq_true rfl) h (fun v29 w28 hle h => ?_) (fun _ _ _ h => kzx_no rfl h)
    have h := h hle
    refine kz_sti_n (M := kt_M84) [(0, .ref (w_adr E.2.1 10 0)), (2, .int v27)] kX11_more_c17.2.2.2.2.2.2.2.1 (Nat.le_of_ble_eq_true rfl) ⟨⟨rfl, rfl, .inl rfl⟩, ⟨⟨rfl, rfl, .inr rfl⟩, trivial⟩⟩ rfl ?_
    refine kz_aload_n (M := kt_M84) kX11_more_c18.1 rfl ?_
    refine kz_cv1 (M := kt_M84) (c := 10) (o := 0) (As := []) (rest := []) kX11_more_c18.2.1 wl_X11_304 wMv_95 rfl (.inl rfl) rfl (Nat.le_trans (Nat.le_of_ble_eq_true rfl) hL) (Nat.le_of_ble_eq_true rfl) (Nat.le_of_ble_eq_true rfl) h (fun v31 w30 hle h => ?_) (fun _ _ _ h => kzx_no rfl h)
    have h := h hle
    refine kz_sti (M := kt_M84) [(0, .ref (w_adr E.2.1 10 0)), (2, .int v27), (3, .int v29)] kX11_more_c18.2.2.1 (Nat.le_of_ble_eq_true rfl) ⟨⟨rfl, rfl, .inl rfl⟩, ⟨⟨rfl, rfl, .inl rfl⟩, ⟨⟨rfl, rfl, .inr rfl⟩, trivial⟩⟩⟩ rfl ?_
    refine kz_aload_n (M := kt_M84) kX11_more_c18.2.2.2.1 rfl ?_
    refine kz_cv1 (M := kt_M84) (c := 10) (o := 0) (As := []) (rest := []) kX11_more_c18.2.2.2.2.1 wl_X11_304 wMv_95 rfl (.inl rfl) rfl (Nat.le_trans (Nat.le_of_ble_eq_true rfl) hL) (Nat.le_of_ble_eq_true rfl) (Nat.le_of_ble_eq_true rfl) h (fun v33 w32 hle h => ?_) (fun _ _ _ h => kzx_no rfl h)
    have h := h hle
    refine kz_sti (M := kt_M84) [(0, .ref (w_adr E.2.1 10 0)), (2, .int v27), (3, .int v29), (4, .int v31)] kX11_more_c18.2.2.2.2.2.1 (Nat.le_of_ble_eq_true rfl) ⟨⟨rfl, rfl, .inl rfl⟩, ⟨⟨rfl, rfl, .inl rfl⟩, ⟨⟨rfl, rfl, .inl rfl⟩, ⟨⟨rfl, rfl, .inr rfl⟩, trivial⟩⟩⟩⟩ rfl ?_
    refine kz_iload (M := kt_M84) kX11_more_c18.2.2.2.2.2.2.1 rfl ?_
    refine kz_if_ge (M := kt_M84) kX11_more_c18.2.2.2.2.2.2.2.1 (t := 341) rfl h (fun h => ?_) (fun h => ?_)
    · skip
      refine kz_aload_n (M := kt_M84) kX11_more_c19.2.2.2.2.1 rfl ?_
      refine kz_gfc (M := kt_M84) (x := 44) (c := 10) (o := 0) kX11_more_c19.2.2.2.2.2.1 wf_X11_12 (.inl rfl) ?_
      refine kz_aload_n (M := kt_M84) kX11_more_c19.2.2.2.2.2.2.1 rfl ?_
      refine kz_gfi (M := kt_M84) (c := 10) (o := 0) kX11_more_c19.2.2.2.2.2.2.2.1 wf_X11_114 (.inl rfl) ?_
      refine kz_iload_n (M := kt_M84) kX11_more_c20.1 rfl ?_
      refine kz_iload (M := kt_M84) kX11_more_c20.2.1 rfl ?_
      refine kz_ic (M := kt_M84) 1 kX11_more_c20.2.2.1 rfl ?_
      refine kz_isub (M := kt_M84) kX11_more_c20.2.2.2.1 ?_
      refine kz_cv0 (M := kt_M84) (c := 11) (o := 0) (As := [.int (w_i w32 10 0 26), .int v27, .int (v33 - 1)]) (rest := []) kX11_more_c20.2.2.2.2.1 wl_X11_94 wMv_128 rfl (.inl rfl) rfl (Nat.le_trans (Nat.le_of_ble_eq_true rfl) hL) (Nat.le_of_ble_eq_true rfl) (Nat.le_of_ble_eq_true rfl) h (fun w34 hle h => ?_) (fun _ _ _ h => kzx_no rfl h)
      have h := h hle
      refine kz_aload_n (M := kt_M84) kX11_more_c20.2.2.2.2.2.1 rfl ?_
      refine kz_gfc (M := kt_M84) (x := 44) (c := 10) (o := 0) kX11_more_c20.2.2.2.2.2.2.1 wf_X11_12 (.inl rfl) ?_
      refine kz_aload_n (M := kt_M84) kX11_more_c20.2.2.2.2.2.2.2.1 rfl ?_
      refine kz_gfi (M := kt_M84) (c := 10) (o := 0) kX11_more_c21.1 wf_X11_114 (.inl rfl) ?_
      refine kz_iload_n (M := kt_M84) kX11_more_c21.2.1 rfl ?_
      refine kz_iload (M := kt_M84) kX11_more_c21.2.2.1 rfl ?_
      refine kz_cv0 (M := kt_M84) (c := 11) (o := 0) (As := [.int (w_i w34 10 0 26), .int v29, .int v31]) (rest := []) kX11_more_c21.2.2.2.1 wl_X11_94 wMv_128 rfl (.inl rfl) rfl (Nat.le_trans (Nat.le_of_ble_eq_true rfl) hL) (Nat.le_of_ble_eq_true rfl) (Nat.le_of_ble_eq_true rfl) h (fun w36 hle h => ?_) (fun _ _ _ h => kzx_no rfl h)
      have h := h hle
      refine kz_goto (M := kt_M84) kX11_more_c21.2.2.2.2.1 (t := 501) rfl ?_
      exact kz_weak [(0, .ref (w_adr E.2.1 10 0))] ⟨rfl, trivial⟩ rfl (zt_X11_more_p501 hL  h)
    · skip
      refine kz_aload_n (M := kt_M84) kX11_more_c19.1 rfl ?_
      refine kz_bi (M := kt_M84) 7 kX11_more_c19.2.1 rfl ?_
      refine kz_cv0 (M := kt_M84) (c := 10) (o := 0) (As := [.int 7]) (rest := []) kX11_more_c19.2.2.1 wl_X11_295 wMv_107 rfl (.inl rfl) rfl (Nat.le_trans (Nat.le_of_ble_eq_true rfl) hL) (Nat.le_of_ble_eq_true rfl) (Nat.le_of_ble_eq_true rfl) h (fun w38 hle h => ?_) (fun _ _ _ h => kzx_no rfl h)
      have h := h hle
      refine kz_goto (M := kt_M84) kX11_more_c19.2.2.2.1 (t := 501) rfl ?_
      exact kz_weak [(0, .ref (w_adr E.2.1 10 0))] ⟨rfl, trivial⟩ rfl (zt_X11_more_p501 hL  h)
  · skip
    refine kz_aload_n (M := kt_M84) kX11_more_c21.2.2.2.2.2.1 rfl ?_
    refine kz_cv1 (M := kt_M84) (c := 10) (o := 0) (As := []) (rest := []) kX11_more_c21.2.2.2.2.2.2.1 wl_X11_276 wMv_88 rfl (.inl rfl) rfl (Nat.le_trans (Nat.le_of_ble_eq_true rfl) hL) (Nat.le_of_ble_eq_true rfl) (Nat.le_of_ble_eq_true rfl) h (fun v41 w40 hle h => ?_) (fun _ _ _ h => kzx_no rfl h)
    have h := h hle
    refine kz_sti_n (M := kt_M84) [(0, .ref (w_adr E.2.1 10 0))] kX11_more_c21.2.2.2.2.2.2.2.1 (Nat.le_of_ble_eq_true rfl) ⟨⟨rfl, rfl, .inl rfl⟩, trivial⟩ rfl ?_
    refine kz_aload_n (M := kt_M84) kX11_more_c22.1 rfl ?_
    refine kz_cv1 (M := kt_M84) (c := 10) (o := 0) (As := []) (rest := []) kX11_more_c22.2.1 wl_X11_276 wMv_88 rfl (.inl rfl) rfl (Nat.le_trans (Nat.le_of_ble_eq_true rfl) hL) (Nat.le_of_ble_eq_true rfl) (Nat.le_of_ble_eq_true rfl) h (fun v43 w42 hle h => ?_) (fun _ _ _ h => kzx_no rfl h)
    have h := h hle
    refine kz_sti_n (M := kt_M84) [(0, .ref (w_adr E.2.1 10 0)), (2, .int v41)] kX11_more_c22.2.2.1 (Nat.le_of_ble_eq_true rfl) ⟨⟨rfl, rfl, .inl rfl⟩, ⟨⟨rfl, rfl, .inr rfl⟩, trivial⟩⟩ rfl ?_
    refine kz_aload_n (M := kt_M84) kX11_more_c22.2.2.2.1 rfl ?_
    refine kz_cv1 (M := kt_M84) (c := 10) (o := 0) (As := []) (rest := []) kX11_more_c22.2.2.2.2.1 wl_X11_276 wMv_88 rfl (.inl rfl) rfl (Nat.le_trans (Nat.le_of_ble_eq_true rfl) hL) (Nat.le_of_ble_eq_true rfl) (Nat.le_of_ble_eq_true rfl) h (fun v45 w44 hle h => ?_) (fun _ _ _ h => kzx_no rfl h)
    have h := h hle
    refine kz_sti (M := kt_M84) [(0, .ref (w_adr E.2.1 10 0)), (2, .int v41), (3, .int v43)] kX11_more_c22.2.2.2.2.2.1 (Nat.le_of_ble_eq_true rfl) ⟨⟨rfl, rfl, .inl rfl⟩, ⟨⟨rfl, rfl, .inl rfl⟩, ⟨⟨rfl, rfl, .inr rfl⟩, trivial⟩⟩⟩ rfl ?_
    refine kz_aload_n (M := kt_M84) kX11_more_c22.2.2.2.2.2.2.1 rfl ?_
    refine kz_gfc (M := kt_M84) (x := 44) (c := 10) (o := 0) kX11_more_c22.2.2.2.2.2.2.2.1 wf_X11_12 (.inl rfl) ?_
    refine kz_aload_n (M := kt_M84) kX11_more_c23.1 rfl ?_
    refine kz_gfi (M := kt_M84) (c := 10) (o := 0) kX11_more_c23.2.1 wf_X11_114 (.inl rfl) ?_
    refine kz_iload_n (M := kt_M84) kX11_more_c23.2.2.1 rfl ?_
    refine kz_cv1 (M := kt_M84) (c := 11) (o := 0) (As := [.int (w_i w44 10 0 26), .int v43]) (rest := []) kX11_more_c23.2.2.2.1 wl_X11_289 wMv_129 rfl (.inl rfl) rfl (Nat.le_trans (Nat.le_of_ble_eq_true rfl) hL) (Nat.le_of_ble_eq_true rfl) (Nat.le_of_ble_eq_true rfl) h (fun v47 w46 hle h => ?_) (fun _ _ _ h => kzx_no rfl h)
    have h := h hle
    refine kz_sti (M := kt_M84) [(0, .ref (w_adr E.2.1 10 0)), (2, .int v41), (3, .int v43), (4, .int v45)] kX11_more_c23.2.2.2.2.1 (Nat.le_of_ble_eq_true rfl) ⟨⟨rfl, rfl, .inl rfl⟩, ⟨⟨rfl, rfl, .inl rfl⟩, ⟨⟨rfl, rfl, .inl rfl⟩, ⟨⟨rfl, rfl, .inr rfl⟩, trivial⟩⟩⟩⟩ rfl ?_
    refine kz_iload (M := kt_M84) kX11_more_c23.2.2.2.2.2.1 rfl ?_
    refine kz_if_ne (M := kt_M84) kX11_more_c23.2.2.2.2.2.2.1 (t := 418) rfl h (fun h => ?_) (fun h => ?_)
    · skip
      refine kz_aload_n (M := kt_M84) kX11_more_c24.2.2.2.1 rfl ?_
      refine kz_gfc (M := kt_M84) (x := 44) (c := 10) (o := 0) kX11_more_c24.2.2.2.2.1 wf_X11_12 (.inl rfl) ?_
      refine kz_aload_n (M := kt_M84) kX11_more_c24.2.2.2.2.2.1 rfl ?_
      refine kz_gfi (M := kt_M84) (c := 10) (o := 0) kX11_more_c24.2.2.2.2.2.2.1 wf_X11_114 (.inl rfl) ?_
      refine kz_iload_n (M := kt_M84) kX11_more_c24.2.2.2.2.2.2.2.1 rfl ?_
      refine kz_iload (M := kt_M84) kX11_more_c25.1 rfl ?_
      refine kz_ic (M := kt_M84) 1 kX11_more_c25.2.1 rfl ?_
      refine kz_isub (M := kt_M84) kX11_more_c25.2.2.1 ?_
      refine kz_cv0 (M := kt_M84) (c := 11) (o := 0) (As := [.int (w_i w46 10 0 26), .int v43, .int (v47 - 1)]) (rest := []) kX11_more_c25.2.2.2.1 wl_X11_94 wMv_128 rfl (.inl rfl) rfl (Nat.le_trans (Nat.le_of_ble_eq_true rfl) hL) (Nat.le_of_ble_eq_true rfl) (Nat.le_of_ble_eq_true rfl) h (fun w48 hle h => ?_) (fun _ _ _ h => kzx_no rfl h)
      have h := h hle
      refine kz_aload_n (M := kt_M84) kX11_more_c25.2.2.2.2.1 rfl ?_
      refine kz_gfc (M := kt_M84) (x := 44) (c := 10) (o := 0) kX11_more_c25.2.2.2.2.2.1 wf_X11_12 (.inl rfl) ?_
      refine kz_aload_n (M := kt_M84) kX11_more_c25.2.2.2.2.2.2.1 rfl ?_
      refine kz_gfi (M := kt_M84) (c := 10) (o := 0) kX11_more_c25.2.2.2.2.2.2.2.1 wf_X11_114 (.inl rfl) ?_
      refine kz_iload_n (M := kt_M84) kX11_more_c26.1 rfl ?_
      refine kz_aload_n (M := kt_M84) kX11_more_c26.2.1 rfl ?_
      refine kz_gfc (M := kt_M84) (x := 44) (c := 10) (o := 0) kX11_more_c26.2.2.1 wf_X11_12 (.inl rfl) ?_
      refine kz_aload_n (M := kt_M84) kX11_more_c26.2.2.2.1 rfl ?_
      refine kz_gfi (M := kt_M84) (c := 10) (o := 0) kX11_more_c26.2.2.2.2.1 wf_X11_114 (.inl rfl) ?_
      refine kz_iload_n (M := kt_M84) kX11_more_c26.2.2.2.2.2.1 rfl ?_
      refine kz_cv1 (M := kt_M84) (c := 11) (o := 0) (As := [.int (w_i w48 10 0 26), .int v41]) (rest := [.int v41, .int (w_i w48 10 0 26), .ref (w_adr E.2.1 11 0)]) kX11_more_c26.2.2.2.2.2.2.1 wl_X11_289 wMv_129 rfl (.inl rfl) rfl (Nat.le_trans (Nat.le_of_ble_eq_true rfl) hL) (Nat.le_of_ble_eq_true rfl) (Nat.le_of_ble_eq_true rfl) h (fun v51 w50 hle h => ?_) (fun _ _ _ h => kzx_no rfl h)
      have h := h hle
      refine kz_ic (M := kt_M84) 1 kX11_more_c26.2.2.2.2.2.2.2.1 rfl ?_
      refine kz_iadd (M := kt_M84) kX11_more_c27.1 ?_
      refine kz_cv0 (M := kt_M84) (c := 11) (o := 0) (As := [.int (w_i w48 10 0 26), .int v41, .int (v51 + 1)]) (rest := []) kX11_more_c27.2.1 wl_X11_94 wMv_128 rfl (.inl rfl) rfl (Nat.le_trans (Nat.le_of_ble_eq_true rfl) hL) (Nat.le_of_ble_eq_true rfl) (Nat.le_of_ble_eq_true rfl) h (fun w52 hle h => ?_) (fun _ _ _ h => kzx_no rfl h)
      have h := h hle
      refine kz_goto (M := kt_M84) kX11_more_c27.2.2.1 (t := 501) rfl ?_
      exact kz_weak [(0, .ref (w_adr E.2.1 10 0))] ⟨rfl, trivial⟩ rfl (zt_X11_more_p501 hL  h)
    · skip
      refine kz_aload_n (M := kt_M84) kX11_more_c23.2.2.2.2.2.2.2.1 rfl ?_
      refine kz_iload (M := kt_M84) kX11_more_c24.1 rfl ?_
      refine kz_pfi (M := kt_M84) (c := 10) (o := 0) kX11_more_c24.2.1 wq_X11_59 (.inl rfl) ?_
      refine kz_goto (M := kt_M84) kX11_more_c24.2.2.1 (t := 501) rfl ?_
      exact kz_weak [(0, .ref (w_adr E.2.1 10 0))] ⟨rfl, trivial⟩ rfl (zt_X11_more_p501 hL  h)
  · skip
    refine kz_aload_n (M := kt_M84) kX11_more_c27.2.2.2.1 rfl ?_
    refine kz_cv1 (M := kt_M84) (c := 10) (o := 0) (As := []) (rest := []) kX11_more_c27.2.2.2.2.1 wl_X11_304 wMv_95 rfl (.inl rfl) rfl (Nat.le_trans (Nat.le_of_ble_eq_true rfl) hL) (Nat.le_of_ble_eq_true rfl) (Nat.le_of_ble_eq_true rfl) h (fun v55 w54 hle h => ?_) (fun _ _ _ h => kzx_no rfl h)
    have h := h hle
    refine kz_sti_n (M := kt_M84) [(0, .ref (w_adr E.2.1 10 0))] kX11_more_c27.2.2.2.2.2.1 (Nat.le_of_ble_eq_true rfl) ⟨⟨rfl, rfl, .inl rfl⟩, trivial⟩ rfl ?_
    refine kz_aload_n (M := kt_M84) kX11_more_c27.2.2.2.2.2.2.1 rfl ?_
    refine kz_cv1 (M := kt_M84) (c := 10) (o := 0) (As := []) (rest := []) kX11_more_c27.2.2.2.2.2.2.2.1 wl_X11_304 wMv_95 rfl (.inl rfl) rfl (Nat.le_trans (Nat.le_of_ble_eq_true rfl) hL) (Nat.le_of_ble_eq_true rfl) (Nat.le_of_ble_eq_true rfl) h (fun v57 w56 hle h => ?_) (fun _ _ _ h => kzx_no rfl h)
    have h := h hle
    refine kz_sti_n (M := kt_M84) [(0, .ref (w_adr E.2.1 10 0)), (2, .int v55)] kX11_more_c28.1 (Nat.le_of_ble_eq_true rfl) ⟨⟨rfl, rfl, .inl rfl⟩, ⟨⟨rfl, rfl, .inr rfl⟩, trivial⟩⟩ rfl ?_
    refine kz_aload_n (M := kt_M84) kX11_more_c28.2.1 rfl ?_
    refine kz_iload_n (M := kt_M84) kX11_more_c28.2.2.1 rfl ?_
    refine kz_cv1 (M := kt_M84) (c := 10) (o := 0) (As := [.int v55]) (rest := []) kX11_more_c28.2.2.2.1 wl_X11_327 wMv_111 rfl (.inl rfl) rfl (Nat.le_trans (Nat.le_of_ble_eq_true rfl) hL) (Nat.le_of_ble_eq_true rfl) (Nat.le_of_ble_eq_true rfl) h (fun v59 w58 hle h => ?_) (fun _ _ _ h => kzx_no rfl h)
    have h := h hle
    refine kz_sti (M := kt_M84) [(0, .ref (w_adr E.2.1 10 0)), (2, .int v55), (3, .int v57)] kX11_more_c28.2.2.2.2.1 (Nat.le_of_ble_eq_true rfl) ⟨⟨rfl, rfl, .inl rfl⟩, ⟨⟨rfl, rfl, .inl rfl⟩, ⟨⟨rfl, rfl, .inr rfl⟩, trivial⟩⟩⟩ rfl ?_
    refine kz_aload_n (M := kt_M84) kX11_more_c28.2.2.2.2.2.1 rfl ?_
    refine kz_gfc (M := kt_M84) (x := 44) (c := 10) (o := 0) kX11_more_c28.2.2.2.2.2.2.1 wf_X11_12 (.inl rfl) ?_
    refine kz_iload (M := kt_M84) kX11_more_c28.2.2.2.2.2.2.2.1 rfl ?_
    refine kz_bi (M := kt_M84) 13 kX11_more_c29.1 rfl ?_
    refine kz_ishl (M := kt_M84) kX11_more_c29.2.1 ?_
    refine kz_iload_n (M := kt_M84) kX11_more_c29.2.2.1 rfl ?_
    refine kz_iload_n (M := kt_M84) kX11_more_c29.2.2.2.1 rfl ?_
    refine kz_cv0 (M := kt_M84) (c := 11) (o := 0) (As := [.int (v59 <<< (13 &&& 31)), .int v57, .int v55]) (rest := []) kX11_more_c29.2.2.2.2.1 wl_X11_336 wMv_126 rfl (.inl rfl) rfl (Nat.le_trans (Nat.le_of_ble_eq_true rfl) hL) (Nat.le_of_ble_eq_true rfl) (Nat.le_of_ble_eq_true rfl) h (fun w60 hle h => ?_) (fun _ _ _ h => kzx_no rfl h)
    have h := h hle
    refine kz_aload_n (M := kt_M84) kX11_more_c29.2.2.2.2.2.1 rfl ?_
    refine kz_iload (M := kt_M84) kX11_more_c29.2.2.2.2.2.2.1 rfl ?_
    refine kz_iload_n (M := kt_M84) kX11_more_c29.2.2.2.2.2.2.2.1 rfl ?_
    refine kz_cv0 (M := kt_M84) (c := 10) (o := 0) (As := [.int v59, .int v55]) (rest := []) kX11_more_c30.1 wl_X11_332 wMv_93 rfl (.inl rfl) rfl (Nat.le_trans (Nat.le_of_ble_eq_true rfl) hL) (Nat.le_of_ble_eq_true rfl) (Nat.le_of_ble_eq_true rfl) h (fun w62 hle h => ?_) (fun _ _ _ h => kzx_no rfl h)
    have h := h hle
    exact kz_weak [(0, .ref (w_adr E.2.1 10 0))] ⟨rfl, trivial⟩ rfl (zt_X11_more_p501 hL  h)
def zb_X11_temporary_p0 (E : zE) (L : Nat) (Q : kx_Rs → wS → Prop) (x1 : Int32) (w : wS) : Prop := zw E (L - 24) kt_M125 [.ref (w_adr E.2.1 11 0), .int x1, .int 0] w (wk1 (fun v2 w1 => wle w w1 → (∃ p3, w_p w1 10 0 21 = some p3 ∧ w_l w1 E.2.1 17 p3 ∧ zw E (L - 21) kt_M234 [.ref p3, .int v2] w1 (wk0 (fun w4 => wle w1 w4 → Q (.inl (some (.int v2))) w4) (fun e w => Q (.inr e) w)))) (fun e w => Q (.inr e) w))
theorem zt_X11_temporary_p0 {E : zE} {L : Nat} {Q : kx_Rs → wS → Prop} {x1 : Int32} {w : wS} (hL : 24 ≤ L) (h : zb_X11_temporary_p0 E L Q x1 w) : kzE E L kt_M111 0 [(0, .ref (w_adr E.2.1 10 0)), (1, .int x1)] [] w Q := by
  unfold zb_X11_temporary_p0 at h
  refine kz_aload_n (M := kt_M111) kX11_temporary_c0.1 rfl ?_
  refine kz_gfc (M := kt_M111) (x := 44) (c := 10) (o := 0) kX11_temporary_c0.2.1 wf_X11_12 (.inl rfl) ?_
  refine kz_iload_n (M := kt_M111) kX11_temporary_c0.2.2.1 rfl ?_
  refine kz_ic (M := kt_M111) 0 kX11_temporary_c0.2.2.2.1 rfl ?_
  refine kz_cv1 (M := kt_M111) (c := 11) (o := 0) (As := [.int x1, .int 0]) (rest := []) kX11_temporary_c0.2.2.2.2.1 wl_X11_87 wMv_125 rfl (.inl rfl) rfl (Nat.le_trans (Nat.le_of_ble_eq_true rfl) hL) (Nat.le_of_ble_eq_true rfl) (Nat.le_of_ble_eq_true rfl) h (fun v2 w1 hle h => ?_) (fun _ _ _ h => kzx_no rfl h)
  have h := h hle
  refine kz_sti_n (M := kt_M111) [(0, .ref (w_adr E.2.1 10 0))] kX11_temporary_c0.2.2.2.2.2.1 (Nat.le_of_ble_eq_true rfl) ⟨⟨rfl, rfl, .inl rfl⟩, trivial⟩ rfl ?_
  refine kz_aload_n (M := kt_M111) kX11_temporary_c0.2.2.2.2.2.2.1 rfl ?_
  refine kz_gfp (M := kt_M111) (c := 10) (o := 0) kX11_temporary_c0.2.2.2.2.2.2.2.1 wf_X11_110 (.inl rfl) ?_
  refine kz_iload_n (M := kt_M111) kX11_temporary_c1.1 rfl ?_
  obtain ⟨p3, hxp3, hlp3, h⟩ := h
  refine kz_nz1 (x := w_p w1 10 0 21) hxp3 ?_
  refine kz_cv0 (M := kt_M111) (c := 17) (o := p3) (As := [.int v2]) (rest := []) kX11_temporary_c1.2.1 wl_X11_339 wMv_234 rfl (.inr (by exact hlp3)) rfl (Nat.le_trans (Nat.le_of_ble_eq_true rfl) hL) (Nat.le_of_ble_eq_true rfl) (Nat.le_of_ble_eq_true rfl) h (fun w4 hle h => ?_) (fun _ _ _ h => kzx_no rfl h)
  have h := h hle
  have hlp3 := w_l_le hlp3 hle
  refine kz_iload_n (M := kt_M111) kX11_temporary_c1.2.2.1 rfl ?_
  exact kz_iret (M := kt_M111) kX11_temporary_c1.2.2.2.1 rfl rfl h
def zb_X11_pair_p0 (E : zE) (L : Nat) (Q : kx_Rs → wS → Prop) (x1 : Int32) (x2 : Int32) (w : wS) : Prop := zw E (L - 22) kt_M97 [.ref (w_adr E.2.1 10 0), .int (x1 <<< (13 &&& 31))] w (wk0 (fun w1 => wle w w1 → zw E (L - 22) kt_M97 [.ref (w_adr E.2.1 10 0), .int x2] w1 (wk0 (fun w3 => wle w1 w3 → Q (.inl none) w3) (fun e w => Q (.inr e) w))) (fun e w => Q (.inr e) w))
theorem zt_X11_pair_p0 {E : zE} {L : Nat} {Q : kx_Rs → wS → Prop} {x1 : Int32} {x2 : Int32} {w : wS} (hL : 22 ≤ L) (h : zb_X11_pair_p0 E L Q x1 x2 w) : kzE E L kt_M93 0 [(0, .ref (w_adr E.2.1 10 0)), (1, .int x1), (2, .int x2)] [] w Q := by
  unfold zb_X11_pair_p0 at h
  refine kz_aload_n (M := kt_M93) kX11_pair_c0.1 rfl ?_
  refine kz_iload_n (M := kt_M93) kX11_pair_c0.2.1 rfl ?_
  refine kz_bi (M := kt_M93) 13 kX11_pair_c0.2.2.1 rfl ?_
  refine kz_ishl (M := kt_M93) kX11_pair_c0.2.2.2.1 ?_
  refine kz_cv0 (M := kt_M93) (c := 10) (o := 0) (As := [.int (x1 <<< (13 &&& 31))]) (rest := []) kX11_pair_c0.2.2.2.2.1 wl_X11_301 wMv_97 rfl (.inl rfl) rfl (Nat.le_trans (Nat.le_of_ble_eq_true rfl) hL) (Nat.le_of_ble_eq_true rfl) (Nat.le_of_ble_eq_true rfl) h (fun w1 hle h => ?_) (fun _ _ _ h => kzx_no rfl h)
  have h := h hle
  refine kz_aload_n (M := kt_M93) kX11_pair_c0.2.2.2.2.2.1 rfl ?_
  refine kz_iload_n (M := kt_M93) kX11_pair_c0.2.2.2.2.2.2.1 rfl ?_
  refine kz_cv0 (M := kt_M93) (c := 10) (o := 0) (As := [.int x2]) (rest := []) kX11_pair_c0.2.2.2.2.2.2.2.1 wl_X11_301 wMv_97 rfl (.inl rfl) rfl (Nat.le_trans (Nat.le_of_ble_eq_true rfl) hL) (Nat.le_of_ble_eq_true rfl) (Nat.le_of_ble_eq_true rfl) h (fun w3 hle h => ?_) (fun _ _ _ h => kzx_no rfl h)
  have h := h hle
  exact kz_ret (M := kt_M93) kX11_pair_c1.1 rfl h
def zL_X11_hold_p177 (E : zE) (L : Nat) (Q : kx_Rs → wS → Prop) (x2 : Int32) (x3 : Int32) (x4 : Int32) (w : wS) : Prop := kzE E L kt_M74 177 [(0, .ref (w_adr E.2.1 10 0)), (2, .int x2), (3, .int x3), (4, .int x4)] [] w Q
def zb_X11_hold_p433 (E : zE) (L : Nat) (Q : kx_Rs → wS → Prop) (w : wS) : Prop := Q (.inl none) w
theorem zt_X11_hold_p433 {E : zE} {L : Nat} {Q : kx_Rs → wS → Prop} {w : wS} (hL : 25 ≤ L) (h : zb_X11_hold_p433 E L Q  w) : kzE E L kt_M74 433 [(0, .ref (w_adr E.2.1 10 0))] [] w Q := by
  unfold zb_X11_hold_p433 at h
  exact kz_ret (M := kt_M74) kX11_hold_c25.1 rfl h
def zb_X11_hold_p327 (E : zE) (L : Nat) (Q : kx_Rs → wS → Prop) (x2 : Int32) (x6 : Int32) (w : wS) : Prop := zw E (L - 22) kt_M93 [.ref (w_adr E.2.1 10 0), .int x6, .int x2] w (wk0 (fun w1 => wle w w1 → zb_X11_hold_p433 E L Q w1) (fun e w => Q (.inr e) w))
theorem zt_X11_hold_p327 {E : zE} {L : Nat} {Q : kx_Rs → wS → Prop} {x2 : Int32} {x6 : Int32} {w : wS} (hL : 25 ≤ L) (h : zb_X11_hold_p327 E L Q x2 x6 w) : kzE E L kt_M74 327 [(0, .ref (w_adr E.2.1 10 0)), (2, .int x2), (6, .int x6)] [] w Q := by
  unfold zb_X11_hold_p327 at h
  refine kz_aload_n (M := kt_M74) kX11_hold_c18.2.2.1 rfl ?_
  refine kz_iload (M := kt_M74) kX11_hold_c18.2.2.2.1 rfl ?_
  refine kz_iload_n (M := kt_M74) kX11_hold_c18.2.2.2.2.1 rfl ?_
  refine kz_cv0 (M := kt_M74) (c := 10) (o := 0) (As := [.int x6, .int x2]) (rest := []) kX11_hold_c18.2.2.2.2.2.1 wl_X11_332 wMv_93 rfl (.inl rfl) rfl (Nat.le_trans (Nat.le_of_ble_eq_true rfl) hL) (Nat.le_of_ble_eq_true rfl) (Nat.le_of_ble_eq_true rfl) h (fun w1 hle h => ?_) (fun _ _ _ h => kzx_no rfl h)
  have h := h hle
  refine kz_goto (M := kt_M74) kX11_hold_c18.2.2.2.2.2.2.1 (t := 433) rfl ?_
  exact kz_weak [(0, .ref (w_adr E.2.1 10 0))] ⟨rfl, trivial⟩ rfl (zt_X11_hold_p433 hL  h)
def zb_X11_hold_p290 (E : zE) (L : Nat) (Q : kx_Rs → wS → Prop) (x2 : Int32) (x3 : Int32) (x5 : Int32) (y0 : Int32) (w : wS) : Prop := (if x5 = 0 then zw E (L - 23) kt_M126 [.ref (w_adr E.2.1 11 0), .int (y0 <<< (13 &&& 31)), .int x3, .int x2] w (wk0 (fun w1 => wle w w1 → zb_X11_hold_p327 E L Q x2 y0 w1) (fun e w => Q (.inr e) w)) else (∃ p3, w_p w 10 0 21 = some p3 ∧ w_l w E.2.1 17 p3 ∧ zb_X11_hold_p327 E L Q x2 y0 (ws_i w 17 p3 17 ((w_i w 17 p3 17) - 1))))
theorem zt_X11_hold_p290 {E : zE} {L : Nat} {Q : kx_Rs → wS → Prop} {x2 : Int32} {x3 : Int32} {x5 : Int32} {y0 : Int32} {w : wS} (hL : 25 ≤ L) (h : zb_X11_hold_p290 E L Q x2 x3 x5 y0 w) : kzE E L kt_M74 290 [(0, .ref (w_adr E.2.1 10 0)), (2, .int x2), (3, .int x3), (5, .int x5)] [.int y0] w Q := by
  unfold zb_X11_hold_p290 at h
  refine kz_sti (M := kt_M74) [(0, .ref (w_adr E.2.1 10 0)), (2, .int x2), (3, .int x3), (5, .int x5)] kX11_hold_c15.2.2.2.2.2.2.2.1 (Nat.le_of_ble_eq_true rfl) ⟨⟨rfl, rfl, .inl rfl⟩, ⟨⟨rfl, rfl, .inl rfl⟩, ⟨⟨rfl, rfl, .inl rfl⟩, ⟨⟨rfl, rfl, .inr rfl⟩, trivial⟩⟩⟩⟩ rfl ?_
  refine kz_iload (M := kt_M74) kX11_hold_c16.1 rfl ?_
  refine kz_if_eq (M := kt_M74) kX11_hold_c16.2.1 (t := 313) rfl h (fun h => ?_) (fun h => ?_)
  · skip
    refine kz_aload_n (M := kt_M74) kX11_hold_c17.2.2.1 rfl ?_
    refine kz_gfc (M := kt_M74) (x := 44) (c := 10) (o := 0) kX11_hold_c17.2.2.2.1 wf_X11_12 (.inl rfl) ?_
    refine kz_iload (M := kt_M74) kX11_hold_c17.2.2.2.2.1 rfl ?_
    refine kz_bi (M := kt_M74) 13 kX11_hold_c17.2.2.2.2.2.1 rfl ?_
    refine kz_ishl (M := kt_M74) kX11_hold_c17.2.2.2.2.2.2.1 ?_
    refine kz_iload_n (M := kt_M74) kX11_hold_c17.2.2.2.2.2.2.2.1 rfl ?_
    refine kz_iload_n (M := kt_M74) kX11_hold_c18.1 rfl ?_
    refine kz_cv0 (M := kt_M74) (c := 11) (o := 0) (As := [.int (y0 <<< (13 &&& 31)), .int x3, .int x2]) (rest := []) kX11_hold_c18.2.1 wl_X11_336 wMv_126 rfl (.inl rfl) rfl (Nat.le_trans (Nat.le_of_ble_eq_true rfl) hL) (Nat.le_of_ble_eq_true rfl) (Nat.le_of_ble_eq_true rfl) h (fun w1 hle h => ?_) (fun _ _ _ h => kzx_no rfl h)
    have h := h hle
    exact kz_weak [(0, .ref (w_adr E.2.1 10 0)), (2, .int x2), (6, .int y0)] ⟨rfl, ⟨rfl, ⟨rfl, trivial⟩⟩⟩ rfl (zt_X11_hold_p327 hL  h)
  · skip
    refine kz_aload_n (M := kt_M74) kX11_hold_c16.2.2.1 rfl ?_
    refine kz_gfp (M := kt_M74) (c := 10) (o := 0) kX11_hold_c16.2.2.2.1 wf_X11_110 (.inl rfl) ?_
    refine kz_dup (M := kt_M74) kX11_hold_c16.2.2.2.2.1 (w_cat _) ?_
    obtain ⟨p3, hxp3, hlp3, h⟩ := h
    refine kz_nz0 (x := w_p w 10 0 21) hxp3 ?_
    refine kz_gfi (M := kt_M74) (c := 17) (o := p3) kX11_hold_c16.2.2.2.2.2.1 wf_X11_161 (.inr (by exact hlp3)) ?_
    refine kz_ic (M := kt_M74) 1 kX11_hold_c16.2.2.2.2.2.2.1 rfl ?_
    refine kz_isub (M := kt_M74) kX11_hold_c16.2.2.2.2.2.2.2.1 ?_
    refine kz_nz1 (x := w_p w 10 0 21) hxp3 ?_
    refine kz_pfi (M := kt_M74) (c := 17) (o := p3) kX11_hold_c17.1 wq_X11_161 (.inr (by exact hlp3)) ?_
    refine kz_goto (M := kt_M74) kX11_hold_c17.2.1 (t := 327) rfl ?_
    exact kz_weak [(0, .ref (w_adr E.2.1 10 0)), (2, .int x2), (6, .int y0)] ⟨rfl, ⟨rfl, ⟨rfl, trivial⟩⟩⟩ rfl (zt_X11_hold_p327 hL  h)
def zb_X11_hold_p261 (E : zE) (L : Nat) (Q : kx_Rs → wS → Prop) (x2 : Int32) (x3 : Int32) (x4 : Int32) (y0 : Int32) (w : wS) : Prop := (if y0 = 0 then zw E (L - 24) kt_M125 [.ref (w_adr E.2.1 11 0), .int x2, .int 0] w (wk1 (fun v2 w1 => wle w w1 → zb_X11_hold_p290 E L Q x2 x3 y0 v2 w1) (fun e w => Q (.inr e) w)) else (∃ p3, w_p w 10 0 21 = some p3 ∧ w_l w E.2.1 17 p3 ∧ (kx_inb x4 (w_n w 17 p3 14) = true ∧ zb_X11_hold_p290 E L Q x2 x3 y0 (w_a w 17 p3 14 (x4).toNatClampNeg) w)))
theorem zt_X11_hold_p261 {E : zE} {L : Nat} {Q : kx_Rs → wS → Prop} {x2 : Int32} {x3 : Int32} {x4 : Int32} {y0 : Int32} {w : wS} (hL : 25 ≤ L) (h : zb_X11_hold_p261 E L Q x2 x3 x4 y0 w) : kzE E L kt_M74 261 [(0, .ref (w_adr E.2.1 10 0)), (2, .int x2), (3, .int x3), (4, .int x4)] [.int y0] w Q := by
  unfold zb_X11_hold_p261 at h
  refine kz_sti (M := kt_M74) [(0, .ref (w_adr E.2.1 10 0)), (2, .int x2), (3, .int x3), (4, .int x4)] kX11_hold_c14.2.1 (Nat.le_of_ble_eq_true rfl) ⟨⟨rfl, rfl, .inl rfl⟩, ⟨⟨rfl, rfl, .inl rfl⟩, ⟨⟨rfl, rfl, .inl rfl⟩, ⟨⟨rfl, rfl, .inr rfl⟩, trivial⟩⟩⟩⟩ rfl ?_
  refine kz_iload (M := kt_M74) kX11_hold_c14.2.2.1 rfl ?_
  refine kz_if_eq (M := kt_M74) kX11_hold_c14.2.2.2.1 (t := 281) rfl h (fun h => ?_) (fun h => ?_)
  · skip
    refine kz_aload_n (M := kt_M74) kX11_hold_c15.2.2.1 rfl ?_
    refine kz_gfc (M := kt_M74) (x := 44) (c := 10) (o := 0) kX11_hold_c15.2.2.2.1 wf_X11_12 (.inl rfl) ?_
    refine kz_iload_n (M := kt_M74) kX11_hold_c15.2.2.2.2.1 rfl ?_
    refine kz_ic (M := kt_M74) 0 kX11_hold_c15.2.2.2.2.2.1 rfl ?_
    refine kz_cv1 (M := kt_M74) (c := 11) (o := 0) (As := [.int x2, .int 0]) (rest := []) kX11_hold_c15.2.2.2.2.2.2.1 wl_X11_87 wMv_125 rfl (.inl rfl) rfl (Nat.le_trans (Nat.le_of_ble_eq_true rfl) hL) (Nat.le_of_ble_eq_true rfl) (Nat.le_of_ble_eq_true rfl) h (fun v2 w1 hle h => ?_) (fun _ _ _ h => kzx_no rfl h)
    have h := h hle
    exact kz_weak [(0, .ref (w_adr E.2.1 10 0)), (2, .int x2), (3, .int x3), (5, .int y0)] ⟨rfl, ⟨rfl, ⟨rfl, ⟨rfl, trivial⟩⟩⟩⟩ rfl (zt_X11_hold_p290 hL  h)
  · skip
    refine kz_aload_n (M := kt_M74) kX11_hold_c14.2.2.2.2.1 rfl ?_
    refine kz_gfp (M := kt_M74) (c := 10) (o := 0) kX11_hold_c14.2.2.2.2.2.1 wf_X11_110 (.inl rfl) ?_
    obtain ⟨p3, hxp3, hlp3, h⟩ := h
    refine kz_nz0 (x := w_p w 10 0 21) hxp3 ?_
    refine kz_gfa (M := kt_M74) (c := 17) (o := p3) kX11_hold_c14.2.2.2.2.2.2.1 wf_X11_164 (.inr (by exact hlp3)) ?_
    refine kz_iload (M := kt_M74) kX11_hold_c14.2.2.2.2.2.2.2.1 rfl ?_
    refine kz_iald (M := kt_M74) (c := 17) (o := p3) (k := 14) (a := (w_d w 17 p3 14)) kX11_hold_c15.1 (.inr ⟨.inr (by exact hlp3), rfl, rfl⟩) rfl ot_0 h (fun h => ?_)
    refine kz_goto (M := kt_M74) kX11_hold_c15.2.1 (t := 290) rfl ?_
    exact kz_weak [(0, .ref (w_adr E.2.1 10 0)), (2, .int x2), (3, .int x3), (5, .int y0)] ⟨rfl, ⟨rfl, ⟨rfl, ⟨rfl, trivial⟩⟩⟩⟩ rfl (zt_X11_hold_p290 hL  h)
def zb_X11_hold_p260 (E : zE) (L : Nat) (Q : kx_Rs → wS → Prop) (x2 : Int32) (x3 : Int32) (x4 : Int32) (w : wS) : Prop := zb_X11_hold_p261 E L Q x2 x3 x4 0 w
theorem zt_X11_hold_p260 {E : zE} {L : Nat} {Q : kx_Rs → wS → Prop} {x2 : Int32} {x3 : Int32} {x4 : Int32} {w : wS} (hL : 25 ≤ L) (h : zb_X11_hold_p260 E L Q x2 x3 x4 w) : kzE E L kt_M74 260 [(0, .ref (w_adr E.2.1 10 0)), (2, .int x2), (3, .int x3), (4, .int x4)] [] w Q := by
  unfold zb_X11_hold_p260 at h
  refine kz_ic (M := kt_M74) 0 kX11_hold_c14.1 rfl ?_
  exact kz_weak [(0, .ref (w_adr E.2.1 10 0)), (2, .int x2), (3, .int x3), (4, .int x4)] ⟨rfl, ⟨rfl, ⟨rfl, ⟨rfl, trivial⟩⟩⟩⟩ rfl (zt_X11_hold_p261 hL  h)
def zb_X11_hold_p177 (E : zE) (L : Nat) (Q : kx_Rs → wS → Prop) (x2 : Int32) (x3 : Int32) (x4 : Int32) (w : wS) : Prop := (if x2 ≤ x4 then zb_X11_hold_p433 E L Q w else zw E (L - 22) kt_M127 [.ref (w_adr E.2.1 11 0), .int (x3 + x4), .int 0] w (wk0 (fun w1 => wle w w1 → zL_X11_hold_p177 E L Q x2 x3 (x4 + 1) w1) (fun e w => Q (.inr e) w)))
theorem zt_X11_hold_p177 {E : zE} {L : Nat} {Q : kx_Rs → wS → Prop} {x2 : Int32} {x3 : Int32} {x4 : Int32} {w : wS} (hL : 25 ≤ L) (h : zb_X11_hold_p177 E L Q x2 x3 x4 w) : kzE E L kt_M74 177 [(0, .ref (w_adr E.2.1 10 0)), (2, .int x2), (3, .int x3), (4, .int x4)] [] w Q := by
  unfold zb_X11_hold_p177 at h
  refine kz_iload (M := kt_M74) kX11_hold_c8.2.2.2.2.2.1 rfl ?_
  refine kz_iload_n (M := kt_M74) kX11_hold_c8.2.2.2.2.2.2.1 rfl ?_
  refine kz_icmp_ge (M := kt_M74) kX11_hold_c8.2.2.2.2.2.2.2.1 (t := 201) rfl h (fun h => ?_) (fun h => ?_)
  · skip
    refine kz_goto (M := kt_M74) kX11_hold_c10.2.1 (t := 433) rfl ?_
    exact kz_weak [(0, .ref (w_adr E.2.1 10 0))] ⟨rfl, trivial⟩ rfl (zt_X11_hold_p433 hL  h)
  · skip
    refine kz_aload_n (M := kt_M74) kX11_hold_c9.1 rfl ?_
    refine kz_gfc (M := kt_M74) (x := 44) (c := 10) (o := 0) kX11_hold_c9.2.1 wf_X11_12 (.inl rfl) ?_
    refine kz_iload_n (M := kt_M74) kX11_hold_c9.2.2.1 rfl ?_
    refine kz_iload (M := kt_M74) kX11_hold_c9.2.2.2.1 rfl ?_
    refine kz_iadd (M := kt_M74) kX11_hold_c9.2.2.2.2.1 ?_
    refine kz_ic (M := kt_M74) 0 kX11_hold_c9.2.2.2.2.2.1 rfl ?_
    refine kz_cv0 (M := kt_M74) (c := 11) (o := 0) (As := [.int (x3 + x4), .int 0]) (rest := []) kX11_hold_c9.2.2.2.2.2.2.1 wl_X11_348 wMv_127 rfl (.inl rfl) rfl (Nat.le_trans (Nat.le_of_ble_eq_true rfl) hL) (Nat.le_of_ble_eq_true rfl) (Nat.le_of_ble_eq_true rfl) h (fun w1 hle h => ?_) (fun _ _ _ h => kzx_no rfl h)
    have h := h hle
    refine kz_inc (M := kt_M74) [(0, .ref (w_adr E.2.1 10 0)), (2, .int x2), (3, .int x3)] kX11_hold_c9.2.2.2.2.2.2.2.1 rfl (Nat.le_of_ble_eq_true rfl) ⟨⟨rfl, rfl, .inl rfl⟩, ⟨⟨rfl, rfl, .inl rfl⟩, ⟨⟨rfl, rfl, .inr rfl⟩, trivial⟩⟩⟩ rfl ?_
    refine kz_goto (M := kt_M74) kX11_hold_c10.1 (t := 177) rfl ?_
    exact kz_weak [(0, .ref (w_adr E.2.1 10 0)), (2, .int x2), (3, .int x3), (4, .int (x4 + 1))] ⟨rfl, ⟨rfl, ⟨rfl, ⟨rfl, trivial⟩⟩⟩⟩ rfl h
def zb_X11_hold_p141 (E : zE) (L : Nat) (Q : kx_Rs → wS → Prop) (y0 : Int32) (w : wS) : Prop := zw E (L - 20) kt_M95 [.ref (w_adr E.2.1 10 0)] w (wk1 (fun v2 w1 => wle w w1 → zw E (L - 21) kt_M123 [.ref (w_adr E.2.1 11 0), .int v2] w1 (wk1 (fun v4 w3 => wle w1 w3 → zw E (L - 22) kt_M73 [.ref (w_adr E.2.1 10 0), .int (v4 >>> (13 &&& 31)), .int y0] w3 (wk0 (fun w5 => wle w3 w5 → zb_X11_hold_p433 E L Q w5) (fun e w => Q (.inr e) w))) (fun e w => Q (.inr e) w))) (fun e w => Q (.inr e) w))
theorem zt_X11_hold_p141 {E : zE} {L : Nat} {Q : kx_Rs → wS → Prop} {y0 : Int32} {w : wS} (hL : 25 ≤ L) (h : zb_X11_hold_p141 E L Q y0 w) : kzE E L kt_M74 141 [(0, .ref (w_adr E.2.1 10 0))] [.int y0] w Q := by
  unfold zb_X11_hold_p141 at h
  refine kz_sti_n (M := kt_M74) [(0, .ref (w_adr E.2.1 10 0))] kX11_hold_c6.2.1 (Nat.le_of_ble_eq_true rfl) ⟨⟨rfl, rfl, .inl rfl⟩, trivial⟩ rfl ?_
  refine kz_aload_n (M := kt_M74) kX11_hold_c6.2.2.1 rfl ?_
  refine kz_aload_n (M := kt_M74) kX11_hold_c6.2.2.2.1 rfl ?_
  refine kz_gfc (M := kt_M74) (x := 44) (c := 10) (o := 0) kX11_hold_c6.2.2.2.2.1 wf_X11_12 (.inl rfl) ?_
  refine kz_aload_n (M := kt_M74) kX11_hold_c6.2.2.2.2.2.1 rfl ?_
  refine kz_cv1 (M := kt_M74) (c := 10) (o := 0) (As := []) (rest := [.ref (w_adr E.2.1 11 0), .ref (w_adr E.2.1 10 0)]) kX11_hold_c6.2.2.2.2.2.2.1 wl_X11_304 wMv_95 rfl (.inl rfl) rfl (Nat.le_trans (Nat.le_of_ble_eq_true rfl) hL) (Nat.le_of_ble_eq_true rfl) (Nat.le_of_ble_eq_true rfl) h (fun v2 w1 hle h => ?_) (fun _ _ _ h => kzx_no rfl h)
  have h := h hle
  refine kz_cv1 (M := kt_M74) (c := 11) (o := 0) (As := [.int v2]) (rest := [.ref (w_adr E.2.1 10 0)]) kX11_hold_c6.2.2.2.2.2.2.2.1 wl_X11_307 wMv_123 rfl (.inl rfl) rfl (Nat.le_trans (Nat.le_of_ble_eq_true rfl) hL) (Nat.le_of_ble_eq_true rfl) (Nat.le_of_ble_eq_true rfl) h (fun v4 w3 hle h => ?_) (fun _ _ _ h => kzx_no rfl h)
  have h := h hle
  refine kz_bi (M := kt_M74) 13 kX11_hold_c7.1 rfl ?_
  refine kz_ishr (M := kt_M74) kX11_hold_c7.2.1 ?_
  refine kz_iload_n (M := kt_M74) kX11_hold_c7.2.2.1 rfl ?_
  refine kz_cv0 (M := kt_M74) (c := 10) (o := 0) (As := [.int (v4 >>> (13 &&& 31)), .int y0]) (rest := []) kX11_hold_c7.2.2.2.1 wl_X11_345 wMv_73 rfl (.inl rfl) rfl (Nat.le_trans (Nat.le_of_ble_eq_true rfl) hL) (Nat.le_of_ble_eq_true rfl) (Nat.le_of_ble_eq_true rfl) h (fun w5 hle h => ?_) (fun _ _ _ h => kzx_no rfl h)
  have h := h hle
  refine kz_goto (M := kt_M74) kX11_hold_c7.2.2.2.2.1 (t := 433) rfl ?_
  exact kz_weak [(0, .ref (w_adr E.2.1 10 0))] ⟨rfl, trivial⟩ rfl (zt_X11_hold_p433 hL  h)
def zb_X11_hold_p0 (E : zE) (L : Nat) (Q : kx_Rs → wS → Prop) (x1 : Int32) (w : wS) : Prop := (if x1 = 22 then zw E (L - 20) kt_M88 [.ref (w_adr E.2.1 10 0)] w (wk1 (fun v2 w1 => wle w w1 → zw E (L - 21) kt_M101 [.ref (w_adr E.2.1 10 0), .int v2] w1 (wk1 (fun v4 w3 => wle w1 w3 → zb_X11_hold_p433 E L Q w3) (fun e w => Q (.inr e) w))) (fun e w => Q (.inr e) w)) else (if x1 = 23 then zw E (L - 20) kt_M88 [.ref (w_adr E.2.1 10 0)] w (wk1 (fun v6 w5 => wle w w5 → zw E (L - 20) kt_M88 [.ref (w_adr E.2.1 10 0)] w5 (wk1 (fun v8 w7 => wle w5 w7 → zw E (L - 24) kt_M125 [.ref (w_adr E.2.1 11 0), .int v6, .int 0] w7 (wk1 (fun v10 w9 => wle w7 w9 → zw E (L - 22) kt_M97 [.ref (w_adr E.2.1 10 0), .int (v10 <<< (13 &&& 31))] w9 (wk0 (fun w11 => wle w9 w11 → zb_X11_hold_p433 E L Q w11) (fun e w => Q (.inr e) w))) (fun e w => Q (.inr e) w))) (fun e w => Q (.inr e) w))) (fun e w => Q (.inr e) w)) else (if x1 = 24 then zw E (L - 20) kt_M88 [.ref (w_adr E.2.1 10 0)] w (wk1 (fun v14 w13 => wle w w13 → zw E (L - 20) kt_M88 [.ref (w_adr E.2.1 10 0)] w13 (wk1 (fun v16 w15 => wle w13 w15 → zw E (L - 24) kt_M125 [.ref (w_adr E.2.1 11 0), .int (2 * v14), .int v16] w15 (wk1 (fun v18 w17 => wle w15 w17 → zw E (L - 22) kt_M97 [.ref (w_adr E.2.1 10 0), .int (v18 <<< (13 &&& 31))] w17 (wk0 (fun w19 => wle w17 w19 → zb_X11_hold_p433 E L Q w19) (fun e w => Q (.inr e) w))) (fun e w => Q (.inr e) w))) (fun e w => Q (.inr e) w))) (fun e w => Q (.inr e) w)) else (if x1 = 25 then zw E (L - 20) kt_M88 [.ref (w_adr E.2.1 10 0)] w (wk1 (fun v22 w21 => wle w w21 → (if ¬ v22 = 1 then zb_X11_hold_p141 E L Q 0 w21 else zb_X11_hold_p141 E L Q 1 w21)) (fun e w => Q (.inr e) w)) else (if x1 = 26 then zw E (L - 20) kt_M88 [.ref (w_adr E.2.1 10 0)] w (wk1 (fun v24 w23 => wle w w23 → zw E (L - 20) kt_M95 [.ref (w_adr E.2.1 10 0)] w23 (wk1 (fun v26 w25 => wle w23 w25 → zL_X11_hold_p177 E L Q v24 v26 0 w25) (fun e w => Q (.inr e) w))) (fun e w => Q (.inr e) w)) else (if x1 = 27 then zw E (L - 20) kt_M95 [.ref (w_adr E.2.1 10 0)] w (wk1 (fun v28 w27 => wle w w27 → zw E (L - 20) kt_M95 [.ref (w_adr E.2.1 10 0)] w27 (wk1 (fun v30 w29 => wle w27 w29 → (∃ p31, w_p w29 10 0 21 = some p31 ∧ w_l w29 E.2.1 17 p31 ∧ zw E (L - 21) kt_M101 [.ref (w_adr E.2.1 10 0), .int v28] w29 (wk1 (fun v33 w32 => wle w29 w32 → (if ¬ v33 = 0 then (if ((w_i w29 17 p31 17) - 1) < 0 then zb_X11_hold_p260 E L Q v28 v30 ((w_i w29 17 p31 17) - 1) w32 else (∃ p34, w_p w32 10 0 21 = some p34 ∧ w_l w32 E.2.1 17 p34 ∧ (kx_inb ((w_i w29 17 p31 17) - 1) (w_n w32 17 p34 14) = true ∧ (if ¬ ((w_a w32 17 p34 14 (((w_i w29 17 p31 17) - 1)).toNatClampNeg) <<< (13 &&& 31)) = v30 then zb_X11_hold_p260 E L Q v28 v30 ((w_i w29 17 p31 17) - 1) w32 else zb_X11_hold_p261 E L Q v28 v30 ((w_i w29 17 p31 17) - 1) 1 w32)))) else Q (.inl none) w32)) (fun e w => Q (.inr e) w)))) (fun e w => Q (.inr e) w))) (fun e w => Q (.inr e) w)) else (if x1 = 28 then zw E (L - 20) kt_M95 [.ref (w_adr E.2.1 10 0)] w (wk1 (fun v36 w35 => wle w w35 → zw E (L - 20) kt_M95 [.ref (w_adr E.2.1 10 0)] w35 (wk1 (fun v38 w37 => wle w35 w37 → zw E (L - 22) kt_M127 [.ref (w_adr E.2.1 11 0), .int v36, .int v38] w37 (wk0 (fun w39 => wle w37 w39 → zb_X11_hold_p433 E L Q w39) (fun e w => Q (.inr e) w))) (fun e w => Q (.inr e) w))) (fun e w => Q (.inr e) w)) else (if x1 = 29 then zw E (L - 20) kt_M95 [.ref (w_adr E.2.1 10 0)] w (wk1 (fun v42 w41 => wle w w41 → zw E (L - 20) kt_M95 [.ref (w_adr E.2.1 10 0)] w41 (wk1 (fun v44 w43 => wle w41 w43 → zw E (L - 22) kt_M127 [.ref (w_adr E.2.1 11 0), .int (v42 + 1), .int v44] w43 (wk0 (fun w45 => wle w43 w45 → zw E (L - 20) kt_M95 [.ref (w_adr E.2.1 10 0)] w45 (wk1 (fun v48 w47 => wle w45 w47 → zw E (L - 22) kt_M127 [.ref (w_adr E.2.1 11 0), .int v42, .int v48] w47 (wk0 (fun w49 => wle w47 w49 → zb_X11_hold_p433 E L Q w49) (fun e w => Q (.inr e) w))) (fun e w => Q (.inr e) w))) (fun e w => Q (.inr e) w))) (fun e w => Q (.inr e) w))) (fun e w => Q (.inr e) w)) else (if x1 = 30 then zw E (L - 20) kt_M88 [.ref (w_adr E.2.1 10 0)] w (wk1 (fun v52 w51 => wle w w51 → zw E (L - 25) kt_M60 [.ref (w_adr E.2.1 10 0), .int v52] w51 (wk0 (fun w53 => wle w51 w53 → zb_X11_hold_p433 E L Q w53) (fun e w => Q (.inr e) w))) (fun e w => Q (.inr e) w)) else (if x1 = 31 then (kx_inb ((w_i w 10 0 29) - 1) (w_n w 10 0 30) = true ∧ zw E (L - 20) kt_M88 [.ref (w_adr E.2.1 10 0)] w (wk1 (fun v56 w55 => wle w w55 → (if w_a w 10 0 30 (((w_i w 10 0 29) - 1)).toNatClampNeg = v56 then zb_X11_hold_p433 E L Q w55 else zw E (L - 21) kt_M107 [.ref (w_adr E.2.1 10 0), .int 9] w55 (wk0 (fun w57 => wle w55 w57 → zb_X11_hold_p433 E L Q w57) (fun e w => Q (.inr e) w)))) (fun e w => Q (.inr e) w))) else zw E (L - 20) kt_M103 [.ref (w_adr E.2.1 10 0)] w (wk0 (fun w59 => wle w w59 → zb_X11_hold_p433 E L Q w59) (fun e w => Q (.inr e) w))))))))))))
theorem zt_X11_hold_p0 {E : zE} {L : Nat} {Q : kx_Rs → wS → Prop} {x1 : Int32} {w : wS} (hL : 25 ≤ L) (h : zb_X11_hold_p0 E L Q x1 w) : kzE E L kt_M74 0 [(0, .ref (w_adr E.2.1 10 0)), (1, .int x1)] [] w Q := by
  unfold zb_X11_hold_p0 at h
  refine kz_iload_n (M := kt_M74) kX11_hold_c0.1 rfl ?_
  refine kz_tsw (M := kt_M74) [(22, 56), (23, 68), (24, 97), (25, 128), (26, 164), (27, 204), (28, 337), (29, 357), (30, 391), (31, 402)] [_, _, _, _, _, _, _, _, _, _] 429 dX11_hold_p1 (by decide +kernel) h ⟨fun h => ?_, fun h => ?_, fun h => ?_, fun h => ?_, fun h => ?_, fun h => ?_, fun h => ?_, fun h => ?_, fun h => ?_, fun h => ?_, trivial⟩ (fun h => ?_)
  · skip
    refine kz_aload_n (M := kt_M74) kX11_hold_c0.2.2.1 rfl ?_
    refine kz_aload_n (M := kt_M74) kX11_hold_c0.2.2.2.1 rfl ?_
    refine kz_cv1 (M := kt_M74) (c := 10) (o := 0) (As := []) (rest := [.ref (w_adr E.2.1 10 0)]) kX11_hold_c0.2.2.2.2.1 wl_X11_276 wMv_88 rfl (.inl rfl) rfl (Nat.le_trans (Nat.le_of_ble_eq_true rfl) hL) (Nat.le_of_ble_eq_true rfl) (Nat.le_of_ble_eq_true rfl) h (fun v2 w1 hle h => ?_) (fun _ _ _ h => kzx_no rfl h)
    have h := h hle
    refine kz_cv1 (M := kt_M74) (c := 10) (o := 0) (As := [.int v2]) (rest := []) kX11_hold_c0.2.2.2.2.2.1 wl_X11_342 wMv_101 rfl (.inl rfl) rfl (Nat.le_trans (Nat.le_of_ble_eq_true rfl) hL) (Nat.le_of_ble_eq_true rfl) (Nat.le_of_ble_eq_true rfl) h (fun v4 w3 hle h => ?_) (fun _ _ _ h => kzx_no rfl h)
    have h := h hle
    refine kz_sti_n (M := kt_M74) [(0, .ref (w_adr E.2.1 10 0))] kX11_hold_c0.2.2.2.2.2.2.1 (Nat.le_of_ble_eq_true rfl) ⟨⟨rfl, rfl, .inl rfl⟩, trivial⟩ rfl ?_
    refine kz_goto (M := kt_M74) kX11_hold_c0.2.2.2.2.2.2.2.1 (t := 433) rfl ?_
    exact kz_weak [(0, .ref (w_adr E.2.1 10 0))] ⟨rfl, trivial⟩ rfl (zt_X11_hold_p433 hL  h)
  · skip
    refine kz_aload_n (M := kt_M74) kX11_hold_c1.1 rfl ?_
    refine kz_cv1 (M := kt_M74) (c := 10) (o := 0) (As := []) (rest := []) kX11_hold_c1.2.1 wl_X11_276 wMv_88 rfl (.inl rfl) rfl (Nat.le_trans (Nat.le_of_ble_eq_true rfl) hL) (Nat.le_of_ble_eq_true rfl) (Nat.le_of_ble_eq_true rfl) h (fun v6 w5 hle h => ?_) (fun _ _ _ h => kzx_no rfl h)
    have h := h hle
    refine kz_sti_n (M := kt_M74) [(0, .ref (w_adr E.2.1 10 0))] kX11_hold_c1.2.2.1 (Nat.le_of_ble_eq_true rfl) ⟨⟨rfl, rfl, .inl rfl⟩, trivial⟩ rfl ?_
    refine kz_aload_n (M := kt_M74) kX11_hold_c1.2.2.2.1 rfl ?_
    refine kz_cv1 (M := kt_M74) (c := 10) (o := 0) (As := []) (rest := []) kX11_hold_c1.2.2.2.2.1 wl_X11_276 wMv_88 rfl (.inl rfl) rfl (Nat.le_trans (Nat.le_of_ble_eq_true rfl) hL) (Nat.le_of_ble_eq_true rfl) (Nat.le_of_ble_eq_true rfl) h (fun v8 w7 hle h => ?_) (fun _ _ _ h => kzx_no rfl h)
    have h := h hle
    refine kz_sti_n (M := kt_M74) [(0, .ref (w_adr E.2.1 10 0)), (2, .int v6)] kX11_hold_c1.2.2.2.2.2.1 (Nat.le_of_ble_eq_true rfl) ⟨⟨rfl, rfl, .inl rfl⟩, ⟨⟨rfl, rfl, .inr rfl⟩, trivial⟩⟩ rfl ?_
    refine kz_aload_n (M := kt_M74) kX11_hold_c1.2.2.2.2.2.2.1 rfl ?_
    refine kz_aload_n (M := kt_M74) kX11_hold_c1.2.2.2.2.2.2.2.1 rfl ?_
    refine kz_gfc (M := kt_M74) (x := 44) (c := 10) (o := 0) kX11_hold_c2.1 wf_X11_12 (.inl rfl) ?_
    refine kz_iload_n (M := kt_M74) kX11_hold_c2.2.1 rfl ?_
    refine kz_ic (M := kt_M74) 0 kX11_hold_c2.2.2.1 rfl ?_
    refine kz_cv1 (M := kt_M74) (c := 11) (o := 0) (As := [.int v6, .int 0]) (rest := [.ref (w_adr E.2.1 10 0)]) kX11_hold_c2.2.2.2.1 wl_X11_87 wMv_125 rfl (.inl rfl) rfl (Nat.le_trans (Nat.le_of_ble_eq_true rfl) hL) (Nat.le_of_ble_eq_true rfl) (Nat.le_of_ble_eq_true rfl) h (fun v10 w9 hle h => ?_) (fun _ _ _ h => kzx_no rfl h)
    have h := h hle
    refine kz_bi (M := kt_M74) 13 kX11_hold_c2.2.2.2.2.1 rfl ?_
    refine kz_ishl (M := kt_M74) kX11_hold_c2.2.2.2.2.2.1 ?_
    refine kz_cv0 (M := kt_M74) (c := 10) (o := 0) (As := [.int (v10 <<< (13 &&& 31))]) (rest := []) kX11_hold_c2.2.2.2.2.2.2.1 wl_X11_301 wMv_97 rfl (.inl rfl) rfl (Nat.le_trans (Nat.le_of_ble_eq_true rfl) hL) (Nat.le_of_ble_eq_true rfl) (Nat.le_of_ble_eq_true rfl) h (fun w11 hle h => ?_) (fun _ _ _ h => kzx_no rfl h)
    have h := h hle
    refine kz_goto (M := kt_M74) kX11_hold_c2.2.2.2.2.2.2.2.1 (t := 433) rfl ?_
    exact kz_weak [(0, .ref (w_adr E.2.1 10 0))] ⟨rfl, trivial⟩ rfl (zt_X11_hold_p433 hL  h)
  · skip
    refine kz_aload_n (M := kt_M74) kX11_hold_c3.1 rfl ?_
    refine kz_cv1 (M := kt_M74) (c := 10) (o := 0) (As := []) (rest := []) kX11_hold_c3.2.1 wl_X11_276 wMv_88 rfl (.inl rfl) rfl (Nat.le_trans (Nat.le_of_ble_eq_true rfl) hL) (Nat.le_of_ble_eq_true rfl) (Nat.le_of_ble_eq_true rfl) h (fun v14 w13 hle h => ?_) (fun _ _ _ h => kzx_no rfl h)
    have h := h hle
    refine kz_sti_n (M := kt_M74) [(0, .ref (w_adr E.2.1 10 0))] kX11_hold_c3.2.2.1 (Nat.le_of_ble_eq_true rfl) ⟨⟨rfl, rfl, .inl rfl⟩, trivial⟩ rfl ?_
    refine kz_aload_n (M := kt_M74) kX11_hold_c3.2.2.2.1 rfl ?_
    refine kz_cv1 (M := kt_M74) (c := 10) (o := 0) (As := []) (rest := []) kX11_hold_c3.2.2.2.2.1 wl_X11_276 wMv_88 rfl (.inl rfl) rfl (Nat.le_trans (Nat.le_of_ble_eq_true rfl) hL) (Nat.le_of_ble_eq_true rfl) (Nat.le_of_ble_eq_true rfl) h (fun v16 w15 hle h => ?_) (fun _ _ _ h => kzx_no rfl h)
    have h := h hle
    refine kz_sti_n (M := kt_M74) [(0, .ref (w_adr E.2.1 10 0)), (2, .int v14)] kX11_hold_c3.2.2.2.2.2.1 (Nat.le_of_ble_eq_true rfl) ⟨⟨rfl, rfl, .inl rfl⟩, ⟨⟨rfl, rfl, .inr rfl⟩, trivial⟩⟩ rfl ?_
    refine kz_aload_n (M := kt_M74) kX11_hold_c3.2.2.2.2.2.2.1 rfl ?_
    refine kz_aload_n (M := kt_M74) kX11_hold_c3.2.2.2.2.2.2.2.1 rfl ?_
    refine kz_gfc (M := kt_M74) (x := 44) (c := 10) (o := 0) kX11_hold_c4.1 wf_X11_12 (.inl rfl) ?_
    refine kz_ic (M := kt_M74) 2 kX11_hold_c4.2.1 rfl ?_
    refine kz_iload_n (M := kt_M74) kX11_hold_c4.2.2.1 rfl ?_
    refine kz_imul (M := kt_M74) kX11_hold_c4.2.2.2.1 ?_
    refine kz_iload_n (M := kt_M74) kX11_hold_c4.2.2.2.2.1 rfl ?_
    refine kz_cv1 (M := kt_M74) (c := 11) (o := 0) (As := [.int (2 * v14), .int v16]) (rest := [.ref (w_adr E.2.1 10 0)]) kX11_hold_c4.2.2.2.2.2.1 wl_X11_87 wMv_125 rfl (.inl rfl) rfl (Nat.le_trans (Nat.le_of_ble_eq_true rfl) hL) (Nat.le_of_ble_eq_true rfl) (Nat.le_of_ble_eq_true rfl) h (fun v18 w17 hle h => ?_) (fun _ _ _ h => kzx_no rfl h)
    have h := h hle
    refine kz_bi (M := kt_M74) 13 kX11_hold_c4.2.2.2.2.2.2.1 rfl ?_
    refine kz_ishl (M := kt_M74) kX11_hold_c4.2.2.2.2.2.2.2.1 ?_
    refine kz_cv0 (M := kt_M74) (c := 10) (o := 0) (As := [.int (v18 <<< (13 &&& 31))]) (rest := []) kX11_hold_c5.1 wl_X11_301 wMv_97 rfl (.inl rfl) rfl (Nat.le_trans (Nat.le_of_ble_eq_true rfl) hL) (Nat.le_of_ble_eq_true rfl) (Nat.le_of_ble_eq_true rfl) h (fun w19 hle h => ?_) (fun _ _ _ h => kzx_no rfl h)
    have h := h hle
    refine kz_goto (M := kt_M74) kX11_hold_c5.2.1 (t := 433) rfl ?_
    exact kz_weak [(0, .ref (w_adr E.2.1 10 0))] ⟨rfl, trivial⟩ rfl (zt_X11_hold_p433 hL  h)
  · skip
    refine kz_aload_n (M := kt_M74) kX11_hold_c5.2.2.1 rfl ?_
    refine kz_cv1 (M := kt_M74) (c := 10) (o := 0) (As := []) (rest := []) kX11_hold_c5.2.2.2.1 wl_X11_276 wMv_88 rfl (.inl rfl) rfl (Nat.le_trans (Nat.le_of_ble_eq_true rfl) hL) (Nat.le_of_ble_eq_true rfl) (Nat.le_of_ble_eq_true rfl) h (fun v22 w21 hle h => ?_) (fun _ _ _ h => kzx_no rfl h)
    have h := h hle
    refine kz_ic (M := kt_M74) 1 kX11_hold_c5.2.2.2.2.1 rfl ?_
    refine kz_icmp_ne (M := kt_M74) kX11_hold_c5.2.2.2.2.2.1 (t := 140) rfl h (fun h => ?_) (fun h => ?_)
    · skip
      refine kz_ic (M := kt_M74) 0 kX11_hold_c6.1 rfl ?_
      exact kz_weak [(0, .ref (w_adr E.2.1 10 0))] ⟨rfl, trivial⟩ rfl (zt_X11_hold_p141 hL  h)
    · skip
      refine kz_ic (M := kt_M74) 1 kX11_hold_c5.2.2.2.2.2.2.1 rfl ?_
      refine kz_goto (M := kt_M74) kX11_hold_c5.2.2.2.2.2.2.2.1 (t := 141) rfl ?_
      exact kz_weak [(0, .ref (w_adr E.2.1 10 0))] ⟨rfl, trivial⟩ rfl (zt_X11_hold_p141 hL  h)
  · skip
    refine kz_aload_n (M := kt_M74) kX11_hold_c7.2.2.2.2.2.1 rfl ?_
    refine kz_cv1 (M := kt_M74) (c := 10) (o := 0) (As := []) (rest := []) kX11_hold_c7.2.2.2.2.2.2.1 wl_X11_276 wMv_88 rfl (.inl rfl) rfl (Nat.le_trans (Nat.le_of_ble_eq_true rfl) hL) (Nat.le_of_ble_eq_true rfl) (Nat.le_of_ble_eq_true rfl) h (fun v24 w23 hle h => ?_) (fun _ _ _ h => kzx_no rfl h)
    have h := h hle
    refine kz_sti_n (M := kt_M74) [(0, .ref (w_adr E.2.1 10 0))] kX11_hold_c7.2.2.2.2.2.2.2.1 (Nat.le_of_ble_eq_true rfl) ⟨⟨rfl, rfl, .inl rfl⟩, trivial⟩ rfl ?_
    refine kz_aload_n (M := kt_M74) kX11_hold_c8.1 rfl ?_
    refine kz_cv1 (M := kt_M74) (c := 10) (o := 0) (As := []) (rest := []) kX11_hold_c8.2.1 wl_X11_304 wMv_95 rfl (.inl rfl) rfl (Nat.le_trans (Nat.le_of_ble_eq_true rfl) hL) (Nat.le_of_ble_eq_true rfl) (Nat.le_of_ble_eq_true rfl) h (fun v26 w25 hle h => ?_) (fun _ _ _ h => kzx_no rfl h)
    have h := h hle
    refine kz_sti_n (M := kt_M74) [(0, .ref (w_adr E.2.1 10 0)), (2, .int v24)] kX11_hold_c8.2.2.1 (Nat.le_of_ble_eq_true rfl) ⟨⟨rfl, rfl, .inl rfl⟩, ⟨⟨rfl, rfl, .inr rfl⟩, trivial⟩⟩ rfl ?_
    refine kz_ic (M := kt_M74) 0 kX11_hold_c8.2.2.2.1 rfl ?_
    refine kz_sti (M := kt_M74) [(0, .ref (w_adr E.2.1 10 0)), (2, .int v24), (3, .int v26)] kX11_hold_c8.2.2.2.2.1 (Nat.le_of_ble_eq_true rfl) ⟨⟨rfl, rfl, .inl rfl⟩, ⟨⟨rfl, rfl, .inl rfl⟩, ⟨⟨rfl, rfl, .inr rfl⟩, trivial⟩⟩⟩ rfl ?_
    exact kz_weak [(0, .ref (w_adr E.2.1 10 0)), (2, .int v24), (3, .int v26), (4, .int 0)] ⟨rfl, ⟨rfl, ⟨rfl, ⟨rfl, trivial⟩⟩⟩⟩ rfl h
  · skip
    refine kz_aload_n (M := kt_M74) kX11_hold_c10.2.2.1 rfl ?_
    refine kz_cv1 (M := kt_M74) (c := 10) (o := 0) (As := []) (rest := []) kX11_hold_c10.2.2.2.1 wl_X11_304 wMv_95 rfl (.inl rfl) rfl (Nat.le_trans (Nat.le_of_ble_eq_true rfl) hL) (Nat.le_of_ble_eq_true rfl) (Nat.le_of_ble_eq_true rfl) h (fun v28 w27 hle h => ?_) (fun _ _ _ h => kzx_no rfl h)
    have h := h hle
    refine kz_sti_n (M := kt_M74) [(0, .ref (w_adr E.2.1 10 0))] kX11_hold_c10.2.2.2.2.1 (Nat.le_of_ble_eq_true rfl) ⟨⟨rfl, rfl, .inl rfl⟩, trivial⟩ rfl ?_
    refine kz_aload_n (M := kt_M74) kX11_hold_c10.2.2.2.2.2.1 rfl ?_
    refine kz_cv1 (M := kt_M74) (c := 10) (o := 0) (As := []) (rest := []) kX11_hold_c10.2.2.2.2.2.2.1 wl_X11_304 wMv_95 rfl (.inl rfl) rfl (Nat.le_trans (Nat.le_of_ble_eq_true rfl) hL) (Nat.le_of_ble_eq_true rfl) (Nat.le_of_ble_eq_true rfl) h (fun v30 w29 hle h => ?_) (fun _ _ _ h => kzx_no rfl h)
    have h := h hle
    refine kz_sti_n (M := kt_M74) [(0, .ref (w_adr E.2.1 10 0)), (2, .int v28)] kX11_hold_c10.2.2.2.2.2.2.2.1 (Nat.le_of_ble_eq_true rfl) ⟨⟨rfl, rfl, .inl rfl⟩, ⟨⟨rfl, rfl, .inr rfl⟩, trivial⟩⟩ rfl ?_
    refine kz_aload_n (M := kt_M74) kX11_hold_c11.1 rfl ?_
    refine kz_gfp (M := kt_M74) (c := 10) (o := 0) kX11_hold_c11.2.1 wf_X11_110 (.inl rfl) ?_
    obtain ⟨p31, hxp31, hlp31, h⟩ := h
    refine kz_nz0 (x := w_p w29 10 0 21) hxp31 ?_
    refine kz_gfi (M := kt_M74) (c := 17) (o := p31) kX11_hold_c11.2.2.1 wf_X11_161 (.inr (by exact hlp31)) ?_
    refine kz_ic (M := kt_M74) 1 kX11_hold_c11.2.2.2.1 rfl ?_
    refine kz_isub (M := kt_M74) kX11_hold_c11.2.2.2.2.1 ?_
    refine kz_sti (M := kt_M74) [(0, .ref (w_adr E.2.1 10 0)), (2, .int v28), (3, .int v30)] kX11_hold_c11.2.2.2.2.2.1 (Nat.le_of_ble_eq_true rfl) ⟨⟨rfl, rfl, .inl rfl⟩, ⟨⟨rfl, rfl, .inl rfl⟩, ⟨⟨rfl, rfl, .inr rfl⟩, trivial⟩⟩⟩ rfl ?_
    refine kz_aload_n (M := kt_M74) kX11_hold_c11.2.2.2.2.2.2.1 rfl ?_
    refine kz_iload_n (M := kt_M74) kX11_hold_c11.2.2.2.2.2.2.2.1 rfl ?_
    refine kz_cv1 (M := kt_M74) (c := 10) (o := 0) (As := [.int v28]) (rest := []) kX11_hold_c12.1 wl_X11_342 wMv_101 rfl (.inl rfl) rfl (Nat.le_trans (Nat.le_of_ble_eq_true rfl) hL) (Nat.le_of_ble_eq_true rfl) (Nat.le_of_ble_eq_true rfl) h (fun v33 w32 hle h => ?_) (fun _ _ _ h => kzx_no rfl h)
    have h := h hle
    have hlp31 := w_l_le hlp31 hle
    refine kz_if_ne (M := kt_M74) kX11_hold_c12.2.1 (t := 234) rfl h (fun h => ?_) (fun h => ?_)
    · skip
      refine kz_iload (M := kt_M74) kX11_hold_c12.2.2.2.1 rfl ?_
      refine kz_if_lt (M := kt_M74) kX11_hold_c12.2.2.2.2.1 (t := 260) rfl h (fun h => ?_) (fun h => ?_)
      · skip
        exact kz_weak [(0, .ref (w_adr E.2.1 10 0)), (2, .int v28), (3, .int v30), (4, .int ((w_i w29 17 p31 17) - 1))] ⟨rfl, ⟨rfl, ⟨rfl, ⟨rfl, trivial⟩⟩⟩⟩ rfl (zt_X11_hold_p260 hL  h)
      · skip
        refine kz_aload_n (M := kt_M74) kX11_hold_c12.2.2.2.2.2.1 rfl ?_
        refine kz_gfp (M := kt_M74) (c := 10) (o := 0) kX11_hold_c12.2.2.2.2.2.2.1 wf_X11_110 (.inl rfl) ?_
        obtain ⟨p34, hxp34, hlp34, h⟩ := h
        refine kz_nz0 (x := w_p w32 10 0 21) hxp34 ?_
        refine kz_gfa (M := kt_M74) (c := 17) (o := p34) kX11_hold_c12.2.2.2.2.2.2.2.1 wf_X11_164 (.inr (by exact hlp34)) ?_
        refine kz_iload (M := kt_M74) kX11_hold_c13.1 rfl ?_
        refine kz_iald (M := kt_M74) (c := 17) (o := p34) (k := 14) (a := (w_d w32 17 p34 14)) kX11_hold_c13.2.1 (.inr ⟨.inr (by exact hlp34), rfl, rfl⟩) rfl ot_0 h (fun h => ?_)
        refine kz_bi (M := kt_M74) 13 kX11_hold_c13.2.2.1 rfl ?_
        refine kz_ishl (M := kt_M74) kX11_hold_c13.2.2.2.1 ?_
        refine kz_iload_n (M := kt_M74) kX11_hold_c13.2.2.2.2.1 rfl ?_
        refine kz_icmp_ne (M := kt_M74) kX11_hold_c13.2.2.2.2.2.1 (t := 260) rfl h (fun h => ?_) (fun h => ?_)
        · skip
          exact kz_weak [(0, .ref (w_adr E.2.1 10 0)), (2, .int v28), (3, .int v30), (4, .int ((w_i w29 17 p31 17) - 1))] ⟨rfl, ⟨rfl, ⟨rfl, ⟨rfl, trivial⟩⟩⟩⟩ rfl (zt_X11_hold_p260 hL  h)
        · skip
          refine kz_ic (M := kt_M74) 1 kX11_hold_c13.2.2.2.2.2.2.1 rfl ?_
          refine kz_goto (M := kt_M74) kX11_hold_c13.2.2.2.2.2.2.2.1 (t := 261) rfl ?_
          exact kz_weak [(0, .ref (w_adr E.2.1 10 0)), (2, .int v28), (3, .int v30), (4, .int ((w_i w29 17 p31 17) - 1))] ⟨rfl, ⟨rfl, ⟨rfl, ⟨rfl, trivial⟩⟩⟩⟩ rfl (zt_X11_hold_p261 hL  h)
    · skip
      exact kz_ret (M := kt_M74) kX11_hold_c12.2.2.1 rfl h
  · skip
    refine kz_aload_n (M := kt_M74) kX11_hold_c18.2.2.2.2.2.2.2.1 rfl ?_
    refine kz_cv1 (M := kt_M74) (c := 10) (o := 0) (As := []) (rest := []) kX11_hold_c19.1 wl_X11_304 wMv_95 rfl (.inl rfl) rfl (Nat.le_trans (Nat.le_of_ble_eq_true rfl) hL) (Nat.le_of_ble_eq_true rfl) (Nat.le_of_ble_eq_true rfl) h (fun v36 w35 hle h => ?_) (fun _ _ _ h => kzx_no rfl h)
    have h := h hle
    refine kz_sti_n (M := kt_M74) [(0, .ref (w_adr E.2.1 10 0))] kX11_hold_c19.2.1 (Nat.le_of_ble_eq_true rfl) ⟨⟨rfl, rfl, .inl rfl⟩, trivial⟩ rfl ?_
    refine kz_aload_n (M := kt_M74) kX11_hold_c19.2.2.1 rfl ?_
    refine kz_gfc (M := kt_M74) (x := 44) (c := 10) (o := 0) kX11_hold_c19.2.2.2.1 wf_X11_12 (.inl rfl) ?_
    refine kz_iload_n (M := kt_M74) kX11_hold_c19.2.2.2.2.1 rfl ?_
    refine kz_aload_n (M := kt_M74) kX11_hold_c19.2.2.2.2.2.1 rfl ?_
    refine kz_cv1 (M := kt_M74) (c := 10) (o := 0) (As := []) (rest := [.int v36, .ref (w_adr E.2.1 11 0)]) kX11_hold_c19.2.2.2.2.2.2.1 wl_X11_304 wMv_95 rfl (.inl rfl) rfl (Nat.le_trans (Nat.le_of_ble_eq_true rfl) hL) (Nat.le_of_ble_eq_true rfl) (Nat.le_of_ble_eq_true rfl) h (fun v38 w37 hle h => ?_) (fun _ _ _ h => kzx_no rfl h)
    have h := h hle
    refine kz_cv0 (M := kt_M74) (c := 11) (o := 0) (As := [.int v36, .int v38]) (rest := []) kX11_hold_c19.2.2.2.2.2.2.2.1 wl_X11_348 wMv_127 rfl (.inl rfl) rfl (Nat.le_trans (Nat.le_of_ble_eq_true rfl) hL) (Nat.le_of_ble_eq_true rfl) (Nat.le_of_ble_eq_true rfl) h (fun w39 hle h => ?_) (fun _ _ _ h => kzx_no rfl h)
    have h := h hle
    refine kz_goto (M := kt_M74) kX11_hold_c20.1 (t := 433) rfl ?_
    exact kz_weak [(0, .ref (w_adr E.2.1 10 0))] ⟨rfl, trivial⟩ rfl (zt_X11_hold_p433 hL  h)
  · skip
    refine kz_aload_n (M := kt_M74) kX11_hold_c20.2.1 rfl ?_
    refine kz_cv1 (M := kt_M74) (c := 10) (o := 0) (As := []) (rest := []) kX11_hold_c20.2.2.1 wl_X11_304 wMv_95 rfl (.inl rfl) rfl (Nat.le_trans (Nat.le_of_ble_eq_true rfl) hL) (Nat.le_of_ble_eq_true rfl) (Nat.le_of_ble_eq_true rfl) h (fun v42 w41 hle h => ?_) (fun _ _ _ h => kzx_no rfl h)
    have h := h hle
    refine kz_sti_n (M := kt_M74) [(0, .ref (w_adr E.2.1 10 0))] kX11_hold_c20.2.2.2.1 (Nat.le_of_ble_eq_true rfl) ⟨⟨rfl, rfl, .inl rfl⟩, trivial⟩ rfl ?_
    refine kz_aload_n (M := kt_M74) kX11_hold_c20.2.2.2.2.1 rfl ?_
    refine kz_gfc (M := kt_M74) (x := 44) (c := 10) (o := 0) kX11_hold_c20.2.2.2.2.2.1 wf_X11_12 (.inl rfl) ?_
    refine kz_iload_n (M := kt_M74) kX11_hold_c20.2.2.2.2.2.2.1 rfl ?_
    refine kz_ic (M := kt_M74) 1 kX11_hold_c20.2.2.2.2.2.2.2.1 rfl ?_
    refine kz_iadd (M := kt_M74) kX11_hold_c21.1 ?_
    refine kz_aload_n (M := kt_M74) kX11_hold_c21.2.1 rfl ?_
    refine kz_cv1 (M := kt_M74) (c := 10) (o := 0) (As := []) (rest := [.int (v42 + 1), .ref (w_adr E.2.1 11 0)]) kX11_hold_c21.2.2.1 wl_X11_304 wMv_95 rfl (.inl rfl) rfl (Nat.le_trans (Nat.le_of_ble_eq_true rfl) hL) (Nat.le_of_ble_eq_true rfl) (Nat.le_of_ble_eq_true rfl) h (fun v44 w43 hle h => ?_) (fun _ _ _ h => kzx_no rfl h)
    have h := h hle
    refine kz_cv0 (M := kt_M74) (c := 11) (o := 0) (As := [.int (v42 + 1), .int v44]) (rest := []) kX11_hold_c21.2.2.2.1 wl_X11_348 wMv_127 rfl (.inl rfl) rfl (Nat.le_trans (Nat.le_of_ble_eq_true rfl) hL) (Nat.le_of_ble_eq_true rfl) (Nat.le_of_ble_eq_true rfl) h (fun w45 hle h => ?_) (fun _ _ _ h => kzx_no rfl h)
    have h := h hle
    refine kz_aload_n (M := kt_M74) kX11_hold_c21.2.2.2.2.1 rfl ?_
    refine kz_gfc (M := kt_M74) (x := 44) (c := 10) (o := 0) kX11_hold_c21.2.2.2.2.2.1 wf_X11_12 (.inl rfl) ?_
    refine kz_iload_n (M := kt_M74) kX11_hold_c21.2.2.2.2.2.2.1 rfl ?_
    refine kz_aload_n (M := kt_M74) kX11_hold_c21.2.2.2.2.2.2.2.1 rfl ?_
    refine kz_cv1 (M := kt_M74) (c := 10) (o := 0) (As := []) (rest := [.int v42, .ref (w_adr E.2.1 11 0)]) kX11_hold_c22.1 wl_X11_304 wMv_95 rfl (.inl rfl) rfl (Nat.le_trans (Nat.le_of_ble_eq_true rfl) hL) (Nat.le_of_ble_eq_true rfl) (Nat.le_of_ble_eq_true rfl) h (fun v48 w47 hle h => ?_) (fun _ _ _ h => kzx_no rfl h)
    have h := h hle
    refine kz_cv0 (M := kt_M74) (c := 11) (o := 0) (As := [.int v42, .int v48]) (rest := []) kX11_hold_c22.2.1 wl_X11_348 wMv_127 rfl (.inl rfl) rfl (Nat.le_trans (Nat.le_of_ble_eq_true rfl) hL) (Nat.le_of_ble_eq_true rfl) (Nat.le_of_ble_eq_true rfl) h (fun w49 hle h => ?_) (fun _ _ _ h => kzx_no rfl h)
    have h := h hle
    refine kz_goto (M := kt_M74) kX11_hold_c22.2.2.1 (t := 433) rfl ?_
    exact kz_weak [(0, .ref (w_adr E.2.1 10 0))] ⟨rfl, trivial⟩ rfl (zt_X11_hold_p433 hL  h)
  · skip
    refine kz_aload_n (M := kt_M74) kX11_hold_c22.2.2.2.1 rfl ?_
    refine kz_aload_n (M := kt_M74) kX11_hold_c22.2.2.2.2.1 rfl ?_
    refine kz_cv1 (M := kt_M74) (c := 10) (o := 0) (As := []) (rest := [.ref (w_adr E.2.1 10 0)]) kX11_hold_c22.2.2.2.2.2.1 wl_X11_276 wMv_88 rfl (.inl rfl) rfl (Nat.le_trans (Nat.le_of_ble_eq_true rfl) hL) (Nat.le_of_ble_eq_true rfl) (Nat.le_of_ble_eq_true rfl) h (fun v52 w51 hle h => ?_) (fun _ _ _ h => kzx_no rfl h)
    have h := h hle
    refine kz_cv0 (M := kt_M74) (c := 10) (o := 0) (As := [.int v52]) (rest := []) kX11_hold_c22.2.2.2.2.2.2.1 wl_X11_351 wMv_60 rfl (.inl rfl) rfl (Nat.le_trans (Nat.le_of_ble_eq_true rfl) hL) (Nat.le_of_ble_eq_true rfl) (Nat.le_of_ble_eq_true rfl) h (fun w53 hle h => ?_) (fun _ _ _ h => kzx_no rfl h)
    have h := h hle
    refine kz_goto (M := kt_M74) kX11_hold_c22.2.2.2.2.2.2.2.1 (t := 433) rfl ?_
    exact kz_weak [(0, .ref (w_adr E.2.1 10 0))] ⟨rfl, trivial⟩ rfl (zt_X11_hold_p433 hL  h)
  · skip
    refine kz_aload_n (M := kt_M74) kX11_hold_c23.1 rfl ?_
    refine kz_gfa (M := kt_M74) (c := 10) (o := 0) kX11_hold_c23.2.1 wf_X11_38 (.inl rfl) ?_
    refine kz_aload_n (M := kt_M74) kX11_hold_c23.2.2.1 rfl ?_
    refine kz_gfi (M := kt_M74) (c := 10) (o := 0) kX11_hold_c23.2.2.2.1 wf_X11_45 (.inl rfl) ?_
    refine kz_ic (M := kt_M74) 1 kX11_hold_c23.2.2.2.2.1 rfl ?_
    refine kz_isub (M := kt_M74) kX11_hold_c23.2.2.2.2.2.1 ?_
    refine kz_iald (M := kt_M74) (c := 10) (o := 0) (k := 30) (a := (w_d w 10 0 30)) kX11_hold_c23.2.2.2.2.2.2.1 ow_10_0_30 oa_10_0_30 ot_0 h (fun h => ?_)
    refine kz_aload_n (M := kt_M74) kX11_hold_c23.2.2.2.2.2.2.2.1 rfl ?_
    refine kz_cv1 (M := kt_M74) (c := 10) (o := 0) (As := []) (rest := [.int (w_a w 10 0 30 (((w_i w 10 0 29) - 1)).toNatClampNeg)]) kX11_hold_c24.1 wl_X11_276 wMv_88 rfl (.inl rfl) rfl (Nat.le_trans (Nat.le_of_ble_eq_true rfl) hL) (Nat.le_of_ble_eq_true rfl) (Nat.le_of_ble_eq_true rfl) h (fun v56 w55 hle h => ?_) (fun _ _ _ h => kzx_no rfl h)
    have h := h hle
    refine kz_icmp_eq (M := kt_M74) kX11_hold_c24.2.1 (t := 433) rfl h (fun h => ?_) (fun h => ?_)
    · skip
      exact kz_weak [(0, .ref (w_adr E.2.1 10 0))] ⟨rfl, trivial⟩ rfl (zt_X11_hold_p433 hL  h)
    · skip
      refine kz_aload_n (M := kt_M74) kX11_hold_c24.2.2.1 rfl ?_
      refine kz_bi (M := kt_M74) 9 kX11_hold_c24.2.2.2.1 rfl ?_
      refine kz_cv0 (M := kt_M74) (c := 10) (o := 0) (As := [.int 9]) (rest := []) kX11_hold_c24.2.2.2.2.1 wl_X11_295 wMv_107 rfl (.inl rfl) rfl (Nat.le_trans (Nat.le_of_ble_eq_true rfl) hL) (Nat.le_of_ble_eq_true rfl) (Nat.le_of_ble_eq_true rfl) h (fun w57 hle h => ?_) (fun _ _ _ h => kzx_no rfl h)
      have h := h hle
      refine kz_goto (M := kt_M74) kX11_hold_c24.2.2.2.2.2.1 (t := 433) rfl ?_
      exact kz_weak [(0, .ref (w_adr E.2.1 10 0))] ⟨rfl, trivial⟩ rfl (zt_X11_hold_p433 hL  h)
  · skip
    refine kz_aload_n (M := kt_M74) kX11_hold_c24.2.2.2.2.2.2.1 rfl ?_
    refine kz_cv0 (M := kt_M74) (c := 10) (o := 0) (As := []) (rest := []) kX11_hold_c24.2.2.2.2.2.2.2.1 wl_X11_354 wMv_103 rfl (.inl rfl) rfl (Nat.le_trans (Nat.le_of_ble_eq_true rfl) hL) (Nat.le_of_ble_eq_true rfl) (Nat.le_of_ble_eq_true rfl) h (fun w59 hle h => ?_) (fun _ _ _ h => kzx_no rfl h)
    have h := h hle
    exact kz_weak [(0, .ref (w_adr E.2.1 10 0))] ⟨rfl, trivial⟩ rfl (zt_X11_hold_p433 hL  h)
def zb_X11_room_p0 (E : zE) (L : Nat) (Q : kx_Rs → wS → Prop) (x1 : Int32) (w : wS) : Prop := (if ((w_i w 10 0 10) + x1) ≤ 20000 then Q (.inl (some (.int 1))) (ws_i w 10 0 10 ((w_i w 10 0 10) + x1)) else zw E (L - 21) kt_M107 [.ref (w_adr E.2.1 10 0), .int 10] w (wk0 (fun w1 => wle w w1 → Q (.inl (some (.int 0))) w1) (fun e w => Q (.inr e) w)))
theorem zt_X11_room_p0 {E : zE} {L : Nat} {Q : kx_Rs → wS → Prop} {x1 : Int32} {w : wS} (hL : 21 ≤ L) (h : zb_X11_room_p0 E L Q x1 w) : kzE E L kt_M101 0 [(0, .ref (w_adr E.2.1 10 0)), (1, .int x1)] [] w Q := by
  unfold zb_X11_room_p0 at h
  refine kz_aload_n (M := kt_M101) kX11_room_c0.1 rfl ?_
  refine kz_gfi (M := kt_M101) (c := 10) (o := 0) kX11_room_c0.2.1 wf_X11_183 (.inl rfl) ?_
  refine kz_iload_n (M := kt_M101) kX11_room_c0.2.2.1 rfl ?_
  refine kz_iadd (M := kt_M101) kX11_room_c0.2.2.2.1 ?_
  refine kz_si (M := kt_M101) 20000 kX11_room_c0.2.2.2.2.1 rfl ?_
  refine kz_icmp_le (M := kt_M101) kX11_room_c0.2.2.2.2.2.1 (t := 20) rfl h (fun h => ?_) (fun h => ?_)
  · skip
    refine kz_aload_n (M := kt_M101) kX11_room_c1.2.2.2.1 rfl ?_
    refine kz_dup (M := kt_M101) kX11_room_c1.2.2.2.2.1 rfl ?_
    refine kz_gfi (M := kt_M101) (c := 10) (o := 0) kX11_room_c1.2.2.2.2.2.1 wf_X11_183 (.inl rfl) ?_
    refine kz_iload_n (M := kt_M101) kX11_room_c1.2.2.2.2.2.2.1 rfl ?_
    refine kz_iadd (M := kt_M101) kX11_room_c1.2.2.2.2.2.2.2.1 ?_
    refine kz_pfi (M := kt_M101) (c := 10) (o := 0) kX11_room_c2.1 wq_X11_183 (.inl rfl) ?_
    refine kz_ic (M := kt_M101) 1 kX11_room_c2.2.1 rfl ?_
    exact kz_iretz (M := kt_M101) kX11_room_c2.2.2.1 rfl (by decide) h
  · skip
    refine kz_aload_n (M := kt_M101) kX11_room_c0.2.2.2.2.2.2.1 rfl ?_
    refine kz_bi (M := kt_M101) 10 kX11_room_c0.2.2.2.2.2.2.2.1 rfl ?_
    refine kz_cv0 (M := kt_M101) (c := 10) (o := 0) (As := [.int 10]) (rest := []) kX11_room_c1.1 wl_X11_295 wMv_107 rfl (.inl rfl) rfl (Nat.le_trans (Nat.le_of_ble_eq_true rfl) hL) (Nat.le_of_ble_eq_true rfl) (Nat.le_of_ble_eq_true rfl) h (fun w1 hle h => ?_) (fun _ _ _ h => kzx_no rfl h)
    have h := h hle
    refine kz_ic (M := kt_M101) 0 kX11_room_c1.2.1 rfl ?_
    exact kz_iretz (M := kt_M101) kX11_room_c1.2.2.1 rfl (by decide) h
def zb_X11_free_p22 (E : zE) (L : Nat) (Q : kx_Rs → wS → Prop) (x1 : Int32) (w : wS) : Prop := zw E (L - 21) kt_M122 [.ref (w_adr E.2.1 11 0), .int x1] w (wk0 (fun w1 => wle w w1 → Q (.inl none) w1) (fun e w => Q (.inr e) w))
theorem zt_X11_free_p22 {E : zE} {L : Nat} {Q : kx_Rs → wS → Prop} {x1 : Int32} {w : wS} (hL : 21 ≤ L) (h : zb_X11_free_p22 E L Q x1 w) : kzE E L kt_M73 22 [(0, .ref (w_adr E.2.1 10 0)), (1, .int x1)] [] w Q := by
  unfold zb_X11_free_p22 at h
  refine kz_aload_n (M := kt_M73) kX11_free_c1.2.2.2.2.1 rfl ?_
  refine kz_gfc (M := kt_M73) (x := 44) (c := 10) (o := 0) kX11_free_c1.2.2.2.2.2.1 wf_X11_12 (.inl rfl) ?_
  refine kz_iload_n (M := kt_M73) kX11_free_c1.2.2.2.2.2.2.1 rfl ?_
  refine kz_cv0 (M := kt_M73) (c := 11) (o := 0) (As := [.int x1]) (rest := []) kX11_free_c1.2.2.2.2.2.2.2.1 wl_X11_141 wMv_122 rfl (.inl rfl) rfl (Nat.le_trans (Nat.le_of_ble_eq_true rfl) hL) (Nat.le_of_ble_eq_true rfl) (Nat.le_of_ble_eq_true rfl) h (fun w1 hle h => ?_) (fun _ _ _ h => kzx_no rfl h)
  have h := h hle
  exact kz_ret (M := kt_M73) kX11_free_c2.1 rfl h
def zb_X11_free_p0 (E : zE) (L : Nat) (Q : kx_Rs → wS → Prop) (x1 : Int32) (x2 : Int32) (w : wS) : Prop := (if x2 = 0 then zb_X11_free_p22 E L Q x1 w else (kx_inb x1 (w_n w 11 0 2) = true ∧ zb_X11_free_p22 E L Q x1 (ws_i w 10 0 10 ((w_i w 10 0 10) - (w_a w 11 0 2 (x1).toNatClampNeg)))))
theorem zt_X11_free_p0 {E : zE} {L : Nat} {Q : kx_Rs → wS → Prop} {x1 : Int32} {x2 : Int32} {w : wS} (hL : 21 ≤ L) (h : zb_X11_free_p0 E L Q x1 x2 w) : kzE E L kt_M73 0 [(0, .ref (w_adr E.2.1 10 0)), (1, .int x1), (2, .int x2)] [] w Q := by
  unfold zb_X11_free_p0 at h
  refine kz_iload_n (M := kt_M73) kX11_free_c0.1 rfl ?_
  refine kz_if_eq (M := kt_M73) kX11_free_c0.2.1 (t := 22) rfl h (fun h => ?_) (fun h => ?_)
  · skip
    exact kz_weak [(0, .ref (w_adr E.2.1 10 0)), (1, .int x1)] ⟨rfl, ⟨rfl, trivial⟩⟩ rfl (zt_X11_free_p22 hL  h)
  · skip
    refine kz_aload_n (M := kt_M73) kX11_free_c0.2.2.1 rfl ?_
    refine kz_dup (M := kt_M73) kX11_free_c0.2.2.2.1 rfl ?_
    refine kz_gfi (M := kt_M73) (c := 10) (o := 0) kX11_free_c0.2.2.2.2.1 wf_X11_183 (.inl rfl) ?_
    refine kz_aload_n (M := kt_M73) kX11_free_c0.2.2.2.2.2.1 rfl ?_
    refine kz_gfc (M := kt_M73) (x := 44) (c := 10) (o := 0) kX11_free_c0.2.2.2.2.2.2.1 wf_X11_12 (.inl rfl) ?_
    refine kz_gfNa (M := kt_M73) (c := 11) (o := 0) kX11_free_c0.2.2.2.2.2.2.2.1 wfn_X11_357 (.inl rfl) ?_
    refine kz_iload_n (M := kt_M73) kX11_free_c1.1 rfl ?_
    refine kz_iald (M := kt_M73) (c := 11) (o := 0) (k := 2) (a := (w_d w 11 0 2)) kX11_free_c1.2.1 ow_11_0_2 oa_11_0_2 ot_0 h (fun h => ?_)
    refine kz_isub (M := kt_M73) kX11_free_c1.2.2.1 ?_
    refine kz_pfi (M := kt_M73) (c := 10) (o := 0) kX11_free_c1.2.2.2.1 wq_X11_183 (.inl rfl) ?_
    exact kz_weak [(0, .ref (w_adr E.2.1 10 0)), (1, .int x1)] ⟨rfl, ⟨rfl, trivial⟩⟩ rfl (zt_X11_free_p22 hL  h)
def zL_X11_assign_p65 (E : zE) (L : Nat) (Q : kx_Rs → wS → Prop) (x1 : Int32) (x3 : Int32) (x4 : Int32) (x5 : Int32) (w : wS) : Prop := kzE E L kt_M60 65 [(0, .ref (w_adr E.2.1 10 0)), (1, .int x1), (3, .int x3), (4, .int x4), (5, .int x5)] [] w Q
def zL_X11_assign_p4 (E : zE) (L : Nat) (Q : kx_Rs → wS → Prop) (x1 : Int32) (x2 : Int32) (x3 : Int32) (w : wS) : Prop := kzE E L kt_M60 4 [(0, .ref (w_adr E.2.1 10 0)), (1, .int x1), (2, .int x2), (3, .int x3)] [] w Q
def zb_X11_assign_p168 (E : zE) (L : Nat) (Q : kx_Rs → wS → Prop) (x1 : Int32) (x3 : Int32) (x4 : Int32) (x5 : Int32) (w : wS) : Prop := zL_X11_assign_p65 E L Q x1 x3 x4 (x5 + 1) w
theorem zt_X11_assign_p168 {E : zE} {L : Nat} {Q : kx_Rs → wS → Prop} {x1 : Int32} {x3 : Int32} {x4 : Int32} {x5 : Int32} {w : wS} (hL : 23 ≤ L) (h : zb_X11_assign_p168 E L Q x1 x3 x4 x5 w) : kzE E L kt_M60 168 [(0, .ref (w_adr E.2.1 10 0)), (1, .int x1), (3, .int x3), (4, .int x4), (5, .int x5)] [] w Q := by
  unfold zb_X11_assign_p168 at h
  refine kz_inc (M := kt_M60) [(0, .ref (w_adr E.2.1 10 0)), (1, .int x1), (3, .int x3), (4, .int x4)] kX11_assign_c12.2.2.2.1 rfl (Nat.le_of_ble_eq_true rfl) ⟨⟨rfl, rfl, .inl rfl⟩, ⟨⟨rfl, rfl, .inl rfl⟩, ⟨⟨rfl, rfl, .inl rfl⟩, ⟨⟨rfl, rfl, .inr rfl⟩, trivial⟩⟩⟩⟩ rfl ?_
  refine kz_goto (M := kt_M60) kX11_assign_c12.2.2.2.2.1 (t := 65) rfl ?_
  exact kz_weak [(0, .ref (w_adr E.2.1 10 0)), (1, .int x1), (3, .int x3), (4, .int x4), (5, .int (x5 + 1))] ⟨rfl, ⟨rfl, ⟨rfl, ⟨rfl, ⟨rfl, trivial⟩⟩⟩⟩⟩ rfl h
def zb_X11_assign_p65 (E : zE) (L : Nat) (Q : kx_Rs → wS → Prop) (x1 : Int32) (x3 : Int32) (x4 : Int32) (x5 : Int32) (w : wS) : Prop := (if x1 ≤ x5 then Q (.inl none) w else zw E (L - 20) kt_M88 [.ref (w_adr E.2.1 10 0)] w (wk1 (fun v2 w1 => wle w w1 → (if ¬ v2 = 0 then (kx_inb (x4 + 1) (w_n w1 10 0 30) = true ∧ (kx_inb (x3 + 1) (w_n w1 10 0 30) = true ∧ (if w_a w1 10 0 30 ((x4 + 1)).toNatClampNeg = w_a w1 10 0 30 ((x3 + 1)).toNatClampNeg then (kx_inb x4 (w_n w1 10 0 30) = true ∧ (kx_inb x3 (w_n w1 10 0 30) = true ∧ (kx_inb (x3 + 1) (w_n w1 10 0 30) = true ∧ zw E (L - 23) kt_M126 [.ref (w_adr E.2.1 11 0), .int (w_a w1 10 0 30 (x4).toNatClampNeg), .int (w_a w1 10 0 30 (x3).toNatClampNeg), .int (w_a w1 10 0 30 ((x3 + 1)).toNatClampNeg)] w1 (wk0 (fun w3 => wle w1 w3 → zb_X11_assign_p168 E L Q x1 (x3 + 2) (x4 + 2) x5 w3) (fun e w => Q (.inr e) w))))) else zw E (L - 21) kt_M107 [.ref (w_adr E.2.1 10 0), .int 9] w1 (wk0 (fun w5 => wle w1 w5 → Q (.inl none) w5) (fun e w => Q (.inr e) w))))) else (kx_inb x4 (w_n w1 10 0 30) = true ∧ (kx_inb x3 (w_n w1 10 0 30) = true ∧ zw E (L - 22) kt_M127 [.ref (w_adr E.2.1 11 0), .int (w_a w1 10 0 30 (x4).toNatClampNeg), .int (w_a w1 10 0 30 (x3).toNatClampNeg)] w1 (wk0 (fun w7 => wle w1 w7 → zb_X11_assign_p168 E L Q x1 (x3 + 1) (x4 + 1) x5 w7) (fun e w => Q (.inr e) w)))))) (fun e w => Q (.inr e) w)))
theorem zt_X11_assign_p65 {E : zE} {L : Nat} {Q : kx_Rs → wS → Prop} {x1 : Int32} {x3 : Int32} {x4 : Int32} {x5 : Int32} {w : wS} (hL : 23 ≤ L) (h : zb_X11_assign_p65 E L Q x1 x3 x4 x5 w) : kzE E L kt_M60 65 [(0, .ref (w_adr E.2.1 10 0)), (1, .int x1), (3, .int x3), (4, .int x4), (5, .int x5)] [] w Q := by
  unfold zb_X11_assign_p65 at h
  refine kz_iload (M := kt_M60) kX11_assign_c5.2.2.2.1 rfl ?_
  refine kz_iload_n (M := kt_M60) kX11_assign_c5.2.2.2.2.1 rfl ?_
  refine kz_icmp_ge (M := kt_M60) kX11_assign_c5.2.2.2.2.2.1 (t := 174) rfl h (fun h => ?_) (fun h => ?_)
  · skip
    exact kz_ret (M := kt_M60) kX11_assign_c12.2.2.2.2.2.1 rfl h
  · skip
    refine kz_aload_n (M := kt_M60) kX11_assign_c5.2.2.2.2.2.2.1 rfl ?_
    refine kz_cv1 (M := kt_M60) (c := 10) (o := 0) (As := []) (rest := []) kX11_assign_c5.2.2.2.2.2.2.2.1 wl_X11_276 wMv_88 rfl (.inl rfl) rfl (Nat.le_trans (Nat.le_of_ble_eq_true rfl) hL) (Nat.le_of_ble_eq_true rfl) (Nat.le_of_ble_eq_true rfl) h (fun v2 w1 hle h => ?_) (fun _ _ _ h => kzx_no rfl h)
    have h := h hle
    refine kz_if_ne (M := kt_M60) kX11_assign_c6.1 (t := 107) rfl h (fun h => ?_) (fun h => ?_)
    · skip
      refine kz_aload_n (M := kt_M60) kX11_assign_c7.2.2.2.2.2.2.2.1 rfl ?_
      refine kz_gfa (M := kt_M60) (c := 10) (o := 0) kX11_assign_c8.1 wf_X11_38 (.inl rfl) ?_
      refine kz_iload (M := kt_M60) kX11_assign_c8.2.1 rfl ?_
      refine kz_ic (M := kt_M60) 1 kX11_assign_c8.2.2.1 rfl ?_
      refine kz_iadd (M := kt_M60) kX11_assign_c8.2.2.2.1 ?_
      refine kz_iald (M := kt_M60) (c := 10) (o := 0) (k := 30) (a := (w_d w1 10 0 30)) kX11_assign_c8.2.2.2.2.1 ow_10_0_30 oa_10_0_30 ot_0 h (fun h => ?_)
      refine kz_aload_n (M := kt_M60) kX11_assign_c8.2.2.2.2.2.1 rfl ?_
      refine kz_gfa (M := kt_M60) (c := 10) (o := 0) kX11_assign_c8.2.2.2.2.2.2.1 wf_X11_38 (.inl rfl) ?_
      refine kz_iload_n (M := kt_M60) kX11_assign_c8.2.2.2.2.2.2.2.1 rfl ?_
      refine kz_ic (M := kt_M60) 1 kX11_assign_c9.1 rfl ?_
      refine kz_iadd (M := kt_M60) kX11_assign_c9.2.1 ?_
      refine kz_iald (M := kt_M60) (c := 10) (o := 0) (k := 30) (a := (w_d w1 10 0 30)) kX11_assign_c9.2.2.1 ow_10_0_30 oa_10_0_30 ot_0 h (fun h => ?_)
      refine kz_icmp_eq (M := kt_M60) kX11_assign_c9.2.2.2.1 (t := 134) rfl h (fun h => ?_) (fun h => ?_)
      · skip
        refine kz_aload_n (M := kt_M60) kX11_assign_c10.1 rfl ?_
        refine kz_gfc (M := kt_M60) (x := 44) (c := 10) (o := 0) kX11_assign_c10.2.1 wf_X11_12 (.inl rfl) ?_
        refine kz_aload_n (M := kt_M60) kX11_assign_c10.2.2.1 rfl ?_
        refine kz_gfa (M := kt_M60) (c := 10) (o := 0) kX11_assign_c10.2.2.2.1 wf_X11_38 (.inl rfl) ?_
        refine kz_iload (M := kt_M60) kX11_assign_c10.2.2.2.2.1 rfl ?_
        refine kz_iald (M := kt_M60) (c := 10) (o := 0) (k := 30) (a := (w_d w1 10 0 30)) kX11_assign_c10.2.2.2.2.2.1 ow_10_0_30 oa_10_0_30 ot_0 h (fun h => ?_)
        refine kz_aload_n (M := kt_M60) kX11_assign_c10.2.2.2.2.2.2.1 rfl ?_
        refine kz_gfa (M := kt_M60) (c := 10) (o := 0) kX11_assign_c10.2.2.2.2.2.2.2.1 wf_X11_38 (.inl rfl) ?_
        refine kz_iload_n (M := kt_M60) kX11_assign_c11.1 rfl ?_
        refine kz_iald (M := kt_M60) (c := 10) (o := 0) (k := 30) (a := (w_d w1 10 0 30)) kX11_assign_c11.2.1 ow_10_0_30 oa_10_0_30 ot_0 h (fun h => ?_)
        refine kz_aload_n (M := kt_M60) kX11_assign_c11.2.2.1 rfl ?_
        refine kz_gfa (M := kt_M60) (c := 10) (o := 0) kX11_assign_c11.2.2.2.1 wf_X11_38 (.inl rfl) ?_
        refine kz_iload_n (M := kt_M60) kX11_assign_c11.2.2.2.2.1 rfl ?_
        refine kz_ic (M := kt_M60) 1 kX11_assign_c11.2.2.2.2.2.1 rfl ?_
        refine kz_iadd (M := kt_M60) kX11_assign_c11.2.2.2.2.2.2.1 ?_
        refine kz_iald (M := kt_M60) (c := 10) (o := 0) (k := 30) (a := (w_d w1 10 0 30)) kX11_assign_c11.2.2.2.2.2.2.2.1 ow_10_0_30 oa_10_0_30 ot_0 h (fun h => ?_)
        refine kz_cv0 (M := kt_M60) (c := 11) (o := 0) (As := [.int (w_a w1 10 0 30 (x4).toNatClampNeg), .int (w_a w1 10 0 30 (x3).toNatClampNeg), .int (w_a w1 10 0 30 ((x3 + 1)).toNatClampNeg)]) (rest := []) kX11_assign_c12.1 wl_X11_336 wMv_126 rfl (.inl rfl) rfl (Nat.le_trans (Nat.le_of_ble_eq_true rfl) hL) (Nat.le_of_ble_eq_true rfl) (Nat.le_of_ble_eq_true rfl) h (fun w3 hle h => ?_) (fun _ _ _ h => kzx_no rfl h)
        have h := h hle
        refine kz_inc (M := kt_M60) [(0, .ref (w_adr E.2.1 10 0)), (1, .int x1), (3, .int x3), (5, .int x5)] kX11_assign_c12.2.1 rfl (Nat.le_of_ble_eq_true rfl) ⟨⟨rfl, rfl, .inl rfl⟩, ⟨⟨rfl, rfl, .inl rfl⟩, ⟨⟨rfl, rfl, .inr rfl⟩, ⟨⟨rfl, rfl, .inl rfl⟩, trivial⟩⟩⟩⟩ rfl ?_
        refine kz_inc (M := kt_M60) [(0, .ref (w_adr E.2.1 10 0)), (1, .int x1), (4, .int (x4 + 2)), (5, .int x5)] kX11_assign_c12.2.2.1 rfl (Nat.le_of_ble_eq_true rfl) ⟨⟨rfl, rfl, .inl rfl⟩, ⟨⟨rfl, rfl, .inl rfl⟩, ⟨⟨rfl, rfl, .inl rfl⟩, ⟨⟨rfl, rfl, .inl rfl⟩, trivial⟩⟩⟩⟩ rfl ?_
        exact kz_weak [(0, .ref (w_adr E.2.1 10 0)), (1, .int x1), (3, .int (x3 + 2)), (4, .int (x4 + 2)), (5, .int x5)] ⟨rfl, ⟨rfl, ⟨rfl, ⟨rfl, ⟨rfl, trivial⟩⟩⟩⟩⟩ rfl (zt_X11_assign_p168 hL  h)
      · skip
        refine kz_aload_n (M := kt_M60) kX11_assign_c9.2.2.2.2.1 rfl ?_
        refine kz_bi (M := kt_M60) 9 kX11_assign_c9.2.2.2.2.2.1 rfl ?_
        refine kz_cv0 (M := kt_M60) (c := 10) (o := 0) (As := [.int 9]) (rest := []) kX11_assign_c9.2.2.2.2.2.2.1 wl_X11_295 wMv_107 rfl (.inl rfl) rfl (Nat.le_trans (Nat.le_of_ble_eq_true rfl) hL) (Nat.le_of_ble_eq_true rfl) (Nat.le_of_ble_eq_true rfl) h (fun w5 hle h => ?_) (fun _ _ _ h => kzx_no rfl h)
        have h := h hle
        exact kz_ret (M := kt_M60) kX11_assign_c9.2.2.2.2.2.2.2.1 rfl h
    · skip
      refine kz_aload_n (M := kt_M60) kX11_assign_c6.2.1 rfl ?_
      refine kz_gfc (M := kt_M60) (x := 44) (c := 10) (o := 0) kX11_assign_c6.2.2.1 wf_X11_12 (.inl rfl) ?_
      refine kz_aload_n (M := kt_M60) kX11_assign_c6.2.2.2.1 rfl ?_
      refine kz_gfa (M := kt_M60) (c := 10) (o := 0) kX11_assign_c6.2.2.2.2.1 wf_X11_38 (.inl rfl) ?_
      refine kz_iload (M := kt_M60) kX11_assign_c6.2.2.2.2.2.1 rfl ?_
      refine kz_inc (M := kt_M60) [(0, .ref (w_adr E.2.1 10 0)), (1, .int x1), (3, .int x3), (5, .int x5)] kX11_assign_c6.2.2.2.2.2.2.1 rfl (Nat.le_of_ble_eq_true rfl) ⟨⟨rfl, rfl, .inl rfl⟩, ⟨⟨rfl, rfl, .inl rfl⟩, ⟨⟨rfl, rfl, .inr rfl⟩, ⟨⟨rfl, rfl, .inl rfl⟩, trivial⟩⟩⟩⟩ rfl ?_
      refine kz_iald (M := kt_M60) (c := 10) (o := 0) (k := 30) (a := (w_d w1 10 0 30)) kX11_assign_c6.2.2.2.2.2.2.2.1 ow_10_0_30 oa_10_0_30 ot_0 h (fun h => ?_)
      refine kz_aload_n (M := kt_M60) kX11_assign_c7.1 rfl ?_
      refine kz_gfa (M := kt_M60) (c := 10) (o := 0) kX11_assign_c7.2.1 wf_X11_38 (.inl rfl) ?_
      refine kz_iload_n (M := kt_M60) kX11_assign_c7.2.2.1 rfl ?_
      refine kz_inc (M := kt_M60) [(0, .ref (w_adr E.2.1 10 0)), (1, .int x1), (4, .int (x4 + 1)), (5, .int x5)] kX11_assign_c7.2.2.2.1 rfl (Nat.le_of_ble_eq_true rfl) ⟨⟨rfl, rfl, .inl rfl⟩, ⟨⟨rfl, rfl, .inl rfl⟩, ⟨⟨rfl, rfl, .inl rfl⟩, ⟨⟨rfl, rfl, .inl rfl⟩, trivial⟩⟩⟩⟩ rfl ?_
      refine kz_iald (M := kt_M60) (c := 10) (o := 0) (k := 30) (a := (w_d w1 10 0 30)) kX11_assign_c7.2.2.2.2.1 ow_10_0_30 oa_10_0_30 ot_0 h (fun h => ?_)
      refine kz_cv0 (M := kt_M60) (c := 11) (o := 0) (As := [.int (w_a w1 10 0 30 (x4).toNatClampNeg), .int (w_a w1 10 0 30 (x3).toNatClampNeg)]) (rest := []) kX11_assign_c7.2.2.2.2.2.1 wl_X11_348 wMv_127 rfl (.inl rfl) rfl (Nat.le_trans (Nat.le_of_ble_eq_true rfl) hL) (Nat.le_of_ble_eq_true rfl) (Nat.le_of_ble_eq_true rfl) h (fun w7 hle h => ?_) (fun _ _ _ h => kzx_no rfl h)
      have h := h hle
      refine kz_goto (M := kt_M60) kX11_assign_c7.2.2.2.2.2.2.1 (t := 168) rfl ?_
      exact kz_weak [(0, .ref (w_adr E.2.1 10 0)), (1, .int x1), (3, .int (x3 + 1)), (4, .int (x4 + 1)), (5, .int x5)] ⟨rfl, ⟨rfl, ⟨rfl, ⟨rfl, ⟨rfl, trivial⟩⟩⟩⟩⟩ rfl (zt_X11_assign_p168 hL  h)
def zb_X11_assign_p4 (E : zE) (L : Nat) (Q : kx_Rs → wS → Prop) (x1 : Int32) (x2 : Int32) (x3 : Int32) (w : wS) : Prop := (if x1 ≤ x3 then zL_X11_assign_p65 E L Q x1 ((w_i w 10 0 29) - x2) ((w_i w 10 0 29) - (x2 / 2)) 0 (ws_i w 10 0 29 ((w_i w 10 0 29) - x2)) else (w_p w 10 0 2 = some (w_adr E.2.1 9 0) ∧ zw E (L - 21) kt_M221 [.ref (w_adr E.2.1 9 0), .int ((w_i w 10 0 25) + x3)] w (wk1 (fun v3 w2 => wle w w2 → zL_X11_assign_p4 E L Q x1 (x2 + (2 + (2 * v3))) (x3 + 1) w2) (fun e w => Q (.inr e) w))))
theorem zt_X11_assign_p4 {E : zE} {L : Nat} {Q : kx_Rs → wS → Prop} {x1 : Int32} {x2 : Int32} {x3 : Int32} {w : wS} (hL : 23 ≤ L) (h : zb_X11_assign_p4 E L Q x1 x2 x3 w) : kzE E L kt_M60 4 [(0, .ref (w_adr E.2.1 10 0)), (1, .int x1), (2, .int x2), (3, .int x3)] [] w Q := by
  unfold zb_X11_assign_p4 at h
  refine kz_iload_n (M := kt_M60) kX11_assign_c0.2.2.2.2.1 rfl ?_
  refine kz_iload_n (M := kt_M60) kX11_assign_c0.2.2.2.2.2.1 rfl ?_
  refine kz_icmp_ge (M := kt_M60) kX11_assign_c0.2.2.2.2.2.2.1 (t := 35) rfl h (fun h => ?_) (fun h => ?_)
  · skip
    refine kz_aload_n (M := kt_M60) kX11_assign_c2.2.2.2.2.2.2.2.1 rfl ?_
    refine kz_gfi (M := kt_M60) (c := 10) (o := 0) kX11_assign_c3.1 wf_X11_45 (.inl rfl) ?_
    refine kz_iload_n (M := kt_M60) kX11_assign_c3.2.1 rfl ?_
    refine kz_isub (M := kt_M60) kX11_assign_c3.2.2.1 ?_
    refine kz_sti_n (M := kt_M60) [(0, .ref (w_adr E.2.1 10 0)), (1, .int x1), (2, .int x2)] kX11_assign_c3.2.2.2.1 (Nat.le_of_ble_eq_true rfl) ⟨⟨rfl, rfl, .inl rfl⟩, ⟨⟨rfl, rfl, .inl rfl⟩, ⟨⟨rfl, rfl, .inr rfl⟩, trivial⟩⟩⟩ rfl ?_
    refine kz_aload_n (M := kt_M60) kX11_assign_c3.2.2.2.2.1 rfl ?_
    refine kz_gfi (M := kt_M60) (c := 10) (o := 0) kX11_assign_c3.2.2.2.2.2.1 wf_X11_45 (.inl rfl) ?_
    refine kz_iload_n (M := kt_M60) kX11_assign_c3.2.2.2.2.2.2.1 rfl ?_
    refine kz_ic (M := kt_M60) 2 kX11_assign_c3.2.2.2.2.2.2.2.1 rfl ?_
    refine kz_idiv (M := kt_M60) kX11_assign_c4.1 (by decide) ?_
    refine kz_isub (M := kt_M60) kX11_assign_c4.2.1 ?_
    refine kz_sti (M := kt_M60) [(0, .ref (w_adr E.2.1 10 0)), (1, .int x1), (2, .int x2), (3, .int ((w_i w 10 0 29) - x2))] kX11_assign_c4.2.2.1 (Nat.le_of_ble_eq_true rfl) ⟨⟨rfl, rfl, .inl rfl⟩, ⟨⟨rfl, rfl, .inl rfl⟩, ⟨⟨rfl, rfl, .inl rfl⟩, ⟨⟨rfl, rfl, .inr rfl⟩, trivial⟩⟩⟩⟩ rfl ?_
    refine kz_aload_n (M := kt_M60) kX11_assign_c4.2.2.2.1 rfl ?_
    refine kz_dup (M := kt_M60) kX11_assign_c4.2.2.2.2.1 rfl ?_
    refine kz_gfi (M := kt_M60) (c := 10) (o := 0) kX11_assign_c4.2.2.2.2.2.1 wf_X11_45 (.inl rfl) ?_
    refine kz_iload_n (M := kt_M60) kX11_assign_c4.2.2.2.2.2.2.1 rfl ?_
    refine kz_isub (M := kt_M60) kX11_assign_c4.2.2.2.2.2.2.2.1 ?_
    refine kz_pfi (M := kt_M60) (c := 10) (o := 0) kX11_assign_c5.1 wq_X11_45 (.inl rfl) ?_
    refine kz_ic (M := kt_M60) 0 kX11_assign_c5.2.1 rfl ?_
    refine kz_sti (M := kt_M60) [(0, .ref (w_adr E.2.1 10 0)), (1, .int x1), (3, .int ((w_i w 10 0 29) - x2)), (4, .int ((w_i w 10 0 29) - (x2 / 2)))] kX11_assign_c5.2.2.1 (Nat.le_of_ble_eq_true rfl) ⟨⟨rfl, rfl, .inl rfl⟩, ⟨⟨rfl, rfl, .inl rfl⟩, ⟨⟨rfl, rfl, .inl rfl⟩, ⟨⟨rfl, rfl, .inr rfl⟩, trivial⟩⟩⟩⟩ rfl ?_
    exact kz_weak [(0, .ref (w_adr E.2.1 10 0)), (1, .int x1), (3, .int ((w_i w 10 0 29) - x2)), (4, .int ((w_i w 10 0 29) - (x2 / 2))), (5, .int 0)] ⟨rfl, ⟨rfl, ⟨rfl, ⟨rfl, ⟨rfl, trivial⟩⟩⟩⟩⟩ rfl h
  · skip
    refine kz_iload_n (M := kt_M60) kX11_assign_c0.2.2.2.2.2.2.2.1 rfl ?_
    refine kz_ic (M := kt_M60) 2 kX11_assign_c1.1 rfl ?_
    refine kz_ic (M := kt_M60) 2 kX11_assign_c1.2.1 rfl ?_
    refine kz_aload_n (M := kt_M60) kX11_assign_c1.2.2.1 rfl ?_
    refine kz_gfp (M := kt_M60) (c := 10) (o := 0) kX11_assign_c1.2.2.2.1 wf_X11_55 (.inl rfl) ?_
    refine kz_aload_n (M := kt_M60) kX11_assign_c1.2.2.2.2.1 rfl ?_
    refine kz_gfi (M := kt_M60) (c := 10) (o := 0) kX11_assign_c1.2.2.2.2.2.1 wf_X11_59 (.inl rfl) ?_
    refine kz_iload_n (M := kt_M60) kX11_assign_c1.2.2.2.2.2.2.1 rfl ?_
    refine kz_iadd (M := kt_M60) kX11_assign_c1.2.2.2.2.2.2.2.1 ?_
    obtain ⟨hf1, h⟩ := h
    refine kz_nz1 (x := w_p w 10 0 2) hf1 ?_
    refine kz_cv1 (M := kt_M60) (c := 9) (o := 0) (As := [.int ((w_i w 10 0 25) + x3)]) (rest := [.int 2, .int 2, .int x2]) kX11_assign_c2.1 wl_X11_62 wMv_221 rfl (.inl rfl) rfl (Nat.le_trans (Nat.le_of_ble_eq_true rfl) hL) (Nat.le_of_ble_eq_true rfl) (Nat.le_of_ble_eq_true rfl) h (fun v3 w2 hle h => ?_) (fun _ _ _ h => kzx_no rfl h)
    have h := h hle
    refine kz_imul (M := kt_M60) kX11_assign_c2.2.1 ?_
    refine kz_iadd (M := kt_M60) kX11_assign_c2.2.2.1 ?_
    refine kz_iadd (M := kt_M60) kX11_assign_c2.2.2.2.1 ?_
    refine kz_sti_n (M := kt_M60) [(0, .ref (w_adr E.2.1 10 0)), (1, .int x1), (3, .int x3)] kX11_assign_c2.2.2.2.2.1 (Nat.le_of_ble_eq_true rfl) ⟨⟨rfl, rfl, .inl rfl⟩, ⟨⟨rfl, rfl, .inr rfl⟩, ⟨⟨rfl, rfl, .inl rfl⟩, trivial⟩⟩⟩ rfl ?_
    refine kz_inc (M := kt_M60) [(0, .ref (w_adr E.2.1 10 0)), (1, .int x1), (2, .int (x2 + (2 + (2 * v3))))] kX11_assign_c2.2.2.2.2.2.1 rfl (Nat.le_of_ble_eq_true rfl) ⟨⟨rfl, rfl, .inl rfl⟩, ⟨⟨rfl, rfl, .inl rfl⟩, ⟨⟨rfl, rfl, .inr rfl⟩, trivial⟩⟩⟩ rfl ?_
    refine kz_goto (M := kt_M60) kX11_assign_c2.2.2.2.2.2.2.1 (t := 4) rfl ?_
    exact kz_weak [(0, .ref (w_adr E.2.1 10 0)), (1, .int x1), (2, .int (x2 + (2 + (2 * v3)))), (3, .int (x3 + 1))] ⟨rfl, ⟨rfl, ⟨rfl, ⟨rfl, trivial⟩⟩⟩⟩ rfl h
def zb_X11_assign_p0 (E : zE) (L : Nat) (Q : kx_Rs → wS → Prop) (x1 : Int32) (w : wS) : Prop := zL_X11_assign_p4 E L Q x1 0 0 w
theorem zt_X11_assign_p0 {E : zE} {L : Nat} {Q : kx_Rs → wS → Prop} {x1 : Int32} {w : wS} (hL : 23 ≤ L) (h : zb_X11_assign_p0 E L Q x1 w) : kzE E L kt_M60 0 [(0, .ref (w_adr E.2.1 10 0)), (1, .int x1)] [] w Q := by
  unfold zb_X11_assign_p0 at h
  refine kz_ic (M := kt_M60) 0 kX11_assign_c0.1 rfl ?_
  refine kz_sti_n (M := kt_M60) [(0, .ref (w_adr E.2.1 10 0)), (1, .int x1)] kX11_assign_c0.2.1 (Nat.le_of_ble_eq_true rfl) ⟨⟨rfl, rfl, .inl rfl⟩, ⟨⟨rfl, rfl, .inr rfl⟩, trivial⟩⟩ rfl ?_
  refine kz_ic (M := kt_M60) 0 kX11_assign_c0.2.2.1 rfl ?_
  refine kz_sti_n (M := kt_M60) [(0, .ref (w_adr E.2.1 10 0)), (1, .int x1), (2, .int 0)] kX11_assign_c0.2.2.2.1 (Nat.le_of_ble_eq_true rfl) ⟨⟨rfl, rfl, .inl rfl⟩, ⟨⟨rfl, rfl, .inl rfl⟩, ⟨⟨rfl, rfl, .inr rfl⟩, trivial⟩⟩⟩ rfl ?_
  exact kz_weak [(0, .ref (w_adr E.2.1 10 0)), (1, .int x1), (2, .int 0), (3, .int 0)] ⟨rfl, ⟨rfl, ⟨rfl, ⟨rfl, trivial⟩⟩⟩⟩ rfl h
def zb_X11_saveOwn_p0 (E : zE) (L : Nat) (Q : kx_Rs → wS → Prop) (w : wS) : Prop := zw E (L - 26) kt_M92 [.ref (w_adr E.2.1 10 0)] w (wk1 (fun v2 w1 => wle w w1 → Q (.inl none) (ws_i (ws_i w1 10 0 19 v2) 10 0 20 0)) (fun e w => Q (.inr e) w))
theorem zt_X11_saveOwn_p0 {E : zE} {L : Nat} {Q : kx_Rs → wS → Prop} {w : wS} (hL : 26 ≤ L) (h : zb_X11_saveOwn_p0 E L Q  w) : kzE E L kt_M103 0 [(0, .ref (w_adr E.2.1 10 0))] [] w Q := by
  unfold zb_X11_saveOwn_p0 at h
  refine kz_aload_n (M := kt_M103) kX11_saveOwn_c0.1 rfl ?_
  refine kz_aload_n (M := kt_M103) kX11_saveOwn_c0.2.1 rfl ?_
  refine kz_cv1 (M := kt_M103) (c := 10) (o := 0) (As := []) (rest := [.ref (w_adr E.2.1 10 0)]) kX11_saveOwn_c0.2.2.1 wl_X11_375 wMv_92 rfl (.inl rfl) rfl (Nat.le_trans (Nat.le_of_ble_eq_true rfl) hL) (Nat.le_of_ble_eq_true rfl) (Nat.le_of_ble_eq_true rfl) h (fun v2 w1 hle h => ?_) (fun _ _ _ h => kzx_no rfl h)
  have h := h hle
  refine kz_pfi (M := kt_M103) (c := 10) (o := 0) kX11_saveOwn_c0.2.2.2.1 wq_X11_192 (.inl rfl) ?_
  refine kz_aload_n (M := kt_M103) kX11_saveOwn_c0.2.2.2.2.1 rfl ?_
  refine kz_ic (M := kt_M103) 0 kX11_saveOwn_c0.2.2.2.2.2.1 rfl ?_
  refine kz_pfi (M := kt_M103) (c := 10) (o := 0) kX11_saveOwn_c0.2.2.2.2.2.2.1 wq_X11_214 (.inl rfl) ?_
  exact kz_ret (M := kt_M103) kX11_saveOwn_c0.2.2.2.2.2.2.2.1 rfl h
def zL_X11_own_p48 (E : zE) (L : Nat) (Q : kx_Rs → wS → Prop) (x1 : Int32) (x2 : Int32) (x3 : Int32) (x4 : Int32) (x5 : Int32) (w : wS) : Prop := kzE E L kt_M92 48 [(0, .ref (w_adr E.2.1 10 0)), (1, .int x1), (2, .int x2), (3, .int x3), (4, .int x4), (5, .int x5)] [] w Q
def zL_X11_own_p4 (E : zE) (L : Nat) (Q : kx_Rs → wS → Prop) (x1 : Int32) (x2 : Int32) (w : wS) : Prop := kzE E L kt_M92 4 [(0, .ref (w_adr E.2.1 10 0)), (1, .int x1), (2, .int x2)] [] w Q
def zb_X11_own_p156 (E : zE) (L : Nat) (Q : kx_Rs → wS → Prop) (x1 : Int32) (x2 : Int32) (x3 : Int32) (x4 : Int32) (x5 : Int32) (y0 : Int32) (y1 : Int32) (w : wS) : Prop := (kx_inb y1 (w_n w 10 0 18) = true ∧ zL_X11_own_p48 E L Q x1 x2 x3 x4 (x5 + 1) (ws_a w 10 0 18 (y1).toNatClampNeg y0))
theorem zt_X11_own_p156 {E : zE} {L : Nat} {Q : kx_Rs → wS → Prop} {x1 : Int32} {x2 : Int32} {x3 : Int32} {x4 : Int32} {x5 : Int32} {y0 : Int32} {y1 : Int32} {w : wS} (hL : 24 ≤ L) (h : zb_X11_own_p156 E L Q x1 x2 x3 x4 x5 y0 y1 w) : kzE E L kt_M92 156 [(0, .ref (w_adr E.2.1 10 0)), (1, .int x1), (2, .int x2), (3, .int x3), (4, .int x4), (5, .int x5)] [.int y0, .int y1, .ref (w_d w 10 0 18)] w Q := by
  unfold zb_X11_own_p156 at h
  refine kz_iast (M := kt_M92) (c := 10) (o := 0) (k := 18) (a := (w_d w 10 0 18)) kX11_own_c9.2.2.2.2.2.2.2.1 ow_10_0_18 oa_10_0_18 ot_0 h (fun h => ?_)
  refine kz_inc (M := kt_M92) [(0, .ref (w_adr E.2.1 10 0)), (1, .int x1), (2, .int x2), (3, .int x3), (4, .int x4)] kX11_own_c10.1 rfl (Nat.le_of_ble_eq_true rfl) ⟨⟨rfl, rfl, .inl rfl⟩, ⟨⟨rfl, rfl, .inl rfl⟩, ⟨⟨rfl, rfl, .inl rfl⟩, ⟨⟨rfl, rfl, .inl rfl⟩, ⟨⟨rfl, rfl, .inr rfl⟩, trivial⟩⟩⟩⟩⟩ rfl ?_
  refine kz_goto (M := kt_M92) kX11_own_c10.2.1 (t := 48) rfl ?_
  exact kz_weak [(0, .ref (w_adr E.2.1 10 0)), (1, .int x1), (2, .int x2), (3, .int x3), (4, .int x4), (5, .int (x5 + 1))] ⟨rfl, ⟨rfl, ⟨rfl, ⟨rfl, ⟨rfl, ⟨rfl, trivial⟩⟩⟩⟩⟩⟩ rfl h
def zb_X11_own_p105 (E : zE) (L : Nat) (Q : kx_Rs → wS → Prop) (x1 : Int32) (x2 : Int32) (x3 : Int32) (x4 : Int32) (x5 : Int32) (y0 : Int32) (w : wS) : Prop := (if ¬ x4 = (-1) then (if ¬ y0 = 0 then zw E (L - 22) kt_M129 [.ref (w_adr E.2.1 11 0), .int y0, .int x5] w (wk1 (fun v2 w1 => wle w w1 → (w_d w1 10 0 18 = w_d w 10 0 18 ∧ zb_X11_own_p156 E L Q (x1 + 1) x2 x3 x4 x5 v2 x1 w1)) (fun e w => Q (.inr e) w)) else zb_X11_own_p156 E L Q (x1 + 1) x2 x3 x4 x5 0 x1 w) else zw E (L - 22) kt_M129 [.ref (w_adr E.2.1 11 0), .int (w_i w 10 0 20), .int x3] w (wk1 (fun v4 w3 => wle w w3 → (w_d w3 10 0 18 = w_d w 10 0 18 ∧ zb_X11_own_p156 E L Q (x1 + 1) x2 x3 x4 x5 v4 x1 w3)) (fun e w => Q (.inr e) w)))
theorem zt_X11_own_p105 {E : zE} {L : Nat} {Q : kx_Rs → wS → Prop} {x1 : Int32} {x2 : Int32} {x3 : Int32} {x4 : Int32} {x5 : Int32} {y0 : Int32} {w : wS} (hL : 24 ≤ L) (h : zb_X11_own_p105 E L Q x1 x2 x3 x4 x5 y0 w) : kzE E L kt_M92 105 [(0, .ref (w_adr E.2.1 10 0)), (1, .int x1), (2, .int x2), (3, .int x3), (4, .int x4), (5, .int x5)] [.int y0] w Q := by
  unfold zb_X11_own_p105 at h
  refine kz_sti (M := kt_M92) [(0, .ref (w_adr E.2.1 10 0)), (1, .int x1), (2, .int x2), (3, .int x3), (4, .int x4), (5, .int x5)] kX11_own_c6.2.2.2.2.2.2.2.1 (Nat.le_of_ble_eq_true rfl) ⟨⟨rfl, rfl, .inl rfl⟩, ⟨⟨rfl, rfl, .inl rfl⟩, ⟨⟨rfl, rfl, .inl rfl⟩, ⟨⟨rfl, rfl, .inl rfl⟩, ⟨⟨rfl, rfl, .inl rfl⟩, ⟨⟨rfl, rfl, .inr rfl⟩, trivial⟩⟩⟩⟩⟩⟩ rfl ?_
  refine kz_aload_n (M := kt_M92) kX11_own_c7.1 rfl ?_
  refine kz_gfa (M := kt_M92) (c := 10) (o := 0) kX11_own_c7.2.1 wf_X11_35 (.inl rfl) ?_
  refine kz_iload_n (M := kt_M92) kX11_own_c7.2.2.1 rfl ?_
  refine kz_inc (M := kt_M92) [(0, .ref (w_adr E.2.1 10 0)), (2, .int x2), (3, .int x3), (4, .int x4), (5, .int x5), (6, .int y0)] kX11_own_c7.2.2.2.1 rfl (Nat.le_of_ble_eq_true rfl) ⟨⟨rfl, rfl, .inr rfl⟩, ⟨⟨rfl, rfl, .inl rfl⟩, ⟨⟨rfl, rfl, .inl rfl⟩, ⟨⟨rfl, rfl, .inl rfl⟩, ⟨⟨rfl, rfl, .inl rfl⟩, ⟨⟨rfl, rfl, .inl rfl⟩, trivial⟩⟩⟩⟩⟩⟩ rfl ?_
  refine kz_iload (M := kt_M92) kX11_own_c7.2.2.2.2.1 rfl ?_
  refine kz_ic (M := kt_M92) (-1) kX11_own_c7.2.2.2.2.2.1 rfl ?_
  refine kz_icmp_ne (M := kt_M92) kX11_own_c7.2.2.2.2.2.2.1 (t := 136) rfl h (fun h => ?_) (fun h => ?_)
  · skip
    refine kz_iload (M := kt_M92) kX11_own_c8.2.2.2.2.2.2.1 rfl ?_
    refine kz_if_ne (M := kt_M92) kX11_own_c8.2.2.2.2.2.2.2.1 (t := 145) rfl h (fun h => ?_) (fun h => ?_)
    · skip
      refine kz_aload_n (M := kt_M92) kX11_own_c9.2.2.1 rfl ?_
      refine kz_gfc (M := kt_M92) (x := 44) (c := 10) (o := 0) kX11_own_c9.2.2.2.1 wf_X11_12 (.inl rfl) ?_
      refine kz_iload (M := kt_M92) kX11_own_c9.2.2.2.2.1 rfl ?_
      refine kz_iload (M := kt_M92) kX11_own_c9.2.2.2.2.2.1 rfl ?_
      refine kz_cv1 (M := kt_M92) (c := 11) (o := 0) (As := [.int y0, .int x5]) (rest := [.int x1, .ref (w_d w 10 0 18)]) kX11_own_c9.2.2.2.2.2.2.1 wl_X11_289 wMv_129 rfl (.inl rfl) rfl (Nat.le_trans (Nat.le_of_ble_eq_true rfl) hL) (Nat.le_of_ble_eq_true rfl) (Nat.le_of_ble_eq_true rfl) h (fun v2 w1 hle h => ?_) (fun _ _ _ h => kzx_no rfl h)
      have h := h hle
      obtain ⟨h0, h⟩ := h
      rw [← h0]
      exact kz_weak [(0, .ref (w_adr E.2.1 10 0)), (1, .int (x1 + 1)), (2, .int x2), (3, .int x3), (4, .int x4), (5, .int x5)] ⟨rfl, ⟨rfl, ⟨rfl, ⟨rfl, ⟨rfl, ⟨rfl, trivial⟩⟩⟩⟩⟩⟩ rfl (zt_X11_own_p156 hL  h)
    · skip
      refine kz_ic (M := kt_M92) 0 kX11_own_c9.1 rfl ?_
      refine kz_goto (M := kt_M92) kX11_own_c9.2.1 (t := 156) rfl ?_
      exact kz_weak [(0, .ref (w_adr E.2.1 10 0)), (1, .int (x1 + 1)), (2, .int x2), (3, .int x3), (4, .int x4), (5, .int x5)] ⟨rfl, ⟨rfl, ⟨rfl, ⟨rfl, ⟨rfl, ⟨rfl, trivial⟩⟩⟩⟩⟩⟩ rfl (zt_X11_own_p156 hL  h)
  · skip
    refine kz_aload_n (M := kt_M92) kX11_own_c7.2.2.2.2.2.2.2.1 rfl ?_
    refine kz_gfc (M := kt_M92) (x := 44) (c := 10) (o := 0) kX11_own_c8.1 wf_X11_12 (.inl rfl) ?_
    refine kz_aload_n (M := kt_M92) kX11_own_c8.2.1 rfl ?_
    refine kz_gfi (M := kt_M92) (c := 10) (o := 0) kX11_own_c8.2.2.1 wf_X11_214 (.inl rfl) ?_
    refine kz_iload_n (M := kt_M92) kX11_own_c8.2.2.2.1 rfl ?_
    refine kz_cv1 (M := kt_M92) (c := 11) (o := 0) (As := [.int (w_i w 10 0 20), .int x3]) (rest := [.int x1, .ref (w_d w 10 0 18)]) kX11_own_c8.2.2.2.2.1 wl_X11_289 wMv_129 rfl (.inl rfl) rfl (Nat.le_trans (Nat.le_of_ble_eq_true rfl) hL) (Nat.le_of_ble_eq_true rfl) (Nat.le_of_ble_eq_true rfl) h (fun v4 w3 hle h => ?_) (fun _ _ _ h => kzx_no rfl h)
    have h := h hle
    refine kz_goto (M := kt_M92) kX11_own_c8.2.2.2.2.2.1 (t := 156) rfl ?_
    obtain ⟨h0, h⟩ := h
    rw [← h0]
    exact kz_weak [(0, .ref (w_adr E.2.1 10 0)), (1, .int (x1 + 1)), (2, .int x2), (3, .int x3), (4, .int x4), (5, .int x5)] ⟨rfl, ⟨rfl, ⟨rfl, ⟨rfl, ⟨rfl, ⟨rfl, trivial⟩⟩⟩⟩⟩⟩ rfl (zt_X11_own_p156 hL  h)
def zb_X11_own_p80 (E : zE) (L : Nat) (Q : kx_Rs → wS → Prop) (x1 : Int32) (x2 : Int32) (x3 : Int32) (x4 : Int32) (x5 : Int32) (w : wS) : Prop := (if ¬ x4 = (-1) then zw E (L - 22) kt_M129 [.ref (w_adr E.2.1 11 0), .int (w_i w 10 0 20), .int x3] w (wk1 (fun v2 w1 => wle w w1 → zb_X11_own_p105 E L Q x1 x2 x3 x4 x5 (v2 >>> (13 &&& 31)) w1) (fun e w => Q (.inr e) w)) else zb_X11_own_p105 E L Q x1 x2 x3 x4 x5 0 w)
theorem zt_X11_own_p80 {E : zE} {L : Nat} {Q : kx_Rs → wS → Prop} {x1 : Int32} {x2 : Int32} {x3 : Int32} {x4 : Int32} {x5 : Int32} {w : wS} (hL : 24 ≤ L) (h : zb_X11_own_p80 E L Q x1 x2 x3 x4 x5 w) : kzE E L kt_M92 80 [(0, .ref (w_adr E.2.1 10 0)), (1, .int x1), (2, .int x2), (3, .int x3), (4, .int x4), (5, .int x5)] [] w Q := by
  unfold zb_X11_own_p80 at h
  refine kz_iload (M := kt_M92) kX11_own_c5.2.2.1 rfl ?_
  refine kz_ic (M := kt_M92) (-1) kX11_own_c5.2.2.2.1 rfl ?_
  refine kz_icmp_ne (M := kt_M92) kX11_own_c5.2.2.2.2.1 (t := 90) rfl h (fun h => ?_) (fun h => ?_)
  · skip
    refine kz_aload_n (M := kt_M92) kX11_own_c5.2.2.2.2.2.2.2.1 rfl ?_
    refine kz_gfc (M := kt_M92) (x := 44) (c := 10) (o := 0) kX11_own_c6.1 wf_X11_12 (.inl rfl) ?_
    refine kz_aload_n (M := kt_M92) kX11_own_c6.2.1 rfl ?_
    refine kz_gfi (M := kt_M92) (c := 10) (o := 0) kX11_own_c6.2.2.1 wf_X11_214 (.inl rfl) ?_
    refine kz_iload_n (M := kt_M92) kX11_own_c6.2.2.2.1 rfl ?_
    refine kz_cv1 (M := kt_M92) (c := 11) (o := 0) (As := [.int (w_i w 10 0 20), .int x3]) (rest := []) kX11_own_c6.2.2.2.2.1 wl_X11_289 wMv_129 rfl (.inl rfl) rfl (Nat.le_trans (Nat.le_of_ble_eq_true rfl) hL) (Nat.le_of_ble_eq_true rfl) (Nat.le_of_ble_eq_true rfl) h (fun v2 w1 hle h => ?_) (fun _ _ _ h => kzx_no rfl h)
    have h := h hle
    refine kz_bi (M := kt_M92) 13 kX11_own_c6.2.2.2.2.2.1 rfl ?_
    refine kz_ishr (M := kt_M92) kX11_own_c6.2.2.2.2.2.2.1 ?_
    exact kz_weak [(0, .ref (w_adr E.2.1 10 0)), (1, .int x1), (2, .int x2), (3, .int x3), (4, .int x4), (5, .int x5)] ⟨rfl, ⟨rfl, ⟨rfl, ⟨rfl, ⟨rfl, ⟨rfl, trivial⟩⟩⟩⟩⟩⟩ rfl (zt_X11_own_p105 hL  h)
  · skip
    refine kz_ic (M := kt_M92) 0 kX11_own_c5.2.2.2.2.2.1 rfl ?_
    refine kz_goto (M := kt_M92) kX11_own_c5.2.2.2.2.2.2.1 (t := 105) rfl ?_
    exact kz_weak [(0, .ref (w_adr E.2.1 10 0)), (1, .int x1), (2, .int x2), (3, .int x3), (4, .int x4), (5, .int x5)] ⟨rfl, ⟨rfl, ⟨rfl, ⟨rfl, ⟨rfl, ⟨rfl, trivial⟩⟩⟩⟩⟩⟩ rfl (zt_X11_own_p105 hL  h)
def zb_X11_own_p48 (E : zE) (L : Nat) (Q : kx_Rs → wS → Prop) (x1 : Int32) (x2 : Int32) (x3 : Int32) (x4 : Int32) (x5 : Int32) (w : wS) : Prop := (if (if x4 < 1 then 1 else x4) ≤ x5 then zL_X11_own_p4 E L Q x1 (x2 + 2) w else (if ¬ x1 = (Int32.ofNat (w_n w 10 0 18)) then zb_X11_own_p80 E L Q x1 x2 x3 x4 x5 w else zw E (L - 22) kt_M124 [.ref (w_d w 10 0 18), .int x1] w (wkr (fun v2 w1 => wle w w1 → (∃ a3, v2 = some a3 ∧ (w_o w1 a3 = some (99, a3, 0) ∧ w_t w1 a3 = 0) ∧ zb_X11_own_p80 E L Q x1 x2 x3 x4 x5 (ws_put w1 10 0 18 a3))) (fun e w => Q (.inr e) w))))
theorem zt_X11_own_p48 {E : zE} {L : Nat} {Q : kx_Rs → wS → Prop} {x1 : Int32} {x2 : Int32} {x3 : Int32} {x4 : Int32} {x5 : Int32} {w : wS} (hL : 24 ≤ L) (h : zb_X11_own_p48 E L Q x1 x2 x3 x4 x5 w) : kzE E L kt_M92 48 [(0, .ref (w_adr E.2.1 10 0)), (1, .int x1), (2, .int x2), (3, .int x3), (4, .int x4), (5, .int x5)] [] w Q := by
  unfold zb_X11_own_p48 at h
  refine kz_iload (M := kt_M92) kX11_own_c3.2.2.1 rfl ?_
  refine kz_iload (M := kt_M92) kX11_own_c3.2.2.2.1 rfl ?_
  refine kz_ic (M := kt_M92) 1 kX11_own_c3.2.2.2.2.1 rfl ?_
  refine kz_mmax (M := kt_M92) kX11_own_c3.2.2.2.2.2.1 zm_l_X11_366 zm_s_max zm_i zm_c_max (Nat.le_trans (Nat.le_of_ble_eq_true rfl) hL) (Nat.le_of_ble_eq_true rfl) ?_
  refine kz_icmp_ge (M := kt_M92) kX11_own_c3.2.2.2.2.2.2.1 (t := 163) rfl h (fun h => ?_) (fun h => ?_)
  · skip
    refine kz_inc (M := kt_M92) [(0, .ref (w_adr E.2.1 10 0)), (1, .int x1)] kX11_own_c10.2.2.1 rfl (Nat.le_of_ble_eq_true rfl) ⟨⟨rfl, rfl, .inl rfl⟩, ⟨⟨rfl, rfl, .inr rfl⟩, trivial⟩⟩ rfl ?_
    refine kz_goto (M := kt_M92) kX11_own_c10.2.2.2.1 (t := 4) rfl ?_
    exact kz_weak [(0, .ref (w_adr E.2.1 10 0)), (1, .int x1), (2, .int (x2 + 2))] ⟨rfl, ⟨rfl, ⟨rfl, trivial⟩⟩⟩ rfl h
  · skip
    refine kz_iload_n (M := kt_M92) kX11_own_c3.2.2.2.2.2.2.2.1 rfl ?_
    refine kz_aload_n (M := kt_M92) kX11_own_c4.1 rfl ?_
    refine kz_gfa (M := kt_M92) (c := 10) (o := 0) kX11_own_c4.2.1 wf_X11_35 (.inl rfl) ?_
    refine kz_alen (M := kt_M92) (c := 10) (o := 0) (k := 18) (a := (w_d w 10 0 18)) (τ := 0) kX11_own_c4.2.2.1 ow_10_0_18 oa_10_0_18 (Nat.le_of_ble_eq_true rfl) ?_
    refine kz_icmp_ne (M := kt_M92) kX11_own_c4.2.2.2.1 (t := 80) rfl h (fun h => ?_) (fun h => ?_)
    · skip
      exact kz_weak [(0, .ref (w_adr E.2.1 10 0)), (1, .int x1), (2, .int x2), (3, .int x3), (4, .int x4), (5, .int x5)] ⟨rfl, ⟨rfl, ⟨rfl, ⟨rfl, ⟨rfl, ⟨rfl, trivial⟩⟩⟩⟩⟩⟩ rfl (zt_X11_own_p80 hL  h)
    · skip
      refine kz_aload_n (M := kt_M92) kX11_own_c4.2.2.2.2.1 rfl ?_
      refine kz_aload_n (M := kt_M92) kX11_own_c4.2.2.2.2.2.1 rfl ?_
      refine kz_gfa (M := kt_M92) (c := 10) (o := 0) kX11_own_c4.2.2.2.2.2.2.1 wf_X11_35 (.inl rfl) ?_
      refine kz_iload_n (M := kt_M92) kX11_own_c4.2.2.2.2.2.2.2.1 rfl ?_
      refine kz_cNr (M := kt_M92) (As := [.ref (w_d w 10 0 18), .int x1]) (rest := [.ref (w_adr E.2.1 10 0)]) kX11_own_c5.1 wln_X11_371 wMs_124 rfl (Nat.le_trans (Nat.le_of_ble_eq_true rfl) hL) (Nat.le_of_ble_eq_true rfl) (Nat.le_of_ble_eq_true rfl) h (fun v2 w1 hle h => ?_) (fun _ _ _ h => kzx_no rfl h)
      have h := h hle
      obtain ⟨a3, hx, h⟩ := h
      refine kz_nz0 (M := kt_M92) (x := v2) hx ?_
      refine kz_pfa (M := kt_M92) (c := 10) (o := 0) (τ := 0) kX11_own_c5.2.1 wq_X11_35 (.inl rfl) rfl h (fun h => ?_)
      exact kz_weak [(0, .ref (w_adr E.2.1 10 0)), (1, .int x1), (2, .int x2), (3, .int x3), (4, .int x4), (5, .int x5)] ⟨rfl, ⟨rfl, ⟨rfl, ⟨rfl, ⟨rfl, ⟨rfl, trivial⟩⟩⟩⟩⟩⟩ rfl (zt_X11_own_p80 hL  h)
def zb_X11_own_p4 (E : zE) (L : Nat) (Q : kx_Rs → wS → Prop) (x1 : Int32) (x2 : Int32) (w : wS) : Prop := (if w_i w 9 2 1 ≤ x2 then Q (.inl (some (.int x1))) w else zw E (L - 21) kt_M221 [.ref (w_adr E.2.1 9 2), .int x2] w (wk1 (fun v2 w1 => wle w w1 → zw E (L - 21) kt_M221 [.ref (w_adr E.2.1 9 2), .int (x2 + 1)] w1 (wk1 (fun v4 w3 => wle w1 w3 → zL_X11_own_p48 E L Q x1 x2 v2 v4 0 w3) (fun e w => Q (.inr e) w))) (fun e w => Q (.inr e) w)))
theorem zt_X11_own_p4 {E : zE} {L : Nat} {Q : kx_Rs → wS → Prop} {x1 : Int32} {x2 : Int32} {w : wS} (hL : 24 ≤ L) (h : zb_X11_own_p4 E L Q x1 x2 w) : kzE E L kt_M92 4 [(0, .ref (w_adr E.2.1 10 0)), (1, .int x1), (2, .int x2)] [] w Q := by
  unfold zb_X11_own_p4 at h
  refine kz_iload_n (M := kt_M92) kX11_own_c0.2.2.2.2.1 rfl ?_
  refine kz_aload_n (M := kt_M92) kX11_own_c0.2.2.2.2.2.1 rfl ?_
  refine kz_gfc (M := kt_M92) (x := 32) (c := 10) (o := 0) kX11_own_c0.2.2.2.2.2.2.1 wf_X11_41 (.inl rfl) ?_
  refine kz_gfc (M := kt_M92) (x := 38) (c := 8) (o := 0) kX11_own_c0.2.2.2.2.2.2.2.1 wf_X11_360 (.inl rfl) ?_
  refine kz_gfNi (M := kt_M92) (c := 9) (o := 2) kX11_own_c1.1 wfn_X11_363 (.inl rfl) ?_
  refine kz_icmp_ge (M := kt_M92) kX11_own_c1.2.1 (t := 169) rfl h (fun h => ?_) (fun h => ?_)
  · skip
    refine kz_iload_n (M := kt_M92) kX11_own_c10.2.2.2.2.1 rfl ?_
    exact kz_iret (M := kt_M92) kX11_own_c10.2.2.2.2.2.1 rfl rfl h
  · skip
    refine kz_aload_n (M := kt_M92) kX11_own_c1.2.2.1 rfl ?_
    refine kz_gfc (M := kt_M92) (x := 32) (c := 10) (o := 0) kX11_own_c1.2.2.2.1 wf_X11_41 (.inl rfl) ?_
    refine kz_gfc (M := kt_M92) (x := 38) (c := 8) (o := 0) kX11_own_c1.2.2.2.2.1 wf_X11_360 (.inl rfl) ?_
    refine kz_iload_n (M := kt_M92) kX11_own_c1.2.2.2.2.2.1 rfl ?_
    refine kz_cv1 (M := kt_M92) (c := 9) (o := 2) (As := [.int x2]) (rest := []) kX11_own_c1.2.2.2.2.2.2.1 wl_X11_62 wMv_221 rfl (.inl rfl) rfl (Nat.le_trans (Nat.le_of_ble_eq_true rfl) hL) (Nat.le_of_ble_eq_true rfl) (Nat.le_of_ble_eq_true rfl) h (fun v2 w1 hle h => ?_) (fun _ _ _ h => kzx_no rfl h)
    have h := h hle
    refine kz_sti_n (M := kt_M92) [(0, .ref (w_adr E.2.1 10 0)), (1, .int x1), (2, .int x2)] kX11_own_c1.2.2.2.2.2.2.2.1 (Nat.le_of_ble_eq_true rfl) ⟨⟨rfl, rfl, .inl rfl⟩, ⟨⟨rfl, rfl, .inl rfl⟩, ⟨⟨rfl, rfl, .inr rfl⟩, trivial⟩⟩⟩ rfl ?_
    refine kz_aload_n (M := kt_M92) kX11_own_c2.1 rfl ?_
    refine kz_gfc (M := kt_M92) (x := 32) (c := 10) (o := 0) kX11_own_c2.2.1 wf_X11_41 (.inl rfl) ?_
    refine kz_gfc (M := kt_M92) (x := 38) (c := 8) (o := 0) kX11_own_c2.2.2.1 wf_X11_360 (.inl rfl) ?_
    refine kz_iload_n (M := kt_M92) kX11_own_c2.2.2.2.1 rfl ?_
    refine kz_ic (M := kt_M92) 1 kX11_own_c2.2.2.2.2.1 rfl ?_
    refine kz_iadd (M := kt_M92) kX11_own_c2.2.2.2.2.2.1 ?_
    refine kz_cv1 (M := kt_M92) (c := 9) (o := 2) (As := [.int (x2 + 1)]) (rest := []) kX11_own_c2.2.2.2.2.2.2.1 wl_X11_62 wMv_221 rfl (.inl rfl) rfl (Nat.le_trans (Nat.le_of_ble_eq_true rfl) hL) (Nat.le_of_ble_eq_true rfl) (Nat.le_of_ble_eq_true rfl) h (fun v4 w3 hle h => ?_) (fun _ _ _ h => kzx_no rfl h)
    have h := h hle
    refine kz_sti (M := kt_M92) [(0, .ref (w_adr E.2.1 10 0)), (1, .int x1), (2, .int x2), (3, .int v2)] kX11_own_c2.2.2.2.2.2.2.2.1 (Nat.le_of_ble_eq_true rfl) ⟨⟨rfl, rfl, .inl rfl⟩, ⟨⟨rfl, rfl, .inl rfl⟩, ⟨⟨rfl, rfl, .inl rfl⟩, ⟨⟨rfl, rfl, .inr rfl⟩, trivial⟩⟩⟩⟩ rfl ?_
    refine kz_ic (M := kt_M92) 0 kX11_own_c3.1 rfl ?_
    refine kz_sti (M := kt_M92) [(0, .ref (w_adr E.2.1 10 0)), (1, .int x1), (2, .int x2), (3, .int v2), (4, .int v4)] kX11_own_c3.2.1 (Nat.le_of_ble_eq_true rfl) ⟨⟨rfl, rfl, .inl rfl⟩, ⟨⟨rfl, rfl, .inl rfl⟩, ⟨⟨rfl, rfl, .inl rfl⟩, ⟨⟨rfl, rfl, .inl rfl⟩, ⟨⟨rfl, rfl, .inr rfl⟩, trivial⟩⟩⟩⟩⟩ rfl ?_
    exact kz_weak [(0, .ref (w_adr E.2.1 10 0)), (1, .int x1), (2, .int x2), (3, .int v2), (4, .int v4), (5, .int 0)] ⟨rfl, ⟨rfl, ⟨rfl, ⟨rfl, ⟨rfl, ⟨rfl, trivial⟩⟩⟩⟩⟩⟩ rfl h
def zb_X11_own_p0 (E : zE) (L : Nat) (Q : kx_Rs → wS → Prop) (w : wS) : Prop := zL_X11_own_p4 E L Q 0 0 w
theorem zt_X11_own_p0 {E : zE} {L : Nat} {Q : kx_Rs → wS → Prop} {w : wS} (hL : 24 ≤ L) (h : zb_X11_own_p0 E L Q  w) : kzE E L kt_M92 0 [(0, .ref (w_adr E.2.1 10 0))] [] w Q := by
  unfold zb_X11_own_p0 at h
  refine kz_ic (M := kt_M92) 0 kX11_own_c0.1 rfl ?_
  refine kz_sti_n (M := kt_M92) [(0, .ref (w_adr E.2.1 10 0))] kX11_own_c0.2.1 (Nat.le_of_ble_eq_true rfl) ⟨⟨rfl, rfl, .inr rfl⟩, trivial⟩ rfl ?_
  refine kz_ic (M := kt_M92) 0 kX11_own_c0.2.2.1 rfl ?_
  refine kz_sti_n (M := kt_M92) [(0, .ref (w_adr E.2.1 10 0)), (1, .int 0)] kX11_own_c0.2.2.2.1 (Nat.le_of_ble_eq_true rfl) ⟨⟨rfl, rfl, .inl rfl⟩, ⟨⟨rfl, rfl, .inr rfl⟩, trivial⟩⟩ rfl ?_
  exact kz_weak [(0, .ref (w_adr E.2.1 10 0)), (1, .int 0), (2, .int 0)] ⟨rfl, ⟨rfl, ⟨rfl, trivial⟩⟩⟩ rfl h
def zb_X11_act_p474 (E : zE) (L : Nat) (Q : kx_Rs → wS → Prop) (w : wS) : Prop := Q (.inl none) w
theorem zt_X11_act_p474 {E : zE} {L : Nat} {Q : kx_Rs → wS → Prop} {w : wS} (hL : 27 ≤ L) (h : zb_X11_act_p474 E L Q  w) : kzE E L kt_M58 474 [(0, .ref (w_adr E.2.1 10 0))] [] w Q := by
  unfold zb_X11_act_p474 at h
  exact kz_ret (M := kt_M58) kX11_act_c25.1 rfl h
def zb_X11_act_p460 (E : zE) (L : Nat) (Q : kx_Rs → wS → Prop) (y0 : Int32) (y1 : Int32) (w : wS) : Prop := zw E (L - 20) kt_M88 [.ref (w_adr E.2.1 10 0)] w (wk1 (fun v2 w1 => wle w w1 → zw E (L - 27) kt_M62 [.ref (w_adr E.2.1 10 0), .int y1, .int y0, .int v2] w1 (wk0 (fun w3 => wle w1 w3 → zb_X11_act_p474 E L Q w3) (fun e w => Q (.inr e) w))) (fun e w => Q (.inr e) w))
theorem zt_X11_act_p460 {E : zE} {L : Nat} {Q : kx_Rs → wS → Prop} {y0 : Int32} {y1 : Int32} {w : wS} (hL : 27 ≤ L) (h : zb_X11_act_p460 E L Q y0 y1 w) : kzE E L kt_M58 460 [(0, .ref (w_adr E.2.1 10 0))] [.int y0, .int y1, .ref (w_adr E.2.1 10 0)] w Q := by
  unfold zb_X11_act_p460 at h
  refine kz_aload_n (M := kt_M58) kX11_act_c24.2.2.1 rfl ?_
  refine kz_cv1 (M := kt_M58) (c := 10) (o := 0) (As := []) (rest := [.int y0, .int y1, .ref (w_adr E.2.1 10 0)]) kX11_act_c24.2.2.2.1 wl_X11_276 wMv_88 rfl (.inl rfl) rfl (Nat.le_trans (Nat.le_of_ble_eq_true rfl) hL) (Nat.le_of_ble_eq_true rfl) (Nat.le_of_ble_eq_true rfl) h (fun v2 w1 hle h => ?_) (fun _ _ _ h => kzx_no rfl h)
  have h := h hle
  refine kz_cv0 (M := kt_M58) (c := 10) (o := 0) (As := [.int y1, .int y0, .int v2]) (rest := []) kX11_act_c24.2.2.2.2.1 wl_X11_409 wMv_62 rfl (.inl rfl) rfl (Nat.le_trans (Nat.le_of_ble_eq_true rfl) hL) (Nat.le_of_ble_eq_true rfl) (Nat.le_of_ble_eq_true rfl) h (fun w3 hle h => ?_) (fun _ _ _ h => kzx_no rfl h)
  have h := h hle
  refine kz_goto (M := kt_M58) kX11_act_c24.2.2.2.2.2.1 (t := 474) rfl ?_
  exact kz_weak [(0, .ref (w_adr E.2.1 10 0))] ⟨rfl, trivial⟩ rfl (zt_X11_act_p474 hL  h)
def zb_X11_act_p372 (E : zE) (L : Nat) (Q : kx_Rs → wS → Prop) (x2 : Int32) (x3 : Int32) (w : wS) : Prop := (if ¬ w_i w 10 0 31 = 0 then zw E (L - 26) kt_M65 [.ref (w_adr E.2.1 10 0), .int x2, .int x3] w (wk0 (fun w1 => wle w w1 → zb_X11_act_p474 E L Q (ws_i w1 10 0 27 ((w_i w1 10 0 27) + 1))) (fun e w => Q (.inr e) w)) else Q (.inl none) w)
theorem zt_X11_act_p372 {E : zE} {L : Nat} {Q : kx_Rs → wS → Prop} {x2 : Int32} {x3 : Int32} {w : wS} (hL : 27 ≤ L) (h : zb_X11_act_p372 E L Q x2 x3 w) : kzE E L kt_M58 372 [(0, .ref (w_adr E.2.1 10 0)), (2, .int x2), (3, .int x3)] [] w Q := by
  unfold zb_X11_act_p372 at h
  refine kz_aload_n (M := kt_M58) kX11_act_c18.2.2.1 rfl ?_
  refine kz_gfi (M := kt_M58) (c := 10) (o := 0) kX11_act_c18.2.2.2.1 wf_X11_115 (.inl rfl) ?_
  refine kz_if_ne (M := kt_M58) kX11_act_c18.2.2.2.2.1 (t := 380) rfl h (fun h => ?_) (fun h => ?_)
  · skip
    refine kz_aload_n (M := kt_M58) kX11_act_c18.2.2.2.2.2.2.1 rfl ?_
    refine kz_iload_n (M := kt_M58) kX11_act_c18.2.2.2.2.2.2.2.1 rfl ?_
    refine kz_iload_n (M := kt_M58) kX11_act_c19.1 rfl ?_
    refine kz_cv0 (M := kt_M58) (c := 10) (o := 0) (As := [.int x2, .int x3]) (rest := []) kX11_act_c19.2.1 wl_X11_403 wMv_65 rfl (.inl rfl) rfl (Nat.le_trans (Nat.le_of_ble_eq_true rfl) hL) (Nat.le_of_ble_eq_true rfl) (Nat.le_of_ble_eq_true rfl) h (fun w1 hle h => ?_) (fun _ _ _ h => kzx_no rfl h)
    have h := h hle
    refine kz_aload_n (M := kt_M58) kX11_act_c19.2.2.1 rfl ?_
    refine kz_dup (M := kt_M58) kX11_act_c19.2.2.2.1 rfl ?_
    refine kz_gfi (M := kt_M58) (c := 10) (o := 0) kX11_act_c19.2.2.2.2.1 wf_X11_135 (.inl rfl) ?_
    refine kz_ic (M := kt_M58) 1 kX11_act_c19.2.2.2.2.2.1 rfl ?_
    refine kz_iadd (M := kt_M58) kX11_act_c19.2.2.2.2.2.2.1 ?_
    refine kz_pfi (M := kt_M58) (c := 10) (o := 0) kX11_act_c19.2.2.2.2.2.2.2.1 wq_X11_135 (.inl rfl) ?_
    refine kz_goto (M := kt_M58) kX11_act_c20.1 (t := 474) rfl ?_
    exact kz_weak [(0, .ref (w_adr E.2.1 10 0))] ⟨rfl, trivial⟩ rfl (zt_X11_act_p474 hL  h)
  · skip
    exact kz_ret (M := kt_M58) kX11_act_c18.2.2.2.2.2.1 rfl h
def zb_X11_act_p244 (E : zE) (L : Nat) (Q : kx_Rs → wS → Prop) (y0 : Int32) (y1 : Int32) (y2 : Int32) (y3 : Int32) (y4 : Option Nat) (w : wS) : Prop := (∃ p1, y4 = some p1 ∧ w_l w E.2.1 17 p1 ∧ zw E (L - 24) kt_M233 [.ref p1, .int y3, .int y2, .int y1, .int y0] w (wk0 (fun w2 => wle w w2 → zb_X11_act_p474 E L Q w2) (fun e w => Q (.inr e) w)))
theorem zt_X11_act_p244 {E : zE} {L : Nat} {Q : kx_Rs → wS → Prop} {y0 : Int32} {y1 : Int32} {y2 : Int32} {y3 : Int32} {y4 : Option Nat} {w : wS} (hL : 27 ≤ L) (h : zb_X11_act_p244 E L Q y0 y1 y2 y3 y4 w) : kzE E L kt_M58 244 [(0, .ref (w_adr E.2.1 10 0))] [.int y0, .int y1, .int y2, .int y3, va_rf (y4)] w Q := by
  unfold zb_X11_act_p244 at h
  obtain ⟨p1, hxp1, hlp1, h⟩ := h
  refine kz_nz4 (x := y4) hxp1 ?_
  refine kz_cv0 (M := kt_M58) (c := 17) (o := p1) (As := [.int y3, .int y2, .int y1, .int y0]) (rest := []) kX11_act_c10.2.2.2.2.1 wl_X11_393 wMv_233 rfl (.inr (by exact hlp1)) rfl (Nat.le_trans (Nat.le_of_ble_eq_true rfl) hL) (Nat.le_of_ble_eq_true rfl) (Nat.le_of_ble_eq_true rfl) h (fun w2 hle h => ?_) (fun _ _ _ h => kzx_no rfl h)
  have h := h hle
  have hlp1 := w_l_le hlp1 hle
  refine kz_goto (M := kt_M58) kX11_act_c10.2.2.2.2.2.1 (t := 474) rfl ?_
  exact kz_weak [(0, .ref (w_adr E.2.1 10 0))] ⟨rfl, trivial⟩ rfl (zt_X11_act_p474 hL  h)
def zb_X11_act_p0 (E : zE) (L : Nat) (Q : kx_Rs → wS → Prop) (x1 : Int32) (w : wS) : Prop := (if x1 = 33 then zw E (L - 20) kt_M88 [.ref (w_adr E.2.1 10 0)] w (wk1 (fun v2 w1 => wle w w1 → zw E (L - 21) kt_M107 [.ref (w_adr E.2.1 10 0), .int v2] w1 (wk0 (fun w3 => wle w1 w3 → zb_X11_act_p474 E L Q w3) (fun e w => Q (.inr e) w))) (fun e w => Q (.inr e) w)) else (if x1 = 34 then zw E (L - 20) kt_M88 [.ref (w_adr E.2.1 10 0)] w (wk1 (fun v6 w5 => wle w w5 → zw E (L - 24) kt_M118 [.ref (w_adr E.2.1 10 0), .int v6] w5 (wk0 (fun w7 => wle w5 w7 → zb_X11_act_p474 E L Q w7) (fun e w => Q (.inr e) w))) (fun e w => Q (.inr e) w)) else (if x1 = 35 then zw E (L - 20) kt_M88 [.ref (w_adr E.2.1 10 0)] w (wk1 (fun v10 w9 => wle w w9 → zw E (L - 24) kt_M98 [.ref (w_adr E.2.1 10 0), .int v10] w9 (wk0 (fun w11 => wle w9 w11 → zb_X11_act_p474 E L Q w11) (fun e w => Q (.inr e) w))) (fun e w => Q (.inr e) w)) else (if x1 = 36 then zw E (L - 23) kt_M64 [.ref (w_adr E.2.1 10 0)] w (wk0 (fun w13 => wle w w13 → zb_X11_act_p474 E L Q w13) (fun e w => Q (.inr e) w)) else (if x1 = 37 then zw E (L - 20) kt_M88 [.ref (w_adr E.2.1 10 0)] w (wk1 (fun v16 w15 => wle w w15 → zw E (L - 21) kt_M109 [.ref (w_adr E.2.1 10 0), .int v16] w15 (wk0 (fun w17 => wle w15 w17 → zb_X11_act_p474 E L Q w17) (fun e w => Q (.inr e) w))) (fun e w => Q (.inr e) w)) else (if x1 = 38 then zw E (L - 20) kt_M95 [.ref (w_adr E.2.1 10 0)] w (wk1 (fun v20 w19 => wle w w19 → zw E (L - 22) kt_M127 [.ref (w_adr E.2.1 11 0), .int v20, .int (w_i w19 10 0 8)] w19 (wk0 (fun w21 => wle w19 w21 → zb_X11_act_p474 E L Q w21) (fun e w => Q (.inr e) w))) (fun e w => Q (.inr e) w)) else (if x1 = 39 then zw E (L - 20) kt_M95 [.ref (w_adr E.2.1 10 0)] w (wk1 (fun v24 w23 => wle w w23 → zw E (L - 21) kt_M77 [.ref (w_adr E.2.1 10 0), .int v24] w23 (wk1 (fun v26 w25 => wle w23 w25 → (if v26 = 0 then (∃ p27, w_p w25 10 0 21 = some p27 ∧ w_l w25 E.2.1 17 p27 ∧ zw E (L - 21) kt_M114 [.ref (w_adr E.2.1 10 0), va_rf (some (E.1.1 62))] (ws_i (ws_i w25 17 p27 7 v24) 17 p27 19 1) (wk0 (fun w28 => wle (ws_i (ws_i w25 17 p27 7 v24) 17 p27 19 1) w28 → zb_X11_act_p474 E L Q w28) (fun e w => Q (.inr e) w))) else Q (.inl none) w25)) (fun e w => Q (.inr e) w))) (fun e w => Q (.inr e) w)) else (if x1 = 40 then (∃ p30, w_p w 10 0 21 = some p30 ∧ w_l w E.2.1 17 p30 ∧ zb_X11_act_p474 E L Q (ws_i w 17 p30 16 0)) else (if x1 = 41 then zw E (L - 20) kt_M88 [.ref (w_adr E.2.1 10 0)] w (wk1 (fun v32 w31 => wle w w31 → zw E (L - 20) kt_M88 [.ref (w_adr E.2.1 10 0)] w31 (wk1 (fun v34 w33 => wle w31 w33 → zw E (L - 20) kt_M88 [.ref (w_adr E.2.1 10 0)] w33 (wk1 (fun v36 w35 => wle w33 w35 → zw E (L - 20) kt_M95 [.ref (w_adr E.2.1 10 0)] w35 (wk1 (fun v38 w37 => wle w35 w37 → (if ¬ v34 = (-1) then zw E (L - 22) kt_M129 [.ref (w_adr E.2.1 11 0), .int (w_i w37 10 0 26), .int v34] w37 (wk1 (fun v40 w39 => wle w37 w39 → zb_X11_act_p244 E L Q v40 v36 v38 v32 (w_p w35 10 0 21) w39) (fun e w => Q (.inr e) w)) else zb_X11_act_p244 E L Q 0 v36 v38 v32 (w_p w35 10 0 21) w37)) (fun e w => Q (.inr e) w))) (fun e w => Q (.inr e) w))) (fun e w => Q (.inr e) w))) (fun e w => Q (.inr e) w)) else (if x1 = 42 then zw E (L - 20) kt_M88 [.ref (w_adr E.2.1 10 0)] w (wk1 (fun v42 w41 => wle w w41 → zw E (L - 20) kt_M88 [.ref (w_adr E.2.1 10 0)] w41 (wk1 (fun v44 w43 => wle w41 w43 → zw E (L - 25) kt_M67 [.ref (w_adr E.2.1 10 0), .int v42, .int v44] w43 (wk0 (fun w45 => wle w43 w45 → zb_X11_act_p474 E L Q w45) (fun e w => Q (.inr e) w))) (fun e w => Q (.inr e) w))) (fun e w => Q (.inr e) w)) else (if x1 = 43 then (∃ p47, w_p w 10 0 21 = some p47 ∧ w_l w E.2.1 17 p47 ∧ (if ¬ w_i w 17 p47 8 = 60 then zw E (L - 20) kt_M88 [.ref (w_adr E.2.1 10 0)] (ws_i w 17 p47 8 ((w_i w 17 p47 8) + 1)) (wk1 (fun v49 w48 => wle (ws_i w 17 p47 8 ((w_i w 17 p47 8) + 1)) w48 → zw E (L - 20) kt_M88 [.ref (w_adr E.2.1 10 0)] w48 (wk1 (fun v51 w50 => wle w48 w50 → zw E (L - 26) kt_M65 [.ref (w_adr E.2.1 10 0), .int v49, .int v51] w50 (wk0 (fun w52 => wle w50 w52 → zb_X11_act_p474 E L Q w52) (fun e w => Q (.inr e) w))) (fun e w => Q (.inr e) w))) (fun e w => Q (.inr e) w)) else zw E (L - 21) kt_M107 [.ref (w_adr E.2.1 10 0), .int 10] w (wk0 (fun w54 => wle w w54 → Q (.inl none) w54) (fun e w => Q (.inr e) w)))) else (if x1 = 44 then (∃ p56, w_p w 10 0 21 = some p56 ∧ w_l w E.2.1 17 p56 ∧ zw E (L - 20) kt_M88 [.ref (w_adr E.2.1 10 0)] (ws_i w 17 p56 8 ((w_i w 17 p56 8) - 1)) (wk1 (fun v58 w57 => wle (ws_i w 17 p56 8 ((w_i w 17 p56 8) - 1)) w57 → zw E (L - 24) kt_M61 [.ref (w_adr E.2.1 10 0), .int v58] w57 (wk0 (fun w59 => wle w57 w59 → zb_X11_act_p474 E L Q w59) (fun e w => Q (.inr e) w))) (fun e w => Q (.inr e) w))) else (if x1 = 45 then zw E (L - 20) kt_M88 [.ref (w_adr E.2.1 10 0)] w (wk1 (fun v62 w61 => wle w w61 → zw E (L - 20) kt_M88 [.ref (w_adr E.2.1 10 0)] w61 (wk1 (fun v64 w63 => wle w61 w63 → zw E (L - 20) kt_M104 [.ref (w_adr E.2.1 10 0)] w63 (wk0 (fun w65 => wle w63 w65 → (if w_i w65 10 0 31 = 0 then zb_X11_act_p372 E L Q v62 v64 w65 else (if ¬ w_i w65 10 0 27 = 20 then zb_X11_act_p372 E L Q v62 v64 w65 else zw E (L - 21) kt_M107 [.ref (w_adr E.2.1 10 0), .int 11] w65 (wk0 (fun w67 => wle w65 w67 → zb_X11_act_p372 E L Q v62 v64 w67) (fun e w => Q (.inr e) w))))) (fun e w => Q (.inr e) w))) (fun e w => Q (.inr e) w))) (fun e w => Q (.inr e) w)) else (if x1 = 46 then zw E (L - 22) kt_M129 [.ref (w_adr E.2.1 11 0), .int (w_i w 10 0 26), .int 3] w (wk1 (fun v70 w69 => wle w w69 → zw E (L - 20) kt_M88 [.ref (w_adr E.2.1 10 0)] w69 (wk1 (fun v72 w71 => wle w69 w71 → zw E (L - 24) kt_M61 [.ref (w_adr E.2.1 10 0), .int v72] w71 (wk0 (fun w73 => wle w71 w73 → zw E (L - 22) kt_M70 [.ref (w_adr E.2.1 10 0), va_rf (w_p w73 10 0 21), .int v70] w73 (wk0 (fun w75 => wle w73 w75 → zb_X11_act_p474 E L Q (ws_i w75 10 0 27 ((w_i w75 10 0 27) - 1))) (fun e w => Q (.inr e) w))) (fun e w => Q (.inr e) w))) (fun e w => Q (.inr e) w))) (fun e w => Q (.inr e) w)) else (if x1 = 47 then zw E (L - 20) kt_M88 [.ref (w_adr E.2.1 10 0)] w (wk1 (fun v78 w77 => wle w w77 → zw E (L - 20) kt_M88 [.ref (w_adr E.2.1 10 0)] w77 (wk1 (fun v80 w79 => wle w77 w79 → (if ¬ v80 = 1 then zb_X11_act_p460 E L Q 0 v78 w79 else zb_X11_act_p460 E L Q 1 v78 w79)) (fun e w => Q (.inr e) w))) (fun e w => Q (.inr e) w)) else zw E (L - 22) kt_M71 [.ref (w_adr E.2.1 10 0)] w (wk0 (fun w81 => wle w w81 → zb_X11_act_p474 E L Q w81) (fun e w => Q (.inr e) w)))))))))))))))))
theorem zt_X11_act_p0 {E : zE} {L : Nat} {Q : kx_Rs → wS → Prop} {x1 : Int32} {w : wS} (hL : 27 ≤ L) (h : zb_X11_act_p0 E L Q x1 w) : kzE E L kt_M58 0 [(0, .ref (w_adr E.2.1 10 0)), (1, .int x1)] [] w Q := by
  unfold zb_X11_act_p0 at h
  refine kz_iload_n (M := kt_M58) kX11_act_c0.1 rfl ?_
  refine kz_tsw (M := kt_M58) [(33, 76), (34, 87), (35, 98), (36, 109), (37, 116), (38, 127), (39, 145), (40, 185), (41, 196), (42, 250), (43, 265), (44, 312), (45, 336), (46, 399), (47, 442)] [_, _, _, _, _, _, _, _, _, _, _, _, _, _, _] 470 dX11_act_p1 (by decide +kernel) h ⟨fun h => ?_, fun h => ?_, fun h => ?_, fun h => ?_, fun h => ?_, fun h => ?_, fun h => ?_, fun h => ?_, fun h => ?_, fun h => ?_, fun h => ?_, fun h => ?_, fun h => ?_, fun h => ?_, fun h => ?_, trivial⟩ (fun h => ?_)
  · skip
    refine kz_aload_n (M := kt_M58) kX11_act_c0.2.2.1 rfl ?_
    refine kz_aload_n (M := kt_M58) kX11_act_c0.2.2.2.1 rfl ?_
    refine kz_cv1 (M := kt_M58) (c := 10) (o := 0) (As := []) (rest := [.ref (w_adr E.2.1 10 0)]) kX11_act_c0.2.2.2.2.1 wl_X11_276 wMv_88 rfl (.inl rfl) rfl (Nat.le_trans (Nat.le_of_ble_eq_true rfl) hL) (Nat.le_of_ble_eq_true rfl) (Nat.le_of_ble_eq_true rfl) h (fun v2 w1 hle h => ?_) (fun _ _ _ h => kzx_no rfl h)
    have h := h hle
    refine kz_cv0 (M := kt_M58) (c := 10) (o := 0) (As := [.int v2]) (rest := []) kX11_act_c0.2.2.2.2.2.1 wl_X11_295 wMv_107 rfl (.inl rfl) rfl (Nat.le_trans (Nat.le_of_ble_eq_true rfl) hL) (Nat.le_of_ble_eq_true rfl) (Nat.le_of_ble_eq_true rfl) h (fun w3 hle h => ?_) (fun _ _ _ h => kzx_no rfl h)
    have h := h hle
    refine kz_goto (M := kt_M58) kX11_act_c0.2.2.2.2.2.2.1 (t := 474) rfl ?_
    exact kz_weak [(0, .ref (w_adr E.2.1 10 0))] ⟨rfl, trivial⟩ rfl (zt_X11_act_p474 hL  h)
  · skip
    refine kz_aload_n (M := kt_M58) kX11_act_c0.2.2.2.2.2.2.2.1 rfl ?_
    refine kz_aload_n (M := kt_M58) kX11_act_c1.1 rfl ?_
    refine kz_cv1 (M := kt_M58) (c := 10) (o := 0) (As := []) (rest := [.ref (w_adr E.2.1 10 0)]) kX11_act_c1.2.1 wl_X11_276 wMv_88 rfl (.inl rfl) rfl (Nat.le_trans (Nat.le_of_ble_eq_true rfl) hL) (Nat.le_of_ble_eq_true rfl) (Nat.le_of_ble_eq_true rfl) h (fun v6 w5 hle h => ?_) (fun _ _ _ h => kzx_no rfl h)
    have h := h hle
    refine kz_cv0 (M := kt_M58) (c := 10) (o := 0) (As := [.int v6]) (rest := []) kX11_act_c1.2.2.1 wl_X11_377 wMv_118 rfl (.inl rfl) rfl (Nat.le_trans (Nat.le_of_ble_eq_true rfl) hL) (Nat.le_of_ble_eq_true rfl) (Nat.le_of_ble_eq_true rfl) h (fun w7 hle h => ?_) (fun _ _ _ h => kzx_no rfl h)
    have h := h hle
    refine kz_goto (M := kt_M58) kX11_act_c1.2.2.2.1 (t := 474) rfl ?_
    exact kz_weak [(0, .ref (w_adr E.2.1 10 0))] ⟨rfl, trivial⟩ rfl (zt_X11_act_p474 hL  h)
  · skip
    refine kz_aload_n (M := kt_M58) kX11_act_c1.2.2.2.2.1 rfl ?_
    refine kz_aload_n (M := kt_M58) kX11_act_c1.2.2.2.2.2.1 rfl ?_
    refine kz_cv1 (M := kt_M58) (c := 10) (o := 0) (As := []) (rest := [.ref (w_adr E.2.1 10 0)]) kX11_act_c1.2.2.2.2.2.2.1 wl_X11_276 wMv_88 rfl (.inl rfl) rfl (Nat.le_trans (Nat.le_of_ble_eq_true rfl) hL) (Nat.le_of_ble_eq_true rfl) (Nat.le_of_ble_eq_true rfl) h (fun v10 w9 hle h => ?_) (fun _ _ _ h => kzx_no rfl h)
    have h := h hle
    refine kz_cv0 (M := kt_M58) (c := 10) (o := 0) (As := [.int v10]) (rest := []) kX11_act_c1.2.2.2.2.2.2.2.1 wl_X11_380 wMv_98 rfl (.inl rfl) rfl (Nat.le_trans (Nat.le_of_ble_eq_true rfl) hL) (Nat.le_of_ble_eq_true rfl) (Nat.le_of_ble_eq_true rfl) h (fun w11 hle h => ?_) (fun _ _ _ h => kzx_no rfl h)
    have h := h hle
    refine kz_goto (M := kt_M58) kX11_act_c2.1 (t := 474) rfl ?_
    exact kz_weak [(0, .ref (w_adr E.2.1 10 0))] ⟨rfl, trivial⟩ rfl (zt_X11_act_p474 hL  h)
  · skip
    refine kz_aload_n (M := kt_M58) kX11_act_c2.2.1 rfl ?_
    refine kz_cv0 (M := kt_M58) (c := 10) (o := 0) (As := []) (rest := []) kX11_act_c2.2.2.1 wl_X11_383 wMv_64 rfl (.inl rfl) rfl (Nat.le_trans (Nat.le_of_ble_eq_true rfl) hL) (Nat.le_of_ble_eq_true rfl) (Nat.le_of_ble_eq_true rfl) h (fun w13 hle h => ?_) (fun _ _ _ h => kzx_no rfl h)
    have h := h hle
    refine kz_goto (M := kt_M58) kX11_act_c2.2.2.2.1 (t := 474) rfl ?_
    exact kz_weak [(0, .ref (w_adr E.2.1 10 0))] ⟨rfl, trivial⟩ rfl (zt_X11_act_p474 hL  h)
  · skip
    refine kz_aload_n (M := kt_M58) kX11_act_c2.2.2.2.2.1 rfl ?_
    refine kz_aload_n (M := kt_M58) kX11_act_c2.2.2.2.2.2.1 rfl ?_
    refine kz_cv1 (M := kt_M58) (c := 10) (o := 0) (As := []) (rest := [.ref (w_adr E.2.1 10 0)]) kX11_act_c2.2.2.2.2.2.2.1 wl_X11_276 wMv_88 rfl (.inl rfl) rfl (Nat.le_trans (Nat.le_of_ble_eq_true rfl) hL) (Nat.le_of_ble_eq_true rfl) (Nat.le_of_ble_eq_true rfl) h (fun v16 w15 hle h => ?_) (fun _ _ _ h => kzx_no rfl h)
    have h := h hle
    refine kz_cv0 (M := kt_M58) (c := 10) (o := 0) (As := [.int v16]) (rest := []) kX11_act_c2.2.2.2.2.2.2.2.1 wl_X11_386 wMv_109 rfl (.inl rfl) rfl (Nat.le_trans (Nat.le_of_ble_eq_true rfl) hL) (Nat.le_of_ble_eq_true rfl) (Nat.le_of_ble_eq_true rfl) h (fun w17 hle h => ?_) (fun _ _ _ h => kzx_no rfl h)
    have h := h hle
    refine kz_goto (M := kt_M58) kX11_act_c3.1 (t := 474) rfl ?_
    exact kz_weak [(0, .ref (w_adr E.2.1 10 0))] ⟨rfl, trivial⟩ rfl (zt_X11_act_p474 hL  h)
  · skip
    refine kz_aload_n (M := kt_M58) kX11_act_c3.2.1 rfl ?_
    refine kz_gfc (M := kt_M58) (x := 44) (c := 10) (o := 0) kX11_act_c3.2.2.1 wf_X11_12 (.inl rfl) ?_
    refine kz_aload_n (M := kt_M58) kX11_act_c3.2.2.2.1 rfl ?_
    refine kz_cv1 (M := kt_M58) (c := 10) (o := 0) (As := []) (rest := [.ref (w_adr E.2.1 11 0)]) kX11_act_c3.2.2.2.2.1 wl_X11_304 wMv_95 rfl (.inl rfl) rfl (Nat.le_trans (Nat.le_of_ble_eq_true rfl) hL) (Nat.le_of_ble_eq_true rfl) (Nat.le_of_ble_eq_true rfl) h (fun v20 w19 hle h => ?_) (fun _ _ _ h => kzx_no rfl h)
    have h := h hle
    refine kz_aload_n (M := kt_M58) kX11_act_c3.2.2.2.2.2.1 rfl ?_
    refine kz_gfi (M := kt_M58) (c := 10) (o := 0) kX11_act_c3.2.2.2.2.2.2.1 wf_X11_177 (.inl rfl) ?_
    refine kz_cv0 (M := kt_M58) (c := 11) (o := 0) (As := [.int v20, .int (w_i w19 10 0 8)]) (rest := []) kX11_act_c3.2.2.2.2.2.2.2.1 wl_X11_348 wMv_127 rfl (.inl rfl) rfl (Nat.le_trans (Nat.le_of_ble_eq_true rfl) hL) (Nat.le_of_ble_eq_true rfl) (Nat.le_of_ble_eq_true rfl) h (fun w21 hle h => ?_) (fun _ _ _ h => kzx_no rfl h)
    have h := h hle
    refine kz_goto (M := kt_M58) kX11_act_c4.1 (t := 474) rfl ?_
    exact kz_weak [(0, .ref (w_adr E.2.1 10 0))] ⟨rfl, trivial⟩ rfl (zt_X11_act_p474 hL  h)
  · skip
    refine kz_aload_n (M := kt_M58) kX11_act_c4.2.1 rfl ?_
    refine kz_cv1 (M := kt_M58) (c := 10) (o := 0) (As := []) (rest := []) kX11_act_c4.2.2.1 wl_X11_304 wMv_95 rfl (.inl rfl) rfl (Nat.le_trans (Nat.le_of_ble_eq_true rfl) hL) (Nat.le_of_ble_eq_true rfl) (Nat.le_of_ble_eq_true rfl) h (fun v24 w23 hle h => ?_) (fun _ _ _ h => kzx_no rfl h)
    have h := h hle
    refine kz_sti_n (M := kt_M58) [(0, .ref (w_adr E.2.1 10 0))] kX11_act_c4.2.2.2.1 (Nat.le_of_ble_eq_true rfl) ⟨⟨rfl, rfl, .inl rfl⟩, trivial⟩ rfl ?_
    refine kz_aload_n (M := kt_M58) kX11_act_c4.2.2.2.2.1 rfl ?_
    refine kz_iload_n (M := kt_M58) kX11_act_c4.2.2.2.2.2.1 rfl ?_
    refine kz_cv1 (M := kt_M58) (c := 10) (o := 0) (As := [.int v24]) (rest := []) kX11_act_c4.2.2.2.2.2.2.1 wl_X11_242 wMv_77 rfl (.inl rfl) rfl (Nat.le_trans (Nat.le_of_ble_eq_true rfl) hL) (Nat.le_of_ble_eq_true rfl) (Nat.le_of_ble_eq_true rfl) h (fun v26 w25 hle h => ?_) (fun _ _ _ h => kzx_no rfl h)
    have h := h hle
    refine kz_if_eq (M := kt_M58) kX11_act_c4.2.2.2.2.2.2.2.1 (t := 159) rfl h (fun h => ?_) (fun h => ?_)
    · skip
      refine kz_aload_n (M := kt_M58) kX11_act_c5.2.1 rfl ?_
      refine kz_gfp (M := kt_M58) (c := 10) (o := 0) kX11_act_c5.2.2.1 wf_X11_110 (.inl rfl) ?_
      refine kz_iload_n (M := kt_M58) kX11_act_c5.2.2.2.1 rfl ?_
      obtain ⟨p27, hxp27, hlp27, h⟩ := h
      refine kz_nz1 (x := w_p w25 10 0 21) hxp27 ?_
      refine kz_pfi (M := kt_M58) (c := 17) (o := p27) kX11_act_c5.2.2.2.2.1 wq_X11_224 (.inr (by exact hlp27)) ?_
      refine kz_aload_n (M := kt_M58) kX11_act_c5.2.2.2.2.2.1 rfl ?_
      refine kz_gfpR (M := kt_M58) (c := 10) (o := 0) (w_p w25 10 0 21) kX11_act_c5.2.2.2.2.2.2.1 wf_X11_110 (.inl rfl) rd_p_i ?_
      refine kz_ic (M := kt_M58) 1 kX11_act_c5.2.2.2.2.2.2.2.1 rfl ?_
      refine kz_nz1 (x := w_p w25 10 0 21) hxp27 ?_
      refine kz_pfz (M := kt_M58) (c := 17) (o := p27) kX11_act_c6.1 wq_X11_270 (.inr (by exact hlp27)) (by decide) ?_
      refine kz_aload_n (M := kt_M58) kX11_act_c6.2.1 rfl ?_
      refine kz_getsE (M := kt_M58) (v := va_rf (some (E.1.1 62))) kX11_act_c6.2.2.1 zs_X11_221 ?_
      refine kz_cv0 (M := kt_M58) (c := 10) (o := 0) (As := [va_rf (some (E.1.1 62))]) (rest := []) kX11_act_c6.2.2.2.1 wl_X11_389 wMv_114 rfl (.inl rfl) rfl (Nat.le_trans (Nat.le_of_ble_eq_true rfl) hL) (by simp [lg_sl, w_cat, z_ci, z_cr, z_cl, z_cn, kt_M114]) (Nat.le_of_ble_eq_true rfl) h (fun w28 hle h => ?_) (fun _ _ _ h => kzx_no rfl h)
      have h := h hle
      have hlp27 := w_l_le hlp27 hle
      refine kz_goto (M := kt_M58) kX11_act_c6.2.2.2.2.1 (t := 474) rfl ?_
      exact kz_weak [(0, .ref (w_adr E.2.1 10 0))] ⟨rfl, trivial⟩ rfl (zt_X11_act_p474 hL  h)
    · skip
      exact kz_ret (M := kt_M58) kX11_act_c5.1 rfl h
  · skip
    refine kz_aload_n (M := kt_M58) kX11_act_c6.2.2.2.2.2.1 rfl ?_
    refine kz_gfp (M := kt_M58) (c := 10) (o := 0) kX11_act_c6.2.2.2.2.2.2.1 wf_X11_110 (.inl rfl) ?_
    refine kz_ic (M := kt_M58) 0 kX11_act_c6.2.2.2.2.2.2.2.1 rfl ?_
    obtain ⟨p30, hxp30, hlp30, h⟩ := h
    refine kz_nz1 (x := w_p w 10 0 21) hxp30 ?_
    refine kz_pfi (M := kt_M58) (c := 17) (o := p30) kX11_act_c7.1 wq_X11_234 (.inr (by exact hlp30)) ?_
    refine kz_goto (M := kt_M58) kX11_act_c7.2.1 (t := 474) rfl ?_
    exact kz_weak [(0, .ref (w_adr E.2.1 10 0))] ⟨rfl, trivial⟩ rfl (zt_X11_act_p474 hL  h)
  · skip
    refine kz_aload_n (M := kt_M58) kX11_act_c7.2.2.1 rfl ?_
    refine kz_cv1 (M := kt_M58) (c := 10) (o := 0) (As := []) (rest := []) kX11_act_c7.2.2.2.1 wl_X11_276 wMv_88 rfl (.inl rfl) rfl (Nat.le_trans (Nat.le_of_ble_eq_true rfl) hL) (Nat.le_of_ble_eq_true rfl) (Nat.le_of_ble_eq_true rfl) h (fun v32 w31 hle h => ?_) (fun _ _ _ h => kzx_no rfl h)
    have h := h hle
    refine kz_sti_n (M := kt_M58) [(0, .ref (w_adr E.2.1 10 0))] kX11_act_c7.2.2.2.2.1 (Nat.le_of_ble_eq_true rfl) ⟨⟨rfl, rfl, .inl rfl⟩, trivial⟩ rfl ?_
    refine kz_aload_n (M := kt_M58) kX11_act_c7.2.2.2.2.2.1 rfl ?_
    refine kz_cv1 (M := kt_M58) (c := 10) (o := 0) (As := []) (rest := []) kX11_act_c7.2.2.2.2.2.2.1 wl_X11_276 wMv_88 rfl (.inl rfl) rfl (Nat.le_trans (Nat.le_of_ble_eq_true rfl) hL) (Nat.le_of_ble_eq_true rfl) (Nat.le_of_ble_eq_true rfl) h (fun v34 w33 hle h => ?_) (fun _ _ _ h => kzx_no rfl h)
    have h := h hle
    refine kz_sti_n (M := kt_M58) [(0, .ref (w_adr E.2.1 10 0)), (2, .int v32)] kX11_act_c7.2.2.2.2.2.2.2.1 (Nat.le_of_ble_eq_true rfl) ⟨⟨rfl, rfl, .inl rfl⟩, ⟨⟨rfl, rfl, .inr rfl⟩, trivial⟩⟩ rfl ?_
    refine kz_aload_n (M := kt_M58) kX11_act_c8.1 rfl ?_
    refine kz_cv1 (M := kt_M58) (c := 10) (o := 0) (As := []) (rest := []) kX11_act_c8.2.1 wl_X11_276 wMv_88 rfl (.inl rfl) rfl (Nat.le_trans (Nat.le_of_ble_eq_true rfl) hL) (Nat.le_of_ble_eq_true rfl) (Nat.le_of_ble_eq_true rfl) h (fun v36 w35 hle h => ?_) (fun _ _ _ h => kzx_no rfl h)
    have h := h hle
    refine kz_sti (M := kt_M58) [(0, .ref (w_adr E.2.1 10 0)), (2, .int v32), (3, .int v34)] kX11_act_c8.2.2.1 (Nat.le_of_ble_eq_true rfl) ⟨⟨rfl, rfl, .inl rfl⟩, ⟨⟨rfl, rfl, .inl rfl⟩, ⟨⟨rfl, rfl, .inr rfl⟩, trivial⟩⟩⟩ rfl ?_
    refine kz_aload_n (M := kt_M58) kX11_act_c8.2.2.2.1 rfl ?_
    refine kz_gfp (M := kt_M58) (c := 10) (o := 0) kX11_act_c8.2.2.2.2.1 wf_X11_110 (.inl rfl) ?_
    refine kz_iload_n (M := kt_M58) kX11_act_c8.2.2.2.2.2.1 rfl ?_
    refine kz_aload_n (M := kt_M58) kX11_act_c8.2.2.2.2.2.2.1 rfl ?_
    refine kz_cv1 (M := kt_M58) (c := 10) (o := 0) (As := []) (rest := [.int v32, va_rf (w_p w35 10 0 21)]) kX11_act_c8.2.2.2.2.2.2.2.1 wl_X11_304 wMv_95 rfl (.inl rfl) rfl (Nat.le_trans (Nat.le_of_ble_eq_true rfl) hL) (Nat.le_of_ble_eq_true rfl) (by simp [kx_cat, w_cat, z_ci, z_cr, z_cl, z_cn]) h (fun v38 w37 hle h => ?_) (fun _ _ _ h => kzx_no rfl h)
    have h := h hle
    refine kz_iload (M := kt_M58) kX11_act_c9.1 rfl ?_
    refine kz_iload_n (M := kt_M58) kX11_act_c9.2.1 rfl ?_
    refine kz_ic (M := kt_M58) (-1) kX11_act_c9.2.2.1 rfl ?_
    refine kz_icmp_ne (M := kt_M58) kX11_act_c9.2.2.2.1 (t := 232) rfl h (fun h => ?_) (fun h => ?_)
    · skip
      refine kz_aload_n (M := kt_M58) kX11_act_c9.2.2.2.2.2.2.1 rfl ?_
      refine kz_gfc (M := kt_M58) (x := 44) (c := 10) (o := 0) kX11_act_c9.2.2.2.2.2.2.2.1 wf_X11_12 (.inl rfl) ?_
      refine kz_aload_n (M := kt_M58) kX11_act_c10.1 rfl ?_
      refine kz_gfi (M := kt_M58) (c := 10) (o := 0) kX11_act_c10.2.1 wf_X11_114 (.inl rfl) ?_
      refine kz_iload_n (M := kt_M58) kX11_act_c10.2.2.1 rfl ?_
      refine kz_cv1 (M := kt_M58) (c := 11) (o := 0) (As := [.int (w_i w37 10 0 26), .int v34]) (rest := [.int v36, .int v38, .int v32, va_rf (w_p w35 10 0 21)]) kX11_act_c10.2.2.2.1 wl_X11_289 wMv_129 rfl (.inl rfl) rfl (Nat.le_trans (Nat.le_of_ble_eq_true rfl) hL) (Nat.le_of_ble_eq_true rfl) (by simp [kx_cat, w_cat, z_ci, z_cr, z_cl, z_cn]) h (fun v40 w39 hle h => ?_) (fun _ _ _ h => kzx_no rfl h)
      have h := h hle
      exact kz_weak [(0, .ref (w_adr E.2.1 10 0))] ⟨rfl, trivial⟩ rfl (zt_X11_act_p244 hL  h)
    · skip
      refine kz_ic (M := kt_M58) 0 kX11_act_c9.2.2.2.2.1 rfl ?_
      refine kz_goto (M := kt_M58) kX11_act_c9.2.2.2.2.2.1 (t := 244) rfl ?_
      exact kz_weak [(0, .ref (w_adr E.2.1 10 0))] ⟨rfl, trivial⟩ rfl (zt_X11_act_p244 hL  h)
  · skip
    refine kz_aload_n (M := kt_M58) kX11_act_c10.2.2.2.2.2.2.1 rfl ?_
    refine kz_aload_n (M := kt_M58) kX11_act_c10.2.2.2.2.2.2.2.1 rfl ?_
    refine kz_cv1 (M := kt_M58) (c := 10) (o := 0) (As := []) (rest := [.ref (w_adr E.2.1 10 0)]) kX11_act_c11.1 wl_X11_276 wMv_88 rfl (.inl rfl) rfl (Nat.le_trans (Nat.le_of_ble_eq_true rfl) hL) (Nat.le_of_ble_eq_true rfl) (Nat.le_of_ble_eq_true rfl) h (fun v42 w41 hle h => ?_) (fun _ _ _ h => kzx_no rfl h)
    have h := h hle
    refine kz_aload_n (M := kt_M58) kX11_act_c11.2.1 rfl ?_
    refine kz_cv1 (M := kt_M58) (c := 10) (o := 0) (As := []) (rest := [.int v42, .ref (w_adr E.2.1 10 0)]) kX11_act_c11.2.2.1 wl_X11_276 wMv_88 rfl (.inl rfl) rfl (Nat.le_trans (Nat.le_of_ble_eq_true rfl) hL) (Nat.le_of_ble_eq_true rfl) (Nat.le_of_ble_eq_true rfl) h (fun v44 w43 hle h => ?_) (fun _ _ _ h => kzx_no rfl h)
    have h := h hle
    refine kz_cv0 (M := kt_M58) (c := 10) (o := 0) (As := [.int v42, .int v44]) (rest := []) kX11_act_c11.2.2.2.1 wl_X11_397 wMv_67 rfl (.inl rfl) rfl (Nat.le_trans (Nat.le_of_ble_eq_true rfl) hL) (Nat.le_of_ble_eq_true rfl) (Nat.le_of_ble_eq_true rfl) h (fun w45 hle h => ?_) (fun _ _ _ h => kzx_no rfl h)
    have h := h hle
    refine kz_goto (M := kt_M58) kX11_act_c11.2.2.2.2.1 (t := 474) rfl ?_
    exact kz_weak [(0, .ref (w_adr E.2.1 10 0))] ⟨rfl, trivial⟩ rfl (zt_X11_act_p474 hL  h)
  · skip
    refine kz_aload_n (M := kt_M58) kX11_act_c11.2.2.2.2.2.1 rfl ?_
    refine kz_gfp (M := kt_M58) (c := 10) (o := 0) kX11_act_c11.2.2.2.2.2.2.1 wf_X11_110 (.inl rfl) ?_
    obtain ⟨p47, hxp47, hlp47, h⟩ := h
    refine kz_nz0 (x := w_p w 10 0 21) hxp47 ?_
    refine kz_gfi (M := kt_M58) (c := 17) (o := p47) kX11_act_c11.2.2.2.2.2.2.2.1 wf_X11_400 (.inr (by exact hlp47)) ?_
    refine kz_bi (M := kt_M58) 60 kX11_act_c12.1 rfl ?_
    refine kz_icmp_ne (M := kt_M58) kX11_act_c12.2.1 (t := 284) rfl h (fun h => ?_) (fun h => ?_)
    · skip
      refine kz_aload_n (M := kt_M58) kX11_act_c12.2.2.2.2.2.2.1 rfl ?_
      refine kz_gfp (M := kt_M58) (c := 10) (o := 0) kX11_act_c12.2.2.2.2.2.2.2.1 wf_X11_110 (.inl rfl) ?_
      refine kz_dup (M := kt_M58) kX11_act_c13.1 (w_cat _) ?_
      refine kz_nz0 (x := w_p w 10 0 21) hxp47 ?_
      refine kz_gfi (M := kt_M58) (c := 17) (o := p47) kX11_act_c13.2.1 wf_X11_400 (.inr (by exact hlp47)) ?_
      refine kz_ic (M := kt_M58) 1 kX11_act_c13.2.2.1 rfl ?_
      refine kz_iadd (M := kt_M58) kX11_act_c13.2.2.2.1 ?_
      refine kz_nz1 (x := w_p w 10 0 21) hxp47 ?_
      refine kz_pfi (M := kt_M58) (c := 17) (o := p47) kX11_act_c13.2.2.2.2.1 wq_X11_400 (.inr (by exact hlp47)) ?_
      refine kz_aload_n (M := kt_M58) kX11_act_c13.2.2.2.2.2.1 rfl ?_
      refine kz_aload_n (M := kt_M58) kX11_act_c13.2.2.2.2.2.2.1 rfl ?_
      refine kz_cv1 (M := kt_M58) (c := 10) (o := 0) (As := []) (rest := [.ref (w_adr E.2.1 10 0)]) kX11_act_c13.2.2.2.2.2.2.2.1 wl_X11_276 wMv_88 rfl (.inl rfl) rfl (Nat.le_trans (Nat.le_of_ble_eq_true rfl) hL) (Nat.le_of_ble_eq_true rfl) (Nat.le_of_ble_eq_true rfl) h (fun v49 w48 hle h => ?_) (fun _ _ _ h => kzx_no rfl h)
      have h := h hle
      have hlp47 := w_l_le hlp47 hle
      refine kz_aload_n (M := kt_M58) kX11_act_c14.1 rfl ?_
      refine kz_cv1 (M := kt_M58) (c := 10) (o := 0) (As := []) (rest := [.int v49, .ref (w_adr E.2.1 10 0)]) kX11_act_c14.2.1 wl_X11_276 wMv_88 rfl (.inl rfl) rfl (Nat.le_trans (Nat.le_of_ble_eq_true rfl) hL) (Nat.le_of_ble_eq_true rfl) (Nat.le_of_ble_eq_true rfl) h (fun v51 w50 hle h => ?_) (fun _ _ _ h => kzx_no rfl h)
      have h := h hle
      have hlp47 := w_l_le hlp47 hle
      refine kz_cv0 (M := kt_M58) (c := 10) (o := 0) (As := [.int v49, .int v51]) (rest := []) kX11_act_c14.2.2.1 wl_X11_403 wMv_65 rfl (.inl rfl) rfl (Nat.le_trans (Nat.le_of_ble_eq_true rfl) hL) (Nat.le_of_ble_eq_true rfl) (Nat.le_of_ble_eq_true rfl) h (fun w52 hle h => ?_) (fun _ _ _ h => kzx_no rfl h)
      have h := h hle
      have hlp47 := w_l_le hlp47 hle
      refine kz_goto (M := kt_M58) kX11_act_c14.2.2.2.1 (t := 474) rfl ?_
      exact kz_weak [(0, .ref (w_adr E.2.1 10 0))] ⟨rfl, trivial⟩ rfl (zt_X11_act_p474 hL  h)
    · skip
      refine kz_aload_n (M := kt_M58) kX11_act_c12.2.2.1 rfl ?_
      refine kz_bi (M := kt_M58) 10 kX11_act_c12.2.2.2.1 rfl ?_
      refine kz_cv0 (M := kt_M58) (c := 10) (o := 0) (As := [.int 10]) (rest := []) kX11_act_c12.2.2.2.2.1 wl_X11_295 wMv_107 rfl (.inl rfl) rfl (Nat.le_trans (Nat.le_of_ble_eq_true rfl) hL) (Nat.le_of_ble_eq_true rfl) (Nat.le_of_ble_eq_true rfl) h (fun w54 hle h => ?_) (fun _ _ _ h => kzx_no rfl h)
      have h := h hle
      have hlp47 := w_l_le hlp47 hle
      exact kz_ret (M := kt_M58) kX11_act_c12.2.2.2.2.2.1 rfl h
  · skip
    refine kz_aload_n (M := kt_M58) kX11_act_c14.2.2.2.2.1 rfl ?_
    refine kz_gfp (M := kt_M58) (c := 10) (o := 0) kX11_act_c14.2.2.2.2.2.1 wf_X11_110 (.inl rfl) ?_
    refine kz_dup (M := kt_M58) kX11_act_c14.2.2.2.2.2.2.1 (w_cat _) ?_
    obtain ⟨p56, hxp56, hlp56, h⟩ := h
    refine kz_nz0 (x := w_p w 10 0 21) hxp56 ?_
    refine kz_gfi (M := kt_M58) (c := 17) (o := p56) kX11_act_c14.2.2.2.2.2.2.2.1 wf_X11_400 (.inr (by exact hlp56)) ?_
    refine kz_ic (M := kt_M58) 1 kX11_act_c15.1 rfl ?_
    refine kz_isub (M := kt_M58) kX11_act_c15.2.1 ?_
    refine kz_nz1 (x := w_p w 10 0 21) hxp56 ?_
    refine kz_pfi (M := kt_M58) (c := 17) (o := p56) kX11_act_c15.2.2.1 wq_X11_400 (.inr (by exact hlp56)) ?_
    refine kz_aload_n (M := kt_M58) kX11_act_c15.2.2.2.1 rfl ?_
    refine kz_aload_n (M := kt_M58) kX11_act_c15.2.2.2.2.1 rfl ?_
    refine kz_cv1 (M := kt_M58) (c := 10) (o := 0) (As := []) (rest := [.ref (w_adr E.2.1 10 0)]) kX11_act_c15.2.2.2.2.2.1 wl_X11_276 wMv_88 rfl (.inl rfl) rfl (Nat.le_trans (Nat.le_of_ble_eq_true rfl) hL) (Nat.le_of_ble_eq_true rfl) (Nat.le_of_ble_eq_true rfl) h (fun v58 w57 hle h => ?_) (fun _ _ _ h => kzx_no rfl h)
    have h := h hle
    have hlp56 := w_l_le hlp56 hle
    refine kz_cv0 (M := kt_M58) (c := 10) (o := 0) (As := [.int v58]) (rest := []) kX11_act_c15.2.2.2.2.2.2.1 wl_X11_406 wMv_61 rfl (.inl rfl) rfl (Nat.le_trans (Nat.le_of_ble_eq_true rfl) hL) (Nat.le_of_ble_eq_true rfl) (Nat.le_of_ble_eq_true rfl) h (fun w59 hle h => ?_) (fun _ _ _ h => kzx_no rfl h)
    have h := h hle
    have hlp56 := w_l_le hlp56 hle
    refine kz_goto (M := kt_M58) kX11_act_c15.2.2.2.2.2.2.2.1 (t := 474) rfl ?_
    exact kz_weak [(0, .ref (w_adr E.2.1 10 0))] ⟨rfl, trivial⟩ rfl (zt_X11_act_p474 hL  h)
  · skip
    refine kz_aload_n (M := kt_M58) kX11_act_c16.1 rfl ?_
    refine kz_cv1 (M := kt_M58) (c := 10) (o := 0) (As := []) (rest := []) kX11_act_c16.2.1 wl_X11_276 wMv_88 rfl (.inl rfl) rfl (Nat.le_trans (Nat.le_of_ble_eq_true rfl) hL) (Nat.le_of_ble_eq_true rfl) (Nat.le_of_ble_eq_true rfl) h (fun v62 w61 hle h => ?_) (fun _ _ _ h => kzx_no rfl h)
    have h := h hle
    refine kz_sti_n (M := kt_M58) [(0, .ref (w_adr E.2.1 10 0))] kX11_act_c16.2.2.1 (Nat.le_of_ble_eq_true rfl) ⟨⟨rfl, rfl, .inl rfl⟩, trivial⟩ rfl ?_
    refine kz_aload_n (M := kt_M58) kX11_act_c16.2.2.2.1 rfl ?_
    refine kz_cv1 (M := kt_M58) (c := 10) (o := 0) (As := []) (rest := []) kX11_act_c16.2.2.2.2.1 wl_X11_276 wMv_88 rfl (.inl rfl) rfl (Nat.le_trans (Nat.le_of_ble_eq_true rfl) hL) (Nat.le_of_ble_eq_true rfl) (Nat.le_of_ble_eq_true rfl) h (fun v64 w63 hle h => ?_) (fun _ _ _ h => kzx_no rfl h)
    have h := h hle
    refine kz_sti_n (M := kt_M58) [(0, .ref (w_adr E.2.1 10 0)), (2, .int v62)] kX11_act_c16.2.2.2.2.2.1 (Nat.le_of_ble_eq_true rfl) ⟨⟨rfl, rfl, .inl rfl⟩, ⟨⟨rfl, rfl, .inr rfl⟩, trivial⟩⟩ rfl ?_
    refine kz_aload_n (M := kt_M58) kX11_act_c16.2.2.2.2.2.2.1 rfl ?_
    refine kz_cv0 (M := kt_M58) (c := 10) (o := 0) (As := []) (rest := []) kX11_act_c16.2.2.2.2.2.2.2.1 wl_X11_292 wMv_104 rfl (.inl rfl) rfl (Nat.le_trans (Nat.le_of_ble_eq_true rfl) hL) (Nat.le_of_ble_eq_true rfl) (Nat.le_of_ble_eq_true rfl) h (fun w65 hle h => ?_) (fun _ _ _ h => kzx_no rfl h)
    have h := h hle
    refine kz_aload_n (M := kt_M58) kX11_act_c17.1 rfl ?_
    refine kz_gfi (M := kt_M58) (c := 10) (o := 0) kX11_act_c17.2.1 wf_X11_115 (.inl rfl) ?_
    refine kz_if_eq (M := kt_M58) kX11_act_c17.2.2.1 (t := 372) rfl h (fun h => ?_) (fun h => ?_)
    · skip
      exact kz_weak [(0, .ref (w_adr E.2.1 10 0)), (2, .int v62), (3, .int v64)] ⟨rfl, ⟨rfl, ⟨rfl, trivial⟩⟩⟩ rfl (zt_X11_act_p372 hL  h)
    · skip
      refine kz_aload_n (M := kt_M58) kX11_act_c17.2.2.2.1 rfl ?_
      refine kz_gfi (M := kt_M58) (c := 10) (o := 0) kX11_act_c17.2.2.2.2.1 wf_X11_135 (.inl rfl) ?_
      refine kz_bi (M := kt_M58) 20 kX11_act_c17.2.2.2.2.2.1 rfl ?_
      refine kz_icmp_ne (M := kt_M58) kX11_act_c17.2.2.2.2.2.2.1 (t := 372) rfl h (fun h => ?_) (fun h => ?_)
      · skip
        exact kz_weak [(0, .ref (w_adr E.2.1 10 0)), (2, .int v62), (3, .int v64)] ⟨rfl, ⟨rfl, ⟨rfl, trivial⟩⟩⟩ rfl (zt_X11_act_p372 hL  h)
      · skip
        refine kz_aload_n (M := kt_M58) kX11_act_c17.2.2.2.2.2.2.2.1 rfl ?_
        refine kz_bi (M := kt_M58) 11 kX11_act_c18.1 rfl ?_
        refine kz_cv0 (M := kt_M58) (c := 10) (o := 0) (As := [.int 11]) (rest := []) kX11_act_c18.2.1 wl_X11_295 wMv_107 rfl (.inl rfl) rfl (Nat.le_trans (Nat.le_of_ble_eq_true rfl) hL) (Nat.le_of_ble_eq_true rfl) (Nat.le_of_ble_eq_true rfl) h (fun w67 hle h => ?_) (fun _ _ _ h => kzx_no rfl h)
        have h := h hle
        exact kz_weak [(0, .ref (w_adr E.2.1 10 0)), (2, .int v62), (3, .int v64)] ⟨rfl, ⟨rfl, ⟨rfl, trivial⟩⟩⟩ rfl (zt_X11_act_p372 hL  h)
  · skip
    refine kz_aload_n (M := kt_M58) kX11_act_c20.2.1 rfl ?_
    refine kz_gfc (M := kt_M58) (x := 44) (c := 10) (o := 0) kX11_act_c20.2.2.1 wf_X11_12 (.inl rfl) ?_
    refine kz_aload_n (M := kt_M58) kX11_act_c20.2.2.2.1 rfl ?_
    refine kz_gfi (M := kt_M58) (c := 10) (o := 0) kX11_act_c20.2.2.2.2.1 wf_X11_114 (.inl rfl) ?_
    refine kz_ic (M := kt_M58) 3 kX11_act_c20.2.2.2.2.2.1 rfl ?_
    refine kz_cv1 (M := kt_M58) (c := 11) (o := 0) (As := [.int (w_i w 10 0 26), .int 3]) (rest := []) kX11_act_c20.2.2.2.2.2.2.1 wl_X11_289 wMv_129 rfl (.inl rfl) rfl (Nat.le_trans (Nat.le_of_ble_eq_true rfl) hL) (Nat.le_of_ble_eq_true rfl) (Nat.le_of_ble_eq_true rfl) h (fun v70 w69 hle h => ?_) (fun _ _ _ h => kzx_no rfl h)
    have h := h hle
    refine kz_sti_n (M := kt_M58) [(0, .ref (w_adr E.2.1 10 0))] kX11_act_c20.2.2.2.2.2.2.2.1 (Nat.le_of_ble_eq_true rfl) ⟨⟨rfl, rfl, .inl rfl⟩, trivial⟩ rfl ?_
    refine kz_aload_n (M := kt_M58) kX11_act_c21.1 rfl ?_
    refine kz_aload_n (M := kt_M58) kX11_act_c21.2.1 rfl ?_
    refine kz_cv1 (M := kt_M58) (c := 10) (o := 0) (As := []) (rest := [.ref (w_adr E.2.1 10 0)]) kX11_act_c21.2.2.1 wl_X11_276 wMv_88 rfl (.inl rfl) rfl (Nat.le_trans (Nat.le_of_ble_eq_true rfl) hL) (Nat.le_of_ble_eq_true rfl) (Nat.le_of_ble_eq_true rfl) h (fun v72 w71 hle h => ?_) (fun _ _ _ h => kzx_no rfl h)
    have h := h hle
    refine kz_cv0 (M := kt_M58) (c := 10) (o := 0) (As := [.int v72]) (rest := []) kX11_act_c21.2.2.2.1 wl_X11_406 wMv_61 rfl (.inl rfl) rfl (Nat.le_trans (Nat.le_of_ble_eq_true rfl) hL) (Nat.le_of_ble_eq_true rfl) (Nat.le_of_ble_eq_true rfl) h (fun w73 hle h => ?_) (fun _ _ _ h => kzx_no rfl h)
    have h := h hle
    refine kz_aload_n (M := kt_M58) kX11_act_c21.2.2.2.2.1 rfl ?_
    refine kz_aload_n (M := kt_M58) kX11_act_c21.2.2.2.2.2.1 rfl ?_
    refine kz_gfp (M := kt_M58) (c := 10) (o := 0) kX11_act_c21.2.2.2.2.2.2.1 wf_X11_110 (.inl rfl) ?_
    refine kz_iload_n (M := kt_M58) kX11_act_c21.2.2.2.2.2.2.2.1 rfl ?_
    refine kz_cv0 (M := kt_M58) (c := 10) (o := 0) (As := [va_rf (w_p w73 10 0 21), .int v70]) (rest := []) kX11_act_c22.1 wl_X11_131 wMv_70 rfl (.inl rfl) rfl (Nat.le_trans (Nat.le_of_ble_eq_true rfl) hL) (by simp [lg_sl, w_cat, z_ci, z_cr, z_cl, z_cn, kt_M70]) (Nat.le_of_ble_eq_true rfl) h (fun w75 hle h => ?_) (fun _ _ _ h => kzx_no rfl h)
    have h := h hle
    refine kz_aload_n (M := kt_M58) kX11_act_c22.2.1 rfl ?_
    refine kz_dup (M := kt_M58) kX11_act_c22.2.2.1 rfl ?_
    refine kz_gfi (M := kt_M58) (c := 10) (o := 0) kX11_act_c22.2.2.2.1 wf_X11_135 (.inl rfl) ?_
    refine kz_ic (M := kt_M58) 1 kX11_act_c22.2.2.2.2.1 rfl ?_
    refine kz_isub (M := kt_M58) kX11_act_c22.2.2.2.2.2.1 ?_
    refine kz_pfi (M := kt_M58) (c := 10) (o := 0) kX11_act_c22.2.2.2.2.2.2.1 wq_X11_135 (.inl rfl) ?_
    refine kz_goto (M := kt_M58) kX11_act_c22.2.2.2.2.2.2.2.1 (t := 474) rfl ?_
    exact kz_weak [(0, .ref (w_adr E.2.1 10 0))] ⟨rfl, trivial⟩ rfl (zt_X11_act_p474 hL  h)
  · skip
    refine kz_aload_n (M := kt_M58) kX11_act_c23.1 rfl ?_
    refine kz_aload_n (M := kt_M58) kX11_act_c23.2.1 rfl ?_
    refine kz_cv1 (M := kt_M58) (c := 10) (o := 0) (As := []) (rest := [.ref (w_adr E.2.1 10 0)]) kX11_act_c23.2.2.1 wl_X11_276 wMv_88 rfl (.inl rfl) rfl (Nat.le_trans (Nat.le_of_ble_eq_true rfl) hL) (Nat.le_of_ble_eq_true rfl) (Nat.le_of_ble_eq_true rfl) h (fun v78 w77 hle h => ?_) (fun _ _ _ h => kzx_no rfl h)
    have h := h hle
    refine kz_aload_n (M := kt_M58) kX11_act_c23.2.2.2.1 rfl ?_
    refine kz_cv1 (M := kt_M58) (c := 10) (o := 0) (As := []) (rest := [.int v78, .ref (w_adr E.2.1 10 0)]) kX11_act_c23.2.2.2.2.1 wl_X11_276 wMv_88 rfl (.inl rfl) rfl (Nat.le_trans (Nat.le_of_ble_eq_true rfl) hL) (Nat.le_of_ble_eq_true rfl) (Nat.le_of_ble_eq_true rfl) h (fun v80 w79 hle h => ?_) (fun _ _ _ h => kzx_no rfl h)
    have h := h hle
    refine kz_ic (M := kt_M58) 1 kX11_act_c23.2.2.2.2.2.1 rfl ?_
    refine kz_icmp_ne (M := kt_M58) kX11_act_c23.2.2.2.2.2.2.1 (t := 459) rfl h (fun h => ?_) (fun h => ?_)
    · skip
      refine kz_ic (M := kt_M58) 0 kX11_act_c24.2.1 rfl ?_
      exact kz_weak [(0, .ref (w_adr E.2.1 10 0))] ⟨rfl, trivial⟩ rfl (zt_X11_act_p460 hL  h)
    · skip
      refine kz_ic (M := kt_M58) 1 kX11_act_c23.2.2.2.2.2.2.2.1 rfl ?_
      refine kz_goto (M := kt_M58) kX11_act_c24.1 (t := 460) rfl ?_
      exact kz_weak [(0, .ref (w_adr E.2.1 10 0))] ⟨rfl, trivial⟩ rfl (zt_X11_act_p460 hL  h)
  · skip
    refine kz_aload_n (M := kt_M58) kX11_act_c24.2.2.2.2.2.2.1 rfl ?_
    refine kz_cv0 (M := kt_M58) (c := 10) (o := 0) (As := []) (rest := []) kX11_act_c24.2.2.2.2.2.2.2.1 wl_X11_413 wMv_71 rfl (.inl rfl) rfl (Nat.le_trans (Nat.le_of_ble_eq_true rfl) hL) (Nat.le_of_ble_eq_true rfl) (Nat.le_of_ble_eq_true rfl) h (fun w81 hle h => ?_) (fun _ _ _ h => kzx_no rfl h)
    have h := h hle
    exact kz_weak [(0, .ref (w_adr E.2.1 10 0))] ⟨rfl, trivial⟩ rfl (zt_X11_act_p474 hL  h)
def zb_X11_write_p195 (E : zE) (L : Nat) (Q : kx_Rs → wS → Prop) (x2 : Int32) (w : wS) : Prop := (∃ p1, w_p w 10 0 21 = some p1 ∧ w_l w E.2.1 17 p1 ∧ zw E (L - 22) kt_M127 [.ref (w_adr E.2.1 11 0), .int x2, .int ((w_i w 17 p1 0) + 1)] w (wk0 (fun w2 => wle w w2 → zw E (L - 21) kt_M114 [.ref (w_adr E.2.1 10 0), va_rf (some (E.1.1 66))] w2 (wk0 (fun w4 => wle w2 w4 → Q (.inl none) w4) (fun e w => Q (.inr e) w))) (fun e w => Q (.inr e) w)))
theorem zt_X11_write_p195 {E : zE} {L : Nat} {Q : kx_Rs → wS → Prop} {x2 : Int32} {w : wS} (hL : 27 ≤ L) (h : zb_X11_write_p195 E L Q x2 w) : kzE E L kt_M118 195 [(0, .ref (w_adr E.2.1 10 0)), (2, .int x2)] [] w Q := by
  unfold zb_X11_write_p195 at h
  refine kz_aload_n (M := kt_M118) kX11_write_c13.1 rfl ?_
  refine kz_gfc (M := kt_M118) (x := 44) (c := 10) (o := 0) kX11_write_c13.2.1 wf_X11_12 (.inl rfl) ?_
  refine kz_iload_n (M := kt_M118) kX11_write_c13.2.2.1 rfl ?_
  refine kz_aload_n (M := kt_M118) kX11_write_c13.2.2.2.1 rfl ?_
  refine kz_gfp (M := kt_M118) (c := 10) (o := 0) kX11_write_c13.2.2.2.2.1 wf_X11_110 (.inl rfl) ?_
  obtain ⟨p1, hxp1, hlp1, h⟩ := h
  refine kz_nz0 (x := w_p w 10 0 21) hxp1 ?_
  refine kz_gfi (M := kt_M118) (c := 17) (o := p1) kX11_write_c13.2.2.2.2.2.1 wf_X11_249 (.inr (by exact hlp1)) ?_
  refine kz_ic (M := kt_M118) 1 kX11_write_c13.2.2.2.2.2.2.1 rfl ?_
  refine kz_iadd (M := kt_M118) kX11_write_c13.2.2.2.2.2.2.2.1 ?_
  refine kz_cv0 (M := kt_M118) (c := 11) (o := 0) (As := [.int x2, .int ((w_i w 17 p1 0) + 1)]) (rest := []) kX11_write_c14.1 wl_X11_348 wMv_127 rfl (.inl rfl) rfl (Nat.le_trans (Nat.le_of_ble_eq_true rfl) hL) (Nat.le_of_ble_eq_true rfl) (Nat.le_of_ble_eq_true rfl) h (fun w2 hle h => ?_) (fun _ _ _ h => kzx_no rfl h)
  have h := h hle
  have hlp1 := w_l_le hlp1 hle
  refine kz_aload_n (M := kt_M118) kX11_write_c14.2.1 rfl ?_
  refine kz_getsE (M := kt_M118) (v := va_rf (some (E.1.1 66))) kX11_write_c14.2.2.1 zs_X11_437 ?_
  refine kz_cv0 (M := kt_M118) (c := 10) (o := 0) (As := [va_rf (some (E.1.1 66))]) (rest := []) kX11_write_c14.2.2.2.1 wl_X11_389 wMv_114 rfl (.inl rfl) rfl (Nat.le_trans (Nat.le_of_ble_eq_true rfl) hL) (by simp [lg_sl, w_cat, z_ci, z_cr, z_cl, z_cn, kt_M114]) (Nat.le_of_ble_eq_true rfl) h (fun w4 hle h => ?_) (fun _ _ _ h => kzx_no rfl h)
  have h := h hle
  have hlp1 := w_l_le hlp1 hle
  exact kz_ret (M := kt_M118) kX11_write_c14.2.2.2.2.1 rfl h
def zb_X11_write_p162 (E : zE) (L : Nat) (Q : kx_Rs → wS → Prop) (w : wS) : Prop := Q (.inl none) w
theorem zt_X11_write_p162 {E : zE} {L : Nat} {Q : kx_Rs → wS → Prop} {w : wS} (hL : 27 ≤ L) (h : zb_X11_write_p162 E L Q  w) : kzE E L kt_M118 162 [(0, .ref (w_adr E.2.1 10 0))] [] w Q := by
  unfold zb_X11_write_p162 at h
  exact kz_ret (M := kt_M118) kX11_write_c11.1 rfl h
def zb_X11_write_p59 (E : zE) (L : Nat) (Q : kx_Rs → wS → Prop) (w : wS) : Prop := Q (.inl none) w
theorem zt_X11_write_p59 {E : zE} {L : Nat} {Q : kx_Rs → wS → Prop} {w : wS} (hL : 27 ≤ L) (h : zb_X11_write_p59 E L Q  w) : kzE E L kt_M118 59 [(0, .ref (w_adr E.2.1 10 0))] [] w Q := by
  unfold zb_X11_write_p59 at h
  exact kz_ret (M := kt_M118) kX11_write_c4.2.1 rfl h
def zb_X11_write_p0 (E : zE) (L : Nat) (Q : kx_Rs → wS → Prop) (x1 : Int32) (w : wS) : Prop := zw E (L - 22) kt_M94 [.ref (w_adr E.2.1 10 0), .int x1] w (wk0 (fun w1 => wle w w1 → zw E (L - 20) kt_M95 [.ref (w_adr E.2.1 10 0)] w1 (wk1 (fun v4 w3 => wle w1 w3 → (∃ p5, w_p w3 10 0 21 = some p5 ∧ w_l w3 E.2.1 17 p5 ∧ (if ¬ v4 = (-1) then (if ¬ v4 = (-2) then zw E (L - 21) kt_M123 [.ref (w_adr E.2.1 11 0), .int (v4 + 1)] (ws_i w3 17 p5 6 v4) (wk1 (fun v7 w6 => wle (ws_i w3 17 p5 6 v4) w6 → (if v7 ≤ 0 then (if 0 ≤ v7 then zb_X11_write_p195 E L Q v4 w6 else zw E (L - 22) kt_M90 [.ref (w_adr E.2.1 10 0), .int ((-1) - v7)] w6 (wkr (fun v9 w8 => wle w6 w8 → (∃ p10, v9 = some p10 ∧ w_l w8 E.2.1 17 p10 ∧ (if ¬ w_p w8 17 p10 9 = some (E.1.1 63) then zb_X11_write_p195 E L Q v4 w8 else zb_X11_write_p195 E L Q v4 (ws_p w8 17 p10 9 (some (E.1.1 61)))))) (fun e w => Q (.inr e) w))) else zw E (L - 22) kt_M90 [.ref (w_adr E.2.1 10 0), .int (v7 - 1)] w6 (wkr (fun v12 w11 => wle w6 w11 → zw E (L - 22) kt_M127 [.ref (w_adr E.2.1 11 0), .int (v4 + 1), .int 0] w11 (wk0 (fun w13 => wle w11 w13 → zw E (L - 26) kt_M83 [.ref (w_adr E.2.1 10 0), .int v4, va_rf (w_p w13 10 0 21), va_rf (v12)] w13 (wk0 (fun w15 => wle w13 w15 → (∃ p17, v12 = some p17 ∧ w_l (ws_p w15 10 0 22 v12) E.2.1 17 p17 ∧ (if w_i w15 17 p17 18 = 0 then zw E (L - 27) kt_M63 [.ref (w_adr E.2.1 10 0), va_rf (w_p w15 10 0 21), .int 0, .ref (w_d (ws_p w15 10 0 22 v12) 17 p17 12), .int (w_i w15 17 p17 15)] (ws_p w15 10 0 22 v12) (wk0 (fun w18 => wle (ws_p w15 10 0 22 v12) w18 → zb_X11_write_p162 E L Q w18) (fun e w => Q (.inr e) w)) else zw E (L - 24) kt_M68 [.ref (w_adr E.2.1 10 0), va_rf (v12)] (ws_p w15 10 0 22 v12) (wk0 (fun w20 => wle (ws_p w15 10 0 22 v12) w20 → zb_X11_write_p162 E L Q w20) (fun e w => Q (.inr e) w))))) (fun e w => Q (.inr e) w))) (fun e w => Q (.inr e) w))) (fun e w => Q (.inr e) w)))) (fun e w => Q (.inr e) w)) else zw E (L - 21) kt_M114 [.ref (w_adr E.2.1 10 0), va_rf (some (E.1.1 66))] (ws_i w3 17 p5 6 v4) (wk0 (fun w22 => wle (ws_i w3 17 p5 6 v4) w22 → Q (.inl none) w22) (fun e w => Q (.inr e) w))) else (if 2000 ≤ w_i w3 10 0 11 then zb_X11_write_p59 E L Q (ws_i w3 17 p5 6 v4) else (kx_inb 0 (w_n w3 17 p5 12) = true ∧ (kx_inb (w_i w3 10 0 11) (w_n w3 10 0 15) = true ∧ zb_X11_write_p59 E L Q (ws_a (ws_i (ws_i w3 17 p5 6 v4) 10 0 11 ((w_i w3 10 0 11) + 1)) 10 0 15 (w_i w3 10 0 11).toNatClampNeg (vp_nar .byte ((w_a w3 17 p5 12 (0 : Int32).toNatClampNeg).toInt8.toInt32))))))))) (fun e w => Q (.inr e) w))) (fun e w => Q (.inr e) w))
theorem zt_X11_write_p0 {E : zE} {L : Nat} {Q : kx_Rs → wS → Prop} {x1 : Int32} {w : wS} (hL : 27 ≤ L) (h : zb_X11_write_p0 E L Q x1 w) : kzE E L kt_M118 0 [(0, .ref (w_adr E.2.1 10 0)), (1, .int x1)] [] w Q := by
  unfold zb_X11_write_p0 at h
  refine kz_aload_n (M := kt_M118) kX11_write_c0.1 rfl ?_
  refine kz_iload_n (M := kt_M118) kX11_write_c0.2.1 rfl ?_
  refine kz_cv0 (M := kt_M118) (c := 10) (o := 0) (As := [.int x1]) (rest := []) kX11_write_c0.2.2.1 wl_X11_432 wMv_94 rfl (.inl rfl) rfl (Nat.le_trans (Nat.le_of_ble_eq_true rfl) hL) (Nat.le_of_ble_eq_true rfl) (Nat.le_of_ble_eq_true rfl) h (fun w1 hle h => ?_) (fun _ _ _ h => kzx_no rfl h)
  have h := h hle
  refine kz_aload_n (M := kt_M118) kX11_write_c0.2.2.2.1 rfl ?_
  refine kz_cv1 (M := kt_M118) (c := 10) (o := 0) (As := []) (rest := []) kX11_write_c0.2.2.2.2.1 wl_X11_304 wMv_95 rfl (.inl rfl) rfl (Nat.le_trans (Nat.le_of_ble_eq_true rfl) hL) (Nat.le_of_ble_eq_true rfl) (Nat.le_of_ble_eq_true rfl) h (fun v4 w3 hle h => ?_) (fun _ _ _ h => kzx_no rfl h)
  have h := h hle
  refine kz_sti_n (M := kt_M118) [(0, .ref (w_adr E.2.1 10 0))] kX11_write_c0.2.2.2.2.2.1 (Nat.le_of_ble_eq_true rfl) ⟨⟨rfl, rfl, .inl rfl⟩, trivial⟩ rfl ?_
  refine kz_aload_n (M := kt_M118) kX11_write_c0.2.2.2.2.2.2.1 rfl ?_
  refine kz_gfp (M := kt_M118) (c := 10) (o := 0) kX11_write_c0.2.2.2.2.2.2.2.1 wf_X11_110 (.inl rfl) ?_
  refine kz_iload_n (M := kt_M118) kX11_write_c1.1 rfl ?_
  obtain ⟨p5, hxp5, hlp5, h⟩ := h
  refine kz_nz1 (x := w_p w3 10 0 21) hxp5 ?_
  refine kz_pfi (M := kt_M118) (c := 17) (o := p5) kX11_write_c1.2.1 wq_X11_434 (.inr (by exact hlp5)) ?_
  refine kz_iload_n (M := kt_M118) kX11_write_c1.2.2.1 rfl ?_
  refine kz_ic (M := kt_M118) (-1) kX11_write_c1.2.2.2.1 rfl ?_
  refine kz_icmp_ne (M := kt_M118) kX11_write_c1.2.2.2.2.1 (t := 60) rfl h (fun h => ?_) (fun h => ?_)
  · skip
    refine kz_iload_n (M := kt_M118) kX11_write_c4.2.2.1 rfl ?_
    refine kz_bi (M := kt_M118) (-2) kX11_write_c4.2.2.2.1 rfl ?_
    refine kz_icmp_ne (M := kt_M118) kX11_write_c4.2.2.2.2.1 (t := 74) rfl h (fun h => ?_) (fun h => ?_)
    · skip
      refine kz_aload_n (M := kt_M118) kX11_write_c5.2.1 rfl ?_
      refine kz_gfc (M := kt_M118) (x := 44) (c := 10) (o := 0) kX11_write_c5.2.2.1 wf_X11_12 (.inl rfl) ?_
      refine kz_iload_n (M := kt_M118) kX11_write_c5.2.2.2.1 rfl ?_
      refine kz_ic (M := kt_M118) 1 kX11_write_c5.2.2.2.2.1 rfl ?_
      refine kz_iadd (M := kt_M118) kX11_write_c5.2.2.2.2.2.1 ?_
      refine kz_cv1 (M := kt_M118) (c := 11) (o := 0) (As := [.int (v4 + 1)]) (rest := []) kX11_write_c5.2.2.2.2.2.2.1 wl_X11_307 wMv_123 rfl (.inl rfl) rfl (Nat.le_trans (Nat.le_of_ble_eq_true rfl) hL) (Nat.le_of_ble_eq_true rfl) (Nat.le_of_ble_eq_true rfl) h (fun v7 w6 hle h => ?_) (fun _ _ _ h => kzx_no rfl h)
      have h := h hle
      have hlp5 := w_l_le hlp5 hle
      refine kz_sti_n (M := kt_M118) [(0, .ref (w_adr E.2.1 10 0)), (2, .int v4)] kX11_write_c5.2.2.2.2.2.2.2.1 (Nat.le_of_ble_eq_true rfl) ⟨⟨rfl, rfl, .inl rfl⟩, ⟨⟨rfl, rfl, .inr rfl⟩, trivial⟩⟩ rfl ?_
      refine kz_iload_n (M := kt_M118) kX11_write_c6.1 rfl ?_
      refine kz_if_le (M := kt_M118) kX11_write_c6.2.1 (t := 163) rfl h (fun h => ?_) (fun h => ?_)
      · skip
        refine kz_iload_n (M := kt_M118) kX11_write_c11.2.1 rfl ?_
        refine kz_if_ge (M := kt_M118) kX11_write_c11.2.2.1 (t := 195) rfl h (fun h => ?_) (fun h => ?_)
        · skip
          exact kz_weak [(0, .ref (w_adr E.2.1 10 0)), (2, .int v4)] ⟨rfl, ⟨rfl, trivial⟩⟩ rfl (zt_X11_write_p195 hL  h)
        · skip
          refine kz_aload_n (M := kt_M118) kX11_write_c11.2.2.2.1 rfl ?_
          refine kz_ic (M := kt_M118) (-1) kX11_write_c11.2.2.2.2.1 rfl ?_
          refine kz_iload_n (M := kt_M118) kX11_write_c11.2.2.2.2.2.1 rfl ?_
          refine kz_isub (M := kt_M118) kX11_write_c11.2.2.2.2.2.2.1 ?_
          refine kz_cvr (M := kt_M118) (c := 10) (o := 0) (As := [.int ((-1) - v7)]) (rest := []) kX11_write_c11.2.2.2.2.2.2.2.1 wl_X11_440 wMv_90 rfl (.inl rfl) rfl (Nat.le_trans (Nat.le_of_ble_eq_true rfl) hL) (Nat.le_of_ble_eq_true rfl) (Nat.le_of_ble_eq_true rfl) h (fun v9 w8 hle h => ?_) (fun _ _ _ h => kzx_no rfl h)
          have h := h hle
          have hlp5 := w_l_le hlp5 hle
          refine kz_stv (M := kt_M118) (x := v9) [(0, .ref (w_adr E.2.1 10 0)), (2, .int v4)] kX11_write_c12.1 (Nat.le_of_ble_eq_true rfl) ⟨⟨rfl, rfl, .inl rfl⟩, ⟨⟨rfl, rfl, .inl rfl⟩, trivial⟩⟩ rfl ?_
          refine kz_aloadv (M := kt_M118) (x := v9) kX11_write_c12.2.1 rfl ?_
          obtain ⟨p10, hxp10, hlp10, h⟩ := h
          refine kz_nz0 (x := v9) hxp10 ?_
          refine kz_gfp (M := kt_M118) (c := 17) (o := p10) kX11_write_c12.2.2.1 wf_X11_125 (.inr (by exact hlp10)) ?_
          refine kz_getsE (M := kt_M118) (v := va_rf (some (E.1.1 63))) kX11_write_c12.2.2.2.1 zs_X11_231 ?_
          refine kz_acmp_ne (M := kt_M118) (x := w_p w8 17 p10 9) (y := some (E.1.1 63)) kX11_write_c12.2.2.2.2.1 (t := 195) rfl h (fun h => ?_) (fun h => ?_)
          · skip
            exact kz_weak [(0, .ref (w_adr E.2.1 10 0)), (2, .int v4)] ⟨rfl, ⟨rfl, trivial⟩⟩ rfl (zt_X11_write_p195 hL  h)
          · skip
            refine kz_aloadv (M := kt_M118) (x := v9) kX11_write_c12.2.2.2.2.2.1 rfl ?_
            refine kz_getsE (M := kt_M118) (v := va_rf (some (E.1.1 61))) kX11_write_c12.2.2.2.2.2.2.1 zs_X11_154 ?_
            refine kz_nz1 (x := v9) hxp10 ?_
            refine kz_pfp (M := kt_M118) (n := some (E.1.1 61)) (c := 17) (o := p10) kX11_write_c12.2.2.2.2.2.2.2.1 wq_X11_125 (.inr (by exact hlp10)) ?_
            exact kz_weak [(0, .ref (w_adr E.2.1 10 0)), (2, .int v4)] ⟨rfl, ⟨rfl, trivial⟩⟩ rfl (zt_X11_write_p195 hL  h)
      · skip
        refine kz_aload_n (M := kt_M118) kX11_write_c6.2.2.1 rfl ?_
        refine kz_iload_n (M := kt_M118) kX11_write_c6.2.2.2.1 rfl ?_
        refine kz_ic (M := kt_M118) 1 kX11_write_c6.2.2.2.2.1 rfl ?_
        refine kz_isub (M := kt_M118) kX11_write_c6.2.2.2.2.2.1 ?_
        refine kz_cvr (M := kt_M118) (c := 10) (o := 0) (As := [.int (v7 - 1)]) (rest := []) kX11_write_c6.2.2.2.2.2.2.1 wl_X11_440 wMv_90 rfl (.inl rfl) rfl (Nat.le_trans (Nat.le_of_ble_eq_true rfl) hL) (Nat.le_of_ble_eq_true rfl) (Nat.le_of_ble_eq_true rfl) h (fun v12 w11 hle h => ?_) (fun _ _ _ h => kzx_no rfl h)
        have h := h hle
        have hlp5 := w_l_le hlp5 hle
        refine kz_stv (M := kt_M118) (x := v12) [(0, .ref (w_adr E.2.1 10 0)), (2, .int v4)] kX11_write_c6.2.2.2.2.2.2.2.1 (Nat.le_of_ble_eq_true rfl) ⟨⟨rfl, rfl, .inl rfl⟩, ⟨⟨rfl, rfl, .inl rfl⟩, trivial⟩⟩ rfl ?_
        refine kz_aload_n (M := kt_M118) kX11_write_c7.1 rfl ?_
        refine kz_gfc (M := kt_M118) (x := 44) (c := 10) (o := 0) kX11_write_c7.2.1 wf_X11_12 (.inl rfl) ?_
        refine kz_iload_n (M := kt_M118) kX11_write_c7.2.2.1 rfl ?_
        refine kz_ic (M := kt_M118) 1 kX11_write_c7.2.2.2.1 rfl ?_
        refine kz_iadd (M := kt_M118) kX11_write_c7.2.2.2.2.1 ?_
        refine kz_ic (M := kt_M118) 0 kX11_write_c7.2.2.2.2.2.1 rfl ?_
        refine kz_cv0 (M := kt_M118) (c := 11) (o := 0) (As := [.int (v4 + 1), .int 0]) (rest := []) kX11_write_c7.2.2.2.2.2.2.1 wl_X11_348 wMv_127 rfl (.inl rfl) rfl (Nat.le_trans (Nat.le_of_ble_eq_true rfl) hL) (Nat.le_of_ble_eq_true rfl) (Nat.le_of_ble_eq_true rfl) h (fun w13 hle h => ?_) (fun _ _ _ h => kzx_no rfl h)
        have h := h hle
        have hlp5 := w_l_le hlp5 hle
        refine kz_aload_n (M := kt_M118) kX11_write_c7.2.2.2.2.2.2.2.1 rfl ?_
        refine kz_iload_n (M := kt_M118) kX11_write_c8.1 rfl ?_
        refine kz_aload_n (M := kt_M118) kX11_write_c8.2.1 rfl ?_
        refine kz_gfp (M := kt_M118) (c := 10) (o := 0) kX11_write_c8.2.2.1 wf_X11_110 (.inl rfl) ?_
        refine kz_aloadv (M := kt_M118) (x := v12) kX11_write_c8.2.2.2.1 rfl ?_
        refine kz_cv0 (M := kt_M118) (c := 10) (o := 0) (As := [.int v4, va_rf (w_p w13 10 0 21), va_rf (v12)]) (rest := []) kX11_write_c8.2.2.2.2.1 wl_X11_444 wMv_83 rfl (.inl rfl) rfl (Nat.le_trans (Nat.le_of_ble_eq_true rfl) hL) (by simp [lg_sl, w_cat, z_ci, z_cr, z_cl, z_cn, kt_M83]) (Nat.le_of_ble_eq_true rfl) h (fun w15 hle h => ?_) (fun _ _ _ h => kzx_no rfl h)
        have h := h hle
        have hlp5 := w_l_le hlp5 hle
        refine kz_aload_n (M := kt_M118) kX11_write_c8.2.2.2.2.2.1 rfl ?_
        refine kz_aloadv (M := kt_M118) (x := v12) kX11_write_c8.2.2.2.2.2.2.1 rfl ?_
        refine kz_pfp (M := kt_M118) (n := v12) (c := 10) (o := 0) kX11_write_c8.2.2.2.2.2.2.2.1 wq_X11_201 (.inl rfl) ?_
        refine kz_aloadv (M := kt_M118) (x := v12) kX11_write_c9.1 rfl ?_
        obtain ⟨p17, hxp17, hlp17, h⟩ := h
        refine kz_nz0 (x := v12) hxp17 ?_
        refine kz_gfiR (M := kt_M118) (c := 17) (o := p17) (w_i w15 17 p17 18) kX11_write_c9.2.1 wf_X11_448 (.inr (by exact hlp17)) rd_i_p ?_
        refine kz_if_eq (M := kt_M118) kX11_write_c9.2.2.1 (t := 143) rfl h (fun h => ?_) (fun h => ?_)
        · skip
          refine kz_aload_n (M := kt_M118) kX11_write_c9.2.2.2.2.2.2.2.1 rfl ?_
          refine kz_aload_n (M := kt_M118) kX11_write_c10.1 rfl ?_
          refine kz_gfpR (M := kt_M118) (c := 10) (o := 0) (w_p w15 10 0 21) kX11_write_c10.2.1 wf_X11_110 (.inl rfl) (rd_p_p rfl) ?_
          refine kz_ic (M := kt_M118) 0 kX11_write_c10.2.2.1 rfl ?_
          refine kz_aloadv (M := kt_M118) (x := v12) kX11_write_c10.2.2.2.1 rfl ?_
          refine kz_nz0 (x := v12) hxp17 ?_
          refine kz_gfa (M := kt_M118) (c := 17) (o := p17) kX11_write_c10.2.2.2.2.1 wf_X11_425 (.inr (by exact hlp17)) ?_
          refine kz_aloadv (M := kt_M118) (x := v12) kX11_write_c10.2.2.2.2.2.1 rfl ?_
          refine kz_nz0 (x := v12) hxp17 ?_
          refine kz_gfiR (M := kt_M118) (c := 17) (o := p17) (w_i w15 17 p17 15) kX11_write_c10.2.2.2.2.2.2.1 wf_X11_429 (.inr (by exact hlp17)) rd_i_p ?_
          refine kz_cv0 (M := kt_M118) (c := 10) (o := 0) (As := [va_rf (w_p w15 10 0 21), .int 0, .ref (w_d (ws_p w15 10 0 22 v12) 17 p17 12), .int (w_i w15 17 p17 15)]) (rest := []) kX11_write_c10.2.2.2.2.2.2.2.1 wl_X11_453 wMv_63 rfl (.inl rfl) rfl (Nat.le_trans (Nat.le_of_ble_eq_true rfl) hL) (by simp [lg_sl, w_cat, z_ci, z_cr, z_cl, z_cn, kt_M63]) (Nat.le_of_ble_eq_true rfl) h (fun w18 hle h => ?_) (fun _ _ _ h => kzx_no rfl h)
          have h := h hle
          have hlp17 := w_l_le hlp17 hle
          have hlp5 := w_l_le hlp5 hle
          exact kz_weak [(0, .ref (w_adr E.2.1 10 0))] ⟨rfl, trivial⟩ rfl (zt_X11_write_p162 hL  h)
        · skip
          refine kz_aload_n (M := kt_M118) kX11_write_c9.2.2.2.1 rfl ?_
          refine kz_aloadv (M := kt_M118) (x := v12) kX11_write_c9.2.2.2.2.1 rfl ?_
          refine kz_cv0 (M := kt_M118) (c := 10) (o := 0) (As := [va_rf (v12)]) (rest := []) kX11_write_c9.2.2.2.2.2.1 wl_X11_450 wMv_68 rfl (.inl rfl) rfl (Nat.le_trans (Nat.le_of_ble_eq_true rfl) hL) (by simp [lg_sl, w_cat, z_ci, z_cr, z_cl, z_cn, kt_M68]) (Nat.le_of_ble_eq_true rfl) h (fun w20 hle h => ?_) (fun _ _ _ h => kzx_no rfl h)
          have h := h hle
          have hlp17 := w_l_le hlp17 hle
          have hlp5 := w_l_le hlp5 hle
          refine kz_goto (M := kt_M118) kX11_write_c9.2.2.2.2.2.2.1 (t := 162) rfl ?_
          exact kz_weak [(0, .ref (w_adr E.2.1 10 0))] ⟨rfl, trivial⟩ rfl (zt_X11_write_p162 hL  h)
    · skip
      refine kz_aload_n (M := kt_M118) kX11_write_c4.2.2.2.2.2.1 rfl ?_
      refine kz_getsE (M := kt_M118) (v := va_rf (some (E.1.1 66))) kX11_write_c4.2.2.2.2.2.2.1 zs_X11_437 ?_
      refine kz_cv0 (M := kt_M118) (c := 10) (o := 0) (As := [va_rf (some (E.1.1 66))]) (rest := []) kX11_write_c4.2.2.2.2.2.2.2.1 wl_X11_389 wMv_114 rfl (.inl rfl) rfl (Nat.le_trans (Nat.le_of_ble_eq_true rfl) hL) (by simp [lg_sl, w_cat, z_ci, z_cr, z_cl, z_cn, kt_M114]) (Nat.le_of_ble_eq_true rfl) h (fun w22 hle h => ?_) (fun _ _ _ h => kzx_no rfl h)
      have h := h hle
      have hlp5 := w_l_le hlp5 hle
      exact kz_ret (M := kt_M118) kX11_write_c5.1 rfl h
  · skip
    refine kz_aload_n (M := kt_M118) kX11_write_c1.2.2.2.2.2.1 rfl ?_
    refine kz_gfiR (M := kt_M118) (c := 10) (o := 0) (w_i w3 10 0 11) kX11_write_c1.2.2.2.2.2.2.1 wf_X11_186 (.inl rfl) (rd_i_i rfl) ?_
    refine kz_si (M := kt_M118) 2000 kX11_write_c1.2.2.2.2.2.2.2.1 rfl ?_
    refine kz_icmp_ge (M := kt_M118) kX11_write_c2.1 (t := 59) rfl h (fun h => ?_) (fun h => ?_)
    · skip
      exact kz_weak [(0, .ref (w_adr E.2.1 10 0))] ⟨rfl, trivial⟩ rfl (zt_X11_write_p59 hL  h)
    · skip
      refine kz_aload_n (M := kt_M118) kX11_write_c2.2.1 rfl ?_
      refine kz_gfc (M := kt_M118) (x := 3575) (c := 10) (o := 0) kX11_write_c2.2.2.1 wf_X11_24 (.inl rfl) ?_
      refine kz_aload_n (M := kt_M118) kX11_write_c2.2.2.2.1 rfl ?_
      refine kz_dup (M := kt_M118) kX11_write_c2.2.2.2.2.1 rfl ?_
      refine kz_gfiR (M := kt_M118) (c := 10) (o := 0) (w_i w3 10 0 11) kX11_write_c2.2.2.2.2.2.1 wf_X11_186 (.inl rfl) (rd_i_i rfl) ?_
      refine kz_dup_x1 (M := kt_M118) kX11_write_c2.2.2.2.2.2.2.1 ⟨rfl, rfl⟩ ?_
      refine kz_ic (M := kt_M118) 1 kX11_write_c2.2.2.2.2.2.2.2.1 rfl ?_
      refine kz_iadd (M := kt_M118) kX11_write_c3.1 ?_
      refine kz_pfi (M := kt_M118) (c := 10) (o := 0) kX11_write_c3.2.1 wq_X11_186 (.inl rfl) ?_
      refine kz_aload_n (M := kt_M118) kX11_write_c3.2.2.1 rfl ?_
      refine kz_gfpR (M := kt_M118) (c := 10) (o := 0) (w_p w3 10 0 21) kX11_write_c3.2.2.2.1 wf_X11_110 (.inl rfl) (rd_p_i.trans rd_p_i) ?_
      refine kz_nz0 (x := w_p w3 10 0 21) hxp5 ?_
      refine kz_gfa (M := kt_M118) (c := 17) (o := p5) kX11_write_c3.2.2.2.2.1 wf_X11_425 (.inr (by exact hlp5)) ?_
      refine kz_ic (M := kt_M118) 0 kX11_write_c3.2.2.2.2.2.1 rfl ?_
      refine kz_ialdR (M := kt_M118) (n := w_n w3 17 p5 12) (c := 17) (o := p5) (k := 12) (a := (w_d (ws_i (ws_i w3 17 p5 6 v4) 10 0 11 ((w_i w3 10 0 11) + 1)) 17 p5 12)) (w_a w3 17 p5 12 (0 : Int32).toNatClampNeg) kX11_write_c3.2.2.2.2.2.2.1 (.inr ⟨.inr (by exact hlp5), rfl, rfl⟩) rfl ot_0 (rd_n_i.trans rd_n_i) (rd_a_i.trans rd_a_i) h (fun h => ?_)
      refine kz_i2b (M := kt_M118) kX11_write_c3.2.2.2.2.2.2.2.1 ?_
      refine kz_bastR (M := kt_M118) (n := w_n w3 10 0 15) (c := 10) (o := 0) (k := 15) (a := (E.2.1 3575)) kX11_write_c4.1 ow_10_0_15 oa_10_0_15 ot_1 (rd_n_i.trans rd_n_i) h (fun h => ?_)
      exact kz_weak [(0, .ref (w_adr E.2.1 10 0))] ⟨rfl, trivial⟩ rfl (zt_X11_write_p59 hL  h)
