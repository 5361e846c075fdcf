/-! ===== methods over the typed state (printed by tools/gen_lift.py) ===== -/
set_option maxRecDepth 100000
theorem zac_X9_66 {E : zE} : wAc (zV E) "MeetingHouse$Compiler" 66 := ⟨(show kt_get kt_mlA "MeetingHouse$Compiler" 66 = some arraycopyName from by decide +kernel), zac_n, zac_s, zac_i⟩
theorem wfn_X9_34 {E : zE} : wFn (zV E) wG "MeetingHouse$Compiler" 34 9 1 0 := ⟨(show kt_get kt_flA "MeetingHouse$Compiler" 34 = none from by decide +kernel), ("MeetingHouse$Row", "many", "I"), "MeetingHouse", RX10, TX10, 2, (show kx_fn kw_Ns "MeetingHouse$Compiler" 34 = _ from by decide +kernel), rfl, by decide +kernel, by decide +kernel, by decide +kernel⟩
theorem zs_X9_107 {E : zE} : ∃ r n d, kx_fl (zV E) "MeetingHouse$Compiler" 107 = some (r, n, d) ∧ kx_sv (zV E) r n d = some (va_rf (some (E.1.1 10))) := ⟨_, _, _, (show kt_get kt_flA "MeetingHouse$Compiler" 107 = some ("MeetingHouse$Kind", "VARIABLES", "LMeetingHouse$Kind;") from by decide +kernel), kx_sv_E.trans (kw_sv_en zen_10)⟩
theorem zs_X9_189 {E : zE} : ∃ r n d, kx_fl (zV E) "MeetingHouse$Compiler" 189 = some (r, n, d) ∧ kx_sv (zV E) r n d = some (va_rf (some (E.1.1 26))) := ⟨_, _, _, (show kt_get kt_flA "MeetingHouse$Compiler" 189 = some ("MeetingHouse$Kind", "CHANNELS", "LMeetingHouse$Kind;") from by decide +kernel), kx_sv_E.trans (kw_sv_en zen_26)⟩
theorem zs_X9_215 {E : zE} : ∃ r n d, kx_fl (zV E) "MeetingHouse$Compiler" 215 = some (r, n, d) ∧ kx_sv (zV E) r n d = some (va_rf (some (E.1.1 33))) := ⟨_, _, _, (show kt_get kt_flA "MeetingHouse$Compiler" 215 = some ("MeetingHouse$Kind", "PROC", "LMeetingHouse$Kind;") from by decide +kernel), kx_sv_E.trans (kw_sv_en zen_33)⟩
theorem zs_X9_249 {E : zE} : ∃ r n d, kx_fl (zV E) "MeetingHouse$Compiler" 249 = some (r, n, d) ∧ kx_sv (zV E) r n d = some (va_rf (some (E.1.1 53))) := ⟨_, _, _, (show kt_get kt_flA "MeetingHouse$Compiler" 249 = some ("MeetingHouse$What", "CHANNEL", "LMeetingHouse$What;") from by decide +kernel), kx_sv_E.trans (kw_sv_en zen_53)⟩
theorem zs_X9_339 {E : zE} : ∃ r n d, kx_fl (zV E) "MeetingHouse$Compiler" 339 = some (r, n, d) ∧ kx_sv (zV E) r n d = some (va_rf (some (E.1.1 55))) := ⟨_, _, _, (show kt_get kt_flA "MeetingHouse$Compiler" 339 = some ("MeetingHouse$What", "VALUE", "LMeetingHouse$What;") from by decide +kernel), kx_sv_E.trans (kw_sv_en zen_55)⟩
theorem zs_X9_341 {E : zE} : ∃ r n d, kx_fl (zV E) "MeetingHouse$Compiler" 341 = some (r, n, d) ∧ kx_sv (zV E) r n d = some (va_rf (some (E.1.1 16))) := ⟨_, _, _, (show kt_get kt_flA "MeetingHouse$Compiler" 341 = some ("MeetingHouse$Kind", "STRING", "LMeetingHouse$Kind;") from by decide +kernel), kx_sv_E.trans (kw_sv_en zen_16)⟩
theorem zs_X9_344 {E : zE} : ∃ r n d, kx_fl (zV E) "MeetingHouse$Compiler" 344 = some (r, n, d) ∧ kx_sv (zV E) r n d = some (va_rf (some (E.1.1 22))) := ⟨_, _, _, (show kt_get kt_flA "MeetingHouse$Compiler" 344 = some ("MeetingHouse$Kind", "TABLE", "LMeetingHouse$Kind;") from by decide +kernel), kx_sv_E.trans (kw_sv_en zen_22)⟩
theorem zkl_X9_22 {E : zE} : kx_kl (zV E) "MeetingHouse$Compiler" 22 = some "MeetingHouse$Unit" := (show kt_get kt_klA "MeetingHouse$Compiler" 22 = some "MeetingHouse$Unit" from by decide +kernel)
theorem wq_X9_119 {adE adK adV : Nat → Nat} {zr : Nat → Value} {b L0 : Nat} {xs : Nat → Int32} {lo : Nat} : wP (kw_V adE adK adV zr b L0 xs lo) wG "MeetingHouse$Compiler" 119 15 21 0 .int := wPb_ok (by decide +kernel) wf_X9_119 (r := "MeetingHouse$Symbol") (n := "slot") (d := "I") (by decide +kernel) (by decide +kernel)
theorem wq_X9_142 {adE adK adV : Nat → Nat} {zr : Nat → Value} {b L0 : Nat} {xs : Nat → Int32} {lo : Nat} : wP (kw_V adE adK adV zr b L0 xs lo) wG "MeetingHouse$Compiler" 142 16 2 0 .int := wPb_ok (by decide +kernel) wf_X9_142 (r := "MeetingHouse$Unit") (n := "slots") (d := "I") (by decide +kernel) (by decide +kernel)
theorem wq_X9_145 {adE adK adV : Nat → Nat} {zr : Nat → Value} {b L0 : Nat} {xs : Nat → Int32} {lo : Nat} : wP (kw_V adE adK adV zr b L0 xs lo) wG "MeetingHouse$Compiler" 145 15 20 2 (.object "MeetingHouse$Unit") := wPb_ok (by decide +kernel) wf_X9_145 (r := "MeetingHouse$Symbol") (n := "home") (d := "LMeetingHouse$Unit;") (by decide +kernel) (by decide +kernel)
theorem wq_X9_212 {adE adK adV : Nat → Nat} {zr : Nat → Value} {b L0 : Nat} {xs : Nat → Int32} {lo : Nat} : wP (kw_V adE adK adV zr b L0 xs lo) wG "MeetingHouse$Compiler" 212 16 5 0 .int := wPb_ok (by decide +kernel) wf_X9_212 (r := "MeetingHouse$Unit") (n := "given") (d := "I") (by decide +kernel) (by decide +kernel)
theorem wq_X9_233 {adE adK adV : Nat → Nat} {zr : Nat → Value} {b L0 : Nat} {xs : Nat → Int32} {lo : Nat} : wP (kw_V adE adK adV zr b L0 xs lo) wG "MeetingHouse$Compiler" 233 16 6 0 .int := wPb_ok (by decide +kernel) wf_X9_233 (r := "MeetingHouse$Unit") (n := "formals") (d := "I") (by decide +kernel) (by decide +kernel)
theorem wq_X9_24 {adE adK adV : Nat → Nat} {zr : Nat → Value} {b L0 : Nat} {xs : Nat → Int32} {lo : Nat} : wP (kw_V adE adK adV zr b L0 xs lo) wG "MeetingHouse$Compiler" 24 8 2 3 (.array (.object "MeetingHouse$Unit")) := wPb_ok (by decide +kernel) wf_X9_24 (r := "MeetingHouse$Compiler") (n := "units") (d := "[LMeetingHouse$Unit;") (by decide +kernel) (by decide +kernel)
theorem wq_X9_53 {adE adK adV : Nat → Nat} {zr : Nat → Value} {b L0 : Nat} {xs : Nat → Int32} {lo : Nat} : wP (kw_V adE adK adV zr b L0 xs lo) wG "MeetingHouse$Compiler" 53 8 6 2 (.object "MeetingHouse$Store") := wPb_ok (by decide +kernel) wf_X9_53 (r := "MeetingHouse$Compiler") (n := "store") (d := "LMeetingHouse$Store;") (by decide +kernel) (by decide +kernel)
theorem wq_X9_72 {adE adK adV : Nat → Nat} {zr : Nat → Value} {b L0 : Nat} {xs : Nat → Int32} {lo : Nat} : wP (kw_V adE adK adV zr b L0 xs lo) wG "MeetingHouse$Compiler" 72 8 3 0 .int := wPb_ok (by decide +kernel) wf_X9_72 (r := "MeetingHouse$Compiler") (n := "unitMany") (d := "I") (by decide +kernel) (by decide +kernel)
theorem wq_X9_75 {adE adK adV : Nat → Nat} {zr : Nat → Value} {b L0 : Nat} {xs : Nat → Int32} {lo : Nat} : wP (kw_V adE adK adV zr b L0 xs lo) wG "MeetingHouse$Compiler" 75 8 8 2 (.object "MeetingHouse$Names") := wPb_ok (by decide +kernel) wf_X9_75 (r := "MeetingHouse$Compiler") (n := "names") (d := "LMeetingHouse$Names;") (by decide +kernel) (by decide +kernel)
theorem wq_X9_88 {adE adK adV : Nat → Nat} {zr : Nat → Value} {b L0 : Nat} {xs : Nat → Int32} {lo : Nat} : wP (kw_V adE adK adV zr b L0 xs lo) wG "MeetingHouse$Compiler" 88 8 7 2 (.object "MeetingHouse$Unit") := wPb_ok (by decide +kernel) wf_X9_88 (r := "MeetingHouse$Compiler") (n := "unit") (d := "LMeetingHouse$Unit;") (by decide +kernel) (by decide +kernel)
theorem wq_X9_91 {adE adK adV : Nat → Nat} {zr : Nat → Value} {b L0 : Nat} {xs : Nat → Int32} {lo : Nat} : wP (kw_V adE adK adV zr b L0 xs lo) wG "MeetingHouse$Compiler" 91 16 3 0 .int := wPb_ok (by decide +kernel) wf_X9_91 (r := "MeetingHouse$Unit") (n := "code") (d := "I") (by decide +kernel) (by decide +kernel)
def zL_X9_compile_p108 (E : zE) (L : Nat) (Q : kx_Rs → wS → Prop) (x1 : Option Nat) (x5 : Option Nat) (x6 : Option Nat) (w : wS) : Prop := kzE E L kt_M22 108 [(0, .ref (w_adr E.2.1 8 0)), (1, va_rf (x1)), (5, va_rf (x5)), (6, va_rf (x6))] [] w Q
def zL_X9_compile_p79 (E : zE) (L : Nat) (Q : kx_Rs → wS → Prop) (x1 : Option Nat) (x5 : Option Nat) (w : wS) : Prop := kzE E L kt_M22 79 [(0, .ref (w_adr E.2.1 8 0)), (1, va_rf (x1)), (5, va_rf (x5))] [] w Q
def zb_X9_compile_p168 (E : zE) (L : Nat) (Q : kx_Rs → wS → Prop) (x1 : Option Nat) (x5 : Option Nat) (w : wS) : Prop := (∃ p1, x5 = some p1 ∧ w_l w E.2.1 14 p1 ∧ zL_X9_compile_p79 E L Q x1 (w_p w 14 p1 7) w)
theorem zt_X9_compile_p168 {E : zE} {L : Nat} {Q : kx_Rs → wS → Prop} {x1 : Option Nat} {x5 : Option Nat} {w : wS} (hL : 60 ≤ L) (h : zb_X9_compile_p168 E L Q x1 x5 w) : kzE E L kt_M22 168 [(0, .ref (w_adr E.2.1 8 0)), (1, va_rf (x1)), (5, va_rf (x5))] [] w Q := by
  unfold zb_X9_compile_p168 at h
  refine kz_aloadv (M := kt_M22) (x := x5) kX9_compile_c9.2.2.2.1 rfl ?_
  obtain ⟨p1, hxp1, hlp1, h⟩ := h
  refine kz_nz0 (x := x5) hxp1 ?_
  refine kz_gfp (M := kt_M22) (c := 14) (o := p1) kX9_compile_c9.2.2.2.2.1 wf_X9_129 (.inr (by exact hlp1)) ?_
  refine kz_stv (M := kt_M22) (x := w_p w 14 p1 7) [(0, .ref (w_adr E.2.1 8 0)), (1, va_rf (x1))] kX9_compile_c9.2.2.2.2.2.1 (Nat.le_of_ble_eq_true rfl) ⟨⟨rfl, rfl, .inl rfl⟩, ⟨⟨rfl, rfl, .inl rfl⟩, trivial⟩⟩ rfl ?_
  refine kz_goto (M := kt_M22) kX9_compile_c9.2.2.2.2.2.2.1 (t := 79) rfl ?_
  exact kz_weak [(0, .ref (w_adr E.2.1 8 0)), (1, va_rf (x1)), (5, va_rf (w_p w 14 p1 7))] ⟨rfl, ⟨rfl, ⟨rfl, trivial⟩⟩⟩ rfl h
def zb_X9_compile_p155 (E : zE) (L : Nat) (Q : kx_Rs → wS → Prop) (x1 : Option Nat) (x5 : Option Nat) (x6 : Option Nat) (y0 : Int32) (w : wS) : Prop := zw E (L - 22) kt_M219 [.ref (w_adr E.2.1 9 2), .int y0] w (wk0 (fun w1 => wle w w1 → (∃ p3, x6 = some p3 ∧ w_l w1 E.2.1 14 p3 ∧ zL_X9_compile_p108 E L Q x1 x5 (w_p w1 14 p3 7) w1)) (fun e w => Q (.inr e) w))
theorem zt_X9_compile_p155 {E : zE} {L : Nat} {Q : kx_Rs → wS → Prop} {x1 : Option Nat} {x5 : Option Nat} {x6 : Option Nat} {y0 : Int32} {w : wS} (hL : 60 ≤ L) (h : zb_X9_compile_p155 E L Q x1 x5 x6 y0 w) : kzE E L kt_M22 155 [(0, .ref (w_adr E.2.1 8 0)), (1, va_rf (x1)), (5, va_rf (x5)), (6, va_rf (x6))] [.int y0, .ref (w_adr E.2.1 9 2)] w Q := by
  unfold zb_X9_compile_p155 at h
  refine kz_cv0 (M := kt_M22) (c := 9) (o := 2) (As := [.int y0]) (rest := []) kX9_compile_c8.2.2.2.2.2.2.1 wl_X9_38 wMv_219 rfl (.inl rfl) rfl (Nat.le_trans (Nat.le_of_ble_eq_true rfl) hL) (Nat.le_of_ble_eq_true rfl) (Nat.le_of_ble_eq_true rfl) h (fun w1 hle h => ?_) (fun _ _ _ h => kzx_no rfl h)
  have h := h hle
  refine kz_aloadv (M := kt_M22) (x := x6) kX9_compile_c8.2.2.2.2.2.2.2.1 rfl ?_
  obtain ⟨p3, hxp3, hlp3, h⟩ := h
  refine kz_nz0 (x := x6) hxp3 ?_
  refine kz_gfp (M := kt_M22) (c := 14) (o := p3) kX9_compile_c9.1 wf_X9_129 (.inr (by exact hlp3)) ?_
  refine kz_stv (M := kt_M22) (x := w_p w1 14 p3 7) [(0, .ref (w_adr E.2.1 8 0)), (1, va_rf (x1)), (5, va_rf (x5))] kX9_compile_c9.2.1 (Nat.le_of_ble_eq_true rfl) ⟨⟨rfl, rfl, .inl rfl⟩, ⟨⟨rfl, rfl, .inl rfl⟩, ⟨⟨rfl, rfl, .inr (w_cat (x5))⟩, trivial⟩⟩⟩ rfl ?_
  refine kz_goto (M := kt_M22) kX9_compile_c9.2.2.1 (t := 108) rfl ?_
  exact kz_weak [(0, .ref (w_adr E.2.1 8 0)), (1, va_rf (x1)), (5, va_rf (x5)), (6, va_rf (w_p w1 14 p3 7))] ⟨rfl, ⟨rfl, ⟨rfl, ⟨rfl, trivial⟩⟩⟩⟩ rfl h
def zb_X9_compile_p108 (E : zE) (L : Nat) (Q : kx_Rs → wS → Prop) (x1 : Option Nat) (x5 : Option Nat) (x6 : Option Nat) (w : wS) : Prop := (if x6 = none then zb_X9_compile_p168 E L Q x1 x5 w else (∃ p1, x6 = some p1 ∧ w_l w E.2.1 14 p1 ∧ (∃ p2, w_p w 14 p1 16 = some p2 ∧ w_l w E.2.1 15 p2 ∧ zw E (L - 22) kt_M219 [.ref (w_adr E.2.1 9 2), .int (w_i w 15 p2 21)] w (wk0 (fun w3 => wle w w3 → (∃ p5, w_p w3 14 p1 16 = some p5 ∧ w_l w3 E.2.1 15 p5 ∧ (if w_i w3 15 p5 9 = 0 then zb_X9_compile_p155 E L Q x1 x5 x6 (-1) w3 else zb_X9_compile_p155 E L Q x1 x5 x6 (w_i w3 15 p5 6) w3))) (fun e w => Q (.inr e) w)))))
theorem zt_X9_compile_p108 {E : zE} {L : Nat} {Q : kx_Rs → wS → Prop} {x1 : Option Nat} {x5 : Option Nat} {x6 : Option Nat} {w : wS} (hL : 60 ≤ L) (h : zb_X9_compile_p108 E L Q x1 x5 x6 w) : kzE E L kt_M22 108 [(0, .ref (w_adr E.2.1 8 0)), (1, va_rf (x1)), (5, va_rf (x5)), (6, va_rf (x6))] [] w Q := by
  unfold zb_X9_compile_p108 at h
  refine kz_aloadv (M := kt_M22) (x := x6) kX9_compile_c6.2.2.2.1 rfl ?_
  refine kz_ifnull (M := kt_M22) (x := x6) kX9_compile_c6.2.2.2.2.1 (t := 168) rfl h (fun h => ?_) (fun h => ?_)
  · skip
    exact kz_weak [(0, .ref (w_adr E.2.1 8 0)), (1, va_rf (x1)), (5, va_rf (x5))] ⟨rfl, ⟨rfl, ⟨rfl, trivial⟩⟩⟩ rfl (zt_X9_compile_p168 hL  h)
  · skip
    refine kz_aload_n (M := kt_M22) kX9_compile_c6.2.2.2.2.2.1 rfl ?_
    refine kz_gfc (M := kt_M22) (x := 38) (c := 8) (o := 0) kX9_compile_c6.2.2.2.2.2.2.1 wf_X9_31 (.inl rfl) ?_
    refine kz_aloadv (M := kt_M22) (x := x6) kX9_compile_c6.2.2.2.2.2.2.2.1 rfl ?_
    obtain ⟨p1, hxp1, hlp1, h⟩ := h
    refine kz_nz0 (x := x6) hxp1 ?_
    refine kz_gfp (M := kt_M22) (c := 14) (o := p1) kX9_compile_c7.1 wf_X9_115 (.inr (by exact hlp1)) ?_
    obtain ⟨p2, hxp2, hlp2, h⟩ := h
    refine kz_nz0 (x := w_p w 14 p1 16) hxp2 ?_
    refine kz_gfi (M := kt_M22) (c := 15) (o := p2) kX9_compile_c7.2.1 wf_X9_119 (.inr (by exact hlp2)) ?_
    refine kz_cv0 (M := kt_M22) (c := 9) (o := 2) (As := [.int (w_i w 15 p2 21)]) (rest := []) kX9_compile_c7.2.2.1 wl_X9_38 wMv_219 rfl (.inl rfl) rfl (Nat.le_trans (Nat.le_of_ble_eq_true rfl) hL) (Nat.le_of_ble_eq_true rfl) (Nat.le_of_ble_eq_true rfl) h (fun w3 hle h => ?_) (fun _ _ _ h => kzx_no rfl h)
    have h := h hle
    have hlp1 := w_l_le hlp1 hle
    have hlp2 := w_l_le hlp2 hle
    refine kz_aload_n (M := kt_M22) kX9_compile_c7.2.2.2.1 rfl ?_
    refine kz_gfc (M := kt_M22) (x := 38) (c := 8) (o := 0) kX9_compile_c7.2.2.2.2.1 wf_X9_31 (.inl rfl) ?_
    refine kz_aloadv (M := kt_M22) (x := x6) kX9_compile_c7.2.2.2.2.2.1 rfl ?_
    refine kz_nz0 (x := x6) hxp1 ?_
    refine kz_gfp (M := kt_M22) (c := 14) (o := p1) kX9_compile_c7.2.2.2.2.2.2.1 wf_X9_115 (.inr (by exact hlp1)) ?_
    obtain ⟨p5, hxp5, hlp5, h⟩ := h
    refine kz_nz0 (x := w_p w3 14 p1 16) hxp5 ?_
    refine kz_gfi (M := kt_M22) (c := 15) (o := p5) kX9_compile_c7.2.2.2.2.2.2.2.1 wf_X9_124 (.inr (by exact hlp5)) ?_
    refine kz_if_eq (M := kt_M22) kX9_compile_c8.1 (t := 154) rfl h (fun h => ?_) (fun h => ?_)
    · skip
      refine kz_ic (M := kt_M22) (-1) kX9_compile_c8.2.2.2.2.2.1 rfl ?_
      exact kz_weak [(0, .ref (w_adr E.2.1 8 0)), (1, va_rf (x1)), (5, va_rf (x5)), (6, va_rf (x6))] ⟨rfl, ⟨rfl, ⟨rfl, ⟨rfl, trivial⟩⟩⟩⟩ rfl (zt_X9_compile_p155 hL  h)
    · skip
      refine kz_aloadv (M := kt_M22) (x := x6) kX9_compile_c8.2.1 rfl ?_
      refine kz_nz0 (x := x6) hxp1 ?_
      refine kz_gfp (M := kt_M22) (c := 14) (o := p1) kX9_compile_c8.2.2.1 wf_X9_115 (.inr (by exact hlp1)) ?_
      refine kz_nz0 (x := w_p w3 14 p1 16) hxp5 ?_
      refine kz_gfi (M := kt_M22) (c := 15) (o := p5) kX9_compile_c8.2.2.2.1 wf_X9_128 (.inr (by exact hlp5)) ?_
      refine kz_goto (M := kt_M22) kX9_compile_c8.2.2.2.2.1 (t := 155) rfl ?_
      exact kz_weak [(0, .ref (w_adr E.2.1 8 0)), (1, va_rf (x1)), (5, va_rf (x5)), (6, va_rf (x6))] ⟨rfl, ⟨rfl, ⟨rfl, ⟨rfl, trivial⟩⟩⟩⟩ rfl (zt_X9_compile_p155 hL  h)
def zb_X9_compile_p79 (E : zE) (L : Nat) (Q : kx_Rs → wS → Prop) (x1 : Option Nat) (x5 : Option Nat) (w : wS) : Prop := (if x5 = none then (∃ p1, x1 = some p1 ∧ w_l w E.2.1 14 p1 ∧ zw E (L - 23) kt_M16 [.ref (w_adr E.2.1 8 0), va_rf (w_p w 14 p1 4)] w (wk0 (fun w2 => wle w w2 → zw E (L - 21) kt_M24 [.ref (w_adr E.2.1 8 0), .int 32] w2 (wk0 (fun w4 => wle w2 w4 → zw E (L - 25) kt_M35 [.ref (w_adr E.2.1 8 0), va_rf (w_p w4 14 p1 3)] w4 (wk0 (fun w6 => wle w4 w6 → zw E (L - 21) kt_M24 [.ref (w_adr E.2.1 8 0), .int 48] w6 (wk0 (fun w8 => wle w6 w8 → Q (.inl none) w8) (fun e w => Q (.inr e) w))) (fun e w => Q (.inr e) w))) (fun e w => Q (.inr e) w))) (fun e w => Q (.inr e) w))) else zw E (L - 21) kt_M23 [.ref (w_adr E.2.1 8 0), va_rf (x5)] w (wk0 (fun w10 => wle w w10 → (∃ p12, x5 = some p12 ∧ w_l w10 E.2.1 14 p12 ∧ (if ¬ w_p w10 14 p12 0 = some (E.1.1 10) then zb_X9_compile_p168 E L Q x1 x5 w10 else zL_X9_compile_p108 E L Q x1 x5 (w_p w10 14 p12 4) w10))) (fun e w => Q (.inr e) w)))
theorem zt_X9_compile_p79 {E : zE} {L : Nat} {Q : kx_Rs → wS → Prop} {x1 : Option Nat} {x5 : Option Nat} {w : wS} (hL : 60 ≤ L) (h : zb_X9_compile_p79 E L Q x1 x5 w) : kzE E L kt_M22 79 [(0, .ref (w_adr E.2.1 8 0)), (1, va_rf (x1)), (5, va_rf (x5))] [] w Q := by
  unfold zb_X9_compile_p79 at h
  refine kz_aloadv (M := kt_M22) (x := x5) kX9_compile_c4.2.2.2.2.2.2.2.1 rfl ?_
  refine kz_ifnull (M := kt_M22) (x := x5) kX9_compile_c5.1 (t := 178) rfl h (fun h => ?_) (fun h => ?_)
  · skip
    refine kz_aload_n (M := kt_M22) kX9_compile_c9.2.2.2.2.2.2.2.1 rfl ?_
    refine kz_aload_nv (M := kt_M22) (x := x1) kX9_compile_c10.1 rfl ?_
    obtain ⟨p1, hxp1, hlp1, h⟩ := h
    refine kz_nz0 (x := x1) hxp1 ?_
    refine kz_gfp (M := kt_M22) (c := 14) (o := p1) kX9_compile_c10.2.1 wf_X9_112 (.inr (by exact hlp1)) ?_
    refine kz_cv0 (M := kt_M22) (c := 8) (o := 0) (As := [va_rf (w_p w 14 p1 4)]) (rest := []) kX9_compile_c10.2.2.1 wl_X9_132 wMv_16 rfl (.inl rfl) rfl (Nat.le_trans (Nat.le_of_ble_eq_true rfl) hL) (by simp [lg_sl, w_cat, z_ci, z_cr, z_cl, z_cn, kt_M16]) (Nat.le_of_ble_eq_true rfl) h (fun w2 hle h => ?_) (fun _ _ _ h => kzx_no rfl h)
    have h := h hle
    have hlp1 := w_l_le hlp1 hle
    refine kz_aload_n (M := kt_M22) kX9_compile_c10.2.2.2.1 rfl ?_
    refine kz_bi (M := kt_M22) 32 kX9_compile_c10.2.2.2.2.1 rfl ?_
    refine kz_cv0 (M := kt_M22) (c := 8) (o := 0) (As := [.int 32]) (rest := []) kX9_compile_c10.2.2.2.2.2.1 wl_X9_137 wMv_24 rfl (.inl rfl) rfl (Nat.le_trans (Nat.le_of_ble_eq_true rfl) hL) (Nat.le_of_ble_eq_true rfl) (Nat.le_of_ble_eq_true rfl) h (fun w4 hle h => ?_) (fun _ _ _ h => kzx_no rfl h)
    have h := h hle
    have hlp1 := w_l_le hlp1 hle
    refine kz_aload_n (M := kt_M22) kX9_compile_c10.2.2.2.2.2.2.1 rfl ?_
    refine kz_aload_nv (M := kt_M22) (x := x1) kX9_compile_c10.2.2.2.2.2.2.2.1 rfl ?_
    refine kz_nz0 (x := x1) hxp1 ?_
    refine kz_gfp (M := kt_M22) (c := 14) (o := p1) kX9_compile_c11.1 wf_X9_93 (.inr (by exact hlp1)) ?_
    refine kz_cv0 (M := kt_M22) (c := 8) (o := 0) (As := [va_rf (w_p w4 14 p1 3)]) (rest := []) kX9_compile_c11.2.1 wl_X9_139 wMv_35 rfl (.inl rfl) rfl (Nat.le_trans (Nat.le_of_ble_eq_true rfl) hL) (by simp [lg_sl, w_cat, z_ci, z_cr, z_cl, z_cn, kt_M35]) (Nat.le_of_ble_eq_true rfl) h (fun w6 hle h => ?_) (fun _ _ _ h => kzx_no rfl h)
    have h := h hle
    have hlp1 := w_l_le hlp1 hle
    refine kz_aload_n (M := kt_M22) kX9_compile_c11.2.2.1 rfl ?_
    refine kz_bi (M := kt_M22) 48 kX9_compile_c11.2.2.2.1 rfl ?_
    refine kz_cv0 (M := kt_M22) (c := 8) (o := 0) (As := [.int 48]) (rest := []) kX9_compile_c11.2.2.2.2.1 wl_X9_137 wMv_24 rfl (.inl rfl) rfl (Nat.le_trans (Nat.le_of_ble_eq_true rfl) hL) (Nat.le_of_ble_eq_true rfl) (Nat.le_of_ble_eq_true rfl) h (fun w8 hle h => ?_) (fun _ _ _ h => kzx_no rfl h)
    have h := h hle
    have hlp1 := w_l_le hlp1 hle
    exact kz_ret (M := kt_M22) kX9_compile_c11.2.2.2.2.2.1 rfl h
  · skip
    refine kz_aload_n (M := kt_M22) kX9_compile_c5.2.1 rfl ?_
    refine kz_aloadv (M := kt_M22) (x := x5) kX9_compile_c5.2.2.1 rfl ?_
    refine kz_cv0 (M := kt_M22) (c := 8) (o := 0) (As := [va_rf (x5)]) (rest := []) kX9_compile_c5.2.2.2.1 wl_X9_99 wMv_23 rfl (.inl rfl) rfl (Nat.le_trans (Nat.le_of_ble_eq_true rfl) hL) (by simp [lg_sl, w_cat, z_ci, z_cr, z_cl, z_cn, kt_M23]) (Nat.le_of_ble_eq_true rfl) h (fun w10 hle h => ?_) (fun _ _ _ h => kzx_no rfl h)
    have h := h hle
    refine kz_aloadv (M := kt_M22) (x := x5) kX9_compile_c5.2.2.2.2.1 rfl ?_
    obtain ⟨p12, hxp12, hlp12, h⟩ := h
    refine kz_nz0 (x := x5) hxp12 ?_
    refine kz_gfp (M := kt_M22) (c := 14) (o := p12) kX9_compile_c5.2.2.2.2.2.1 wf_X9_103 (.inr (by exact hlp12)) ?_
    refine kz_getsE (M := kt_M22) (v := va_rf (some (E.1.1 10))) kX9_compile_c5.2.2.2.2.2.2.1 zs_X9_107 ?_
    refine kz_acmp_ne (M := kt_M22) (x := w_p w10 14 p12 0) (y := some (E.1.1 10)) kX9_compile_c5.2.2.2.2.2.2.2.1 (t := 168) rfl h (fun h => ?_) (fun h => ?_)
    · skip
      exact kz_weak [(0, .ref (w_adr E.2.1 8 0)), (1, va_rf (x1)), (5, va_rf (x5))] ⟨rfl, ⟨rfl, ⟨rfl, trivial⟩⟩⟩ rfl (zt_X9_compile_p168 hL  h)
    · skip
      refine kz_aloadv (M := kt_M22) (x := x5) kX9_compile_c6.1 rfl ?_
      refine kz_nz0 (x := x5) hxp12 ?_
      refine kz_gfp (M := kt_M22) (c := 14) (o := p12) kX9_compile_c6.2.1 wf_X9_112 (.inr (by exact hlp12)) ?_
      refine kz_stv (M := kt_M22) (x := w_p w10 14 p12 4) [(0, .ref (w_adr E.2.1 8 0)), (1, va_rf (x1)), (5, va_rf (x5))] kX9_compile_c6.2.2.1 (Nat.le_of_ble_eq_true rfl) ⟨⟨rfl, rfl, .inl rfl⟩, ⟨⟨rfl, rfl, .inl rfl⟩, ⟨⟨rfl, rfl, .inr (w_cat (x5))⟩, trivial⟩⟩⟩ rfl ?_
      exact kz_weak [(0, .ref (w_adr E.2.1 8 0)), (1, va_rf (x1)), (5, va_rf (x5)), (6, va_rf (w_p w10 14 p12 4))] ⟨rfl, ⟨rfl, ⟨rfl, ⟨rfl, trivial⟩⟩⟩⟩ rfl h
def zb_X9_compile_p0 (E : zE) (L : Nat) (Q : kx_Rs → wS → Prop) (x1 : Option Nat) (x2 : Option Nat) (x3 : Option Nat) (x4 : Option Nat) (w : wS) : Prop := zw E (L - 20) kt_M220 [.ref (w_adr E.2.1 9 0)] (ws_p (ws_p w 8 0 6 x2) 8 0 8 x4) (wk0 (fun w1 => wle (ws_p (ws_p w 8 0 6 x2) 8 0 8 x4) w1 → zw E (L - 20) kt_M220 [.ref (w_adr E.2.1 9 1)] w1 (wk0 (fun w3 => wle w1 w3 → zw E (L - 20) kt_M220 [.ref (w_adr E.2.1 9 2)] w3 (wk0 (fun w5 => wle w3 w5 → (x3 = some (w_adr E.2.1 1 0) ∧ (((¬ (0 : Int32) < 0 ∧ ¬ (0 : Int32) < 0 ∧ ¬ (6000 : Int32) < 0) ∧ (0 : Int32).toNatClampNeg + (6000 : Int32).toNatClampNeg ≤ w_n w5 1 0 10 ∧ (0 : Int32).toNatClampNeg + (6000 : Int32).toNatClampNeg ≤ w_n w5 8 0 1 ∧ ∀ i, i < (6000 : Int32).toNatClampNeg → fits .byte (.int (w_a w5 1 0 10 ((0 : Int32).toNatClampNeg + i))) = true) ∧ zw E (L - 23) kt_M38 [.ref (w_adr E.2.1 8 0), .null] (ws_i (ws_A w5 8 0 1 (va_cpy (w_a w5 1 0 10) (w_a w5 8 0 1) (0 : Int32).toNatClampNeg (0 : Int32).toNatClampNeg (6000 : Int32).toNatClampNeg)) 8 0 3 0) (wkr (fun v9 w8 => wle (ws_i (ws_A w5 8 0 1 (va_cpy (w_a w5 1 0 10) (w_a w5 8 0 1) (0 : Int32).toNatClampNeg (0 : Int32).toNatClampNeg (6000 : Int32).toNatClampNeg)) 8 0 3 0) w8 → zw E (L - 20) kt_M29 [.ref (w_adr E.2.1 8 0)] (ws_p w8 8 0 7 v9) (wk1 (fun v11 w10 => wle (ws_p w8 8 0 7 v9) w10 → (∃ p12, v9 = some p12 ∧ w_l w10 E.2.1 16 p12 ∧ (∃ p13, x1 = some p13 ∧ w_l (ws_i w10 16 p12 3 v11) E.2.1 14 p13 ∧ zL_X9_compile_p79 E L Q x1 (w_p w10 14 p13 3) (ws_i w10 16 p12 3 v11)))) (fun e w => Q (.inr e) w))) (fun e w => Q (.inr e) w))))) (fun e w => Q (.inr e) w))) (fun e w => Q (.inr e) w))) (fun e w => Q (.inr e) w))
theorem zt_X9_compile_p0 {E : zE} {L : Nat} {Q : kx_Rs → wS → Prop} {x1 : Option Nat} {x2 : Option Nat} {x3 : Option Nat} {x4 : Option Nat} {w : wS} (hL : 60 ≤ L) (h : zb_X9_compile_p0 E L Q x1 x2 x3 x4 w) : kzE E L kt_M22 0 [(0, .ref (w_adr E.2.1 8 0)), (1, va_rf (x1)), (2, va_rf (x2)), (3, va_rf (x3)), (4, va_rf (x4))] [] w Q := by
  unfold zb_X9_compile_p0 at h
  refine kz_aload_n (M := kt_M22) kX9_compile_c0.1 rfl ?_
  refine kz_aload_nv (M := kt_M22) (x := x2) kX9_compile_c0.2.1 rfl ?_
  refine kz_pfp (M := kt_M22) (n := x2) (c := 8) (o := 0) kX9_compile_c0.2.2.1 wq_X9_53 (.inl rfl) ?_
  refine kz_aload_n (M := kt_M22) kX9_compile_c0.2.2.2.1 rfl ?_
  refine kz_aloadv (M := kt_M22) (x := x4) kX9_compile_c0.2.2.2.2.1 rfl ?_
  refine kz_pfp (M := kt_M22) (n := x4) (c := 8) (o := 0) kX9_compile_c0.2.2.2.2.2.1 wq_X9_75 (.inl rfl) ?_
  refine kz_aload_n (M := kt_M22) kX9_compile_c0.2.2.2.2.2.2.1 rfl ?_
  refine kz_gfc (M := kt_M22) (x := 36) (c := 8) (o := 0) kX9_compile_c0.2.2.2.2.2.2.2.1 wf_X9_12 (.inl rfl) ?_
  refine kz_cv0 (M := kt_M22) (c := 9) (o := 0) (As := []) (rest := []) kX9_compile_c1.1 wl_X9_79 wMv_220 rfl (.inl rfl) rfl (Nat.le_trans (Nat.le_of_ble_eq_true rfl) hL) (Nat.le_of_ble_eq_true rfl) (Nat.le_of_ble_eq_true rfl) h (fun w1 hle h => ?_) (fun _ _ _ h => kzx_no rfl h)
  have h := h hle
  refine kz_aload_n (M := kt_M22) kX9_compile_c1.2.1 rfl ?_
  refine kz_gfc (M := kt_M22) (x := 37) (c := 8) (o := 0) kX9_compile_c1.2.2.1 wf_X9_28 (.inl rfl) ?_
  refine kz_cv0 (M := kt_M22) (c := 9) (o := 1) (As := []) (rest := []) kX9_compile_c1.2.2.2.1 wl_X9_79 wMv_220 rfl (.inl rfl) rfl (Nat.le_trans (Nat.le_of_ble_eq_true rfl) hL) (Nat.le_of_ble_eq_true rfl) (Nat.le_of_ble_eq_true rfl) h (fun w3 hle h => ?_) (fun _ _ _ h => kzx_no rfl h)
  have h := h hle
  refine kz_aload_n (M := kt_M22) kX9_compile_c1.2.2.2.2.1 rfl ?_
  refine kz_gfc (M := kt_M22) (x := 38) (c := 8) (o := 0) kX9_compile_c1.2.2.2.2.2.1 wf_X9_31 (.inl rfl) ?_
  refine kz_cv0 (M := kt_M22) (c := 9) (o := 2) (As := []) (rest := []) kX9_compile_c1.2.2.2.2.2.2.1 wl_X9_79 wMv_220 rfl (.inl rfl) rfl (Nat.le_trans (Nat.le_of_ble_eq_true rfl) hL) (Nat.le_of_ble_eq_true rfl) (Nat.le_of_ble_eq_true rfl) h (fun w5 hle h => ?_) (fun _ _ _ h => kzx_no rfl h)
  have h := h hle
  refine kz_aload_nv (M := kt_M22) (x := x3) kX9_compile_c1.2.2.2.2.2.2.2.1 rfl ?_
  obtain ⟨hf7, h⟩ := h
  refine kz_nz0 (x := x3) hf7 ?_
  refine kz_gfc (M := kt_M22) (x := 1266) (c := 1) (o := 0) kX9_compile_c2.1 wf_X9_82 (.inl rfl) ?_
  refine kz_ic (M := kt_M22) 0 kX9_compile_c2.2.1 rfl ?_
  refine kz_aload_n (M := kt_M22) kX9_compile_c2.2.2.1 rfl ?_
  refine kz_gfc (M := kt_M22) (x := 3049) (c := 8) (o := 0) kX9_compile_c2.2.2.2.1 wf_X9_18 (.inl rfl) ?_
  refine kz_ic (M := kt_M22) 0 kX9_compile_c2.2.2.2.2.1 rfl ?_
  refine kz_si (M := kt_M22) 6000 kX9_compile_c2.2.2.2.2.2.1 rfl ?_
  refine kz_cpyi (M := kt_M22) (τ := 1) (ty := .byte) (c0 := 1) (o0 := 0) (k0 := 10) (c := 8) (o := 0) (k := 1) (a0 := (E.2.1 1266)) (a := (E.2.1 3049)) kX9_compile_c2.2.2.2.2.2.2.1 (zac_X9_66) (by decide) rfl rfl ow_1_0_10 oa_1_0_10 ow_8_0_1 oa_8_0_1 (Nat.le_trans (by simp [kx_cat, w_cat, zac_w, z_ci, z_cr, z_cl, z_cn]) hL) h (fun h => ?_)
  refine kz_aload_n (M := kt_M22) kX9_compile_c2.2.2.2.2.2.2.2.1 rfl ?_
  refine kz_ic (M := kt_M22) 0 kX9_compile_c3.1 rfl ?_
  refine kz_pfi (M := kt_M22) (c := 8) (o := 0) kX9_compile_c3.2.1 wq_X9_72 (.inl rfl) ?_
  refine kz_aload_n (M := kt_M22) kX9_compile_c3.2.2.1 rfl ?_
  refine kz_aload_n (M := kt_M22) kX9_compile_c3.2.2.2.1 rfl ?_
  refine kz_null (M := kt_M22) kX9_compile_c3.2.2.2.2.1 ?_
  refine kz_cvr (M := kt_M22) (c := 8) (o := 0) (As := [.null]) (rest := [.ref (w_adr E.2.1 8 0)]) kX9_compile_c3.2.2.2.2.2.1 wl_X9_85 wMv_38 rfl (.inl rfl) rfl (Nat.le_trans (Nat.le_of_ble_eq_true rfl) hL) (Nat.le_of_ble_eq_true rfl) (Nat.le_of_ble_eq_true rfl) h (fun v9 w8 hle h => ?_) (fun _ _ _ h => kzx_no rfl h)
  have h := h hle
  refine kz_pfp (M := kt_M22) (n := v9) (c := 8) (o := 0) kX9_compile_c3.2.2.2.2.2.2.1 wq_X9_88 (.inl rfl) ?_
  refine kz_aload_n (M := kt_M22) kX9_compile_c3.2.2.2.2.2.2.2.1 rfl ?_
  refine kz_gfpR (M := kt_M22) (c := 8) (o := 0) v9 kX9_compile_c4.1 wf_X9_88 (.inl rfl) rd_p_e ?_
  refine kz_aload_n (M := kt_M22) kX9_compile_c4.2.1 rfl ?_
  refine kz_cv1 (M := kt_M22) (c := 8) (o := 0) (As := []) (rest := [va_rf (v9)]) kX9_compile_c4.2.2.1 wl_X9_46 wMv_29 rfl (.inl rfl) rfl (Nat.le_trans (Nat.le_of_ble_eq_true rfl) hL) (Nat.le_of_ble_eq_true rfl) (by simp [kx_cat, w_cat, z_ci, z_cr, z_cl, z_cn]) h (fun v11 w10 hle h => ?_) (fun _ _ _ h => kzx_no rfl h)
  have h := h hle
  obtain ⟨p12, hxp12, hlp12, h⟩ := h
  refine kz_nz1 (x := v9) hxp12 ?_
  refine kz_pfi (M := kt_M22) (c := 16) (o := p12) kX9_compile_c4.2.2.2.1 wq_X9_91 (.inr (by exact hlp12)) ?_
  refine kz_aload_nv (M := kt_M22) (x := x1) kX9_compile_c4.2.2.2.2.1 rfl ?_
  obtain ⟨p13, hxp13, hlp13, h⟩ := h
  refine kz_nz0 (x := x1) hxp13 ?_
  refine kz_gfpR (M := kt_M22) (c := 14) (o := p13) (w_p w10 14 p13 3) kX9_compile_c4.2.2.2.2.2.1 wf_X9_93 (.inr (by exact hlp13)) rd_p_i ?_
  refine kz_stv (M := kt_M22) (x := w_p w10 14 p13 3) [(0, .ref (w_adr E.2.1 8 0)), (1, va_rf (x1))] kX9_compile_c4.2.2.2.2.2.2.1 (Nat.le_of_ble_eq_true rfl) ⟨⟨rfl, rfl, .inl rfl⟩, ⟨⟨rfl, rfl, .inl rfl⟩, trivial⟩⟩ rfl ?_
  exact kz_weak [(0, .ref (w_adr E.2.1 8 0)), (1, va_rf (x1)), (5, va_rf (w_p w10 14 p13 3))] ⟨rfl, ⟨rfl, ⟨rfl, trivial⟩⟩⟩ rfl h
def zb_X9_newUnit_p52 (E : zE) (L : Nat) (Q : kx_Rs → wS → Prop) (x2 : Option Nat) (w : wS) : Prop := (∃ p1, x2 = some p1 ∧ w_l w E.2.1 16 p1 ∧ (kx_inb (w_i w 16 p1 4) (w_n w 8 0 2) = true ∧ Q (.inl (some (va_rf (x2)))) (ws_i (ws_r w 8 0 2 (w_i w 16 p1 4).toNatClampNeg (some p1)) 8 0 3 ((w_i w 16 p1 4) + 1))))
theorem zt_X9_newUnit_p52 {E : zE} {L : Nat} {Q : kx_Rs → wS → Prop} {x2 : Option Nat} {w : wS} (hL : 60 ≤ L) (h : zb_X9_newUnit_p52 E L Q x2 w) : kzE E L kt_M38 52 [(0, .ref (w_adr E.2.1 8 0)), (2, va_rf (x2))] [] w Q := by
  unfold zb_X9_newUnit_p52 at h
  refine kz_aload_n (M := kt_M38) kX9_newUnit_c3.2.2.2.2.2.2.1 rfl ?_
  refine kz_gfa (M := kt_M38) (c := 8) (o := 0) kX9_newUnit_c3.2.2.2.2.2.2.2.1 wf_X9_24 (.inl rfl) ?_
  refine kz_aload_nv (M := kt_M38) (x := x2) kX9_newUnit_c4.1 rfl ?_
  obtain ⟨p1, hxp1, hlp1, h⟩ := h
  refine kz_nz0 (x := x2) hxp1 ?_
  refine kz_gfi (M := kt_M38) (c := 16) (o := p1) kX9_newUnit_c4.2.1 wf_X9_63 (.inr (by exact hlp1)) ?_
  refine kz_aload_nv (M := kt_M38) (x := x2) kX9_newUnit_c4.2.2.1 rfl ?_
  refine kz_nz0 (x := x2) hxp1 ?_
  refine kz_aasto (M := kt_M38) (C1 := "") (τ := 3) (ci := 16) (c := 8) (o := 0) (k := 2) (a := (w_d w 8 0 2)) (v := p1) kX9_newUnit_c4.2.2.2.1 ow_8_0_2 oa_8_0_2 rfl rfl rfl (by exact hlp1) h (fun h => ?_)
  refine kz_aload_n (M := kt_M38) kX9_newUnit_c4.2.2.2.2.1 rfl ?_
  refine kz_aload_nv (M := kt_M38) (x := x2) kX9_newUnit_c4.2.2.2.2.2.1 rfl ?_
  refine kz_nz0 (x := x2) hxp1 ?_
  refine kz_gfiR (M := kt_M38) (c := 16) (o := p1) (w_i w 16 p1 4) kX9_newUnit_c4.2.2.2.2.2.2.1 wf_X9_63 (.inr (by exact hlp1)) rd_i_r ?_
  refine kz_ic (M := kt_M38) 1 kX9_newUnit_c4.2.2.2.2.2.2.2.1 rfl ?_
  refine kz_iadd (M := kt_M38) kX9_newUnit_c5.1 ?_
  refine kz_pfi (M := kt_M38) (c := 8) (o := 0) kX9_newUnit_c5.2.1 wq_X9_72 (.inl rfl) ?_
  refine kz_aload_nv (M := kt_M38) (x := x2) kX9_newUnit_c5.2.2.1 rfl ?_
  exact kz_areto (x := x2) (M := kt_M38) kX9_newUnit_c5.2.2.2.1 rfl h
def zb_X9_newUnit_p0 (E : zE) (L : Nat) (Q : kx_Rs → wS → Prop) (x1 : Option Nat) (w : wS) : Prop := (w_p w 8 0 6 = some (w_adr E.2.1 3 0) ∧ zw E (L - 22) kt_M227 [.ref (w_adr E.2.1 3 0), va_rf (x1)] w (wkr (fun v3 w2 => wle w w2 → (∃ p4, v3 = some p4 ∧ w_l w2 E.2.1 16 p4 ∧ (if ¬ w_i w2 16 p4 4 = (Int32.ofNat (w_n w2 8 0 2)) then zb_X9_newUnit_p52 E L Q v3 w2 else ((¬ ((2 * (Int32.ofNat (w_n w2 8 0 2)))) < 0 ∧ ((2 * (Int32.ofNat (w_n w2 8 0 2)))).toNatClampNeg * 4 ≤ 536870912 ∧ 1 ≤ w_C w2 ∧ ((2 * (Int32.ofNat (w_n w2 8 0 2)))).toNatClampNeg ≤ w_S w2) ∧ ((w_o (ws_new w2 7 ((2 * (Int32.ofNat (w_n w2 8 0 2)))).toNatClampNeg) (w_z w2) = some (99, (w_z w2), 0) ∧ w_t (ws_new w2 7 ((2 * (Int32.ofNat (w_n w2 8 0 2)))).toNatClampNeg) (w_z w2) = 7) ∧ (((¬ (0 : Int32) < 0 ∧ ¬ (0 : Int32) < 0 ∧ ¬ ((Int32.ofNat (w_n (ws_new w2 7 ((2 * (Int32.ofNat (w_n w2 8 0 2)))).toNatClampNeg) 8 0 2))) < 0) ∧ (0 : Int32).toNatClampNeg + ((Int32.ofNat (w_n (ws_new w2 7 ((2 * (Int32.ofNat (w_n w2 8 0 2)))).toNatClampNeg) 8 0 2))).toNatClampNeg ≤ w_n (ws_new w2 7 ((2 * (Int32.ofNat (w_n w2 8 0 2)))).toNatClampNeg) 8 0 2 ∧ (0 : Int32).toNatClampNeg + ((Int32.ofNat (w_n (ws_new w2 7 ((2 * (Int32.ofNat (w_n w2 8 0 2)))).toNatClampNeg) 8 0 2))).toNatClampNeg ≤ w_n (ws_new w2 7 ((2 * (Int32.ofNat (w_n w2 8 0 2)))).toNatClampNeg) 99 (w_z w2) 0 ∧ ∀ i, i < ((Int32.ofNat (w_n (ws_new w2 7 ((2 * (Int32.ofNat (w_n w2 8 0 2)))).toNatClampNeg) 8 0 2))).toNatClampNeg → ∀ y, w_r (ws_new w2 7 ((2 * (Int32.ofNat (w_n w2 8 0 2)))).toNatClampNeg) 8 0 2 ((0 : Int32).toNatClampNeg + i) = some y → w_l (ws_new w2 7 ((2 * (Int32.ofNat (w_n w2 8 0 2)))).toNatClampNeg) E.2.1 16 y) ∧ ((w_o (ws_R (ws_new w2 7 ((2 * (Int32.ofNat (w_n w2 8 0 2)))).toNatClampNeg) 99 (w_z w2) 0 (va_cpy (w_r (ws_new w2 7 ((2 * (Int32.ofNat (w_n w2 8 0 2)))).toNatClampNeg) 8 0 2) (w_r (ws_new w2 7 ((2 * (Int32.ofNat (w_n w2 8 0 2)))).toNatClampNeg) 99 (w_z w2) 0) (0 : Int32).toNatClampNeg (0 : Int32).toNatClampNeg ((Int32.ofNat (w_n (ws_new w2 7 ((2 * (Int32.ofNat (w_n w2 8 0 2)))).toNatClampNeg) 8 0 2))).toNatClampNeg)) (w_z w2) = some (99, (w_z w2), 0) ∧ w_t (ws_R (ws_new w2 7 ((2 * (Int32.ofNat (w_n w2 8 0 2)))).toNatClampNeg) 99 (w_z w2) 0 (va_cpy (w_r (ws_new w2 7 ((2 * (Int32.ofNat (w_n w2 8 0 2)))).toNatClampNeg) 8 0 2) (w_r (ws_new w2 7 ((2 * (Int32.ofNat (w_n w2 8 0 2)))).toNatClampNeg) 99 (w_z w2) 0) (0 : Int32).toNatClampNeg (0 : Int32).toNatClampNeg ((Int32.ofNat (w_n (ws_new w2 7 ((2 * (Int32.ofNat (w_n w2 8 0 2)))).toNatClampNeg) 8 0 2))).toNatClampNeg)) (w_z w2) = 7) ∧ zb_X9_newUnit_p52 E L Q v3 (ws_put (ws_R (ws_new w2 7 ((2 * (Int32.ofNat (w_n w2 8 0 2)))).toNatClampNeg) 99 (w_z w2) 0 (va_cpy (w_r (ws_new w2 7 ((2 * (Int32.ofNat (w_n w2 8 0 2)))).toNatClampNeg) 8 0 2) (w_r (ws_new w2 7 ((2 * (Int32.ofNat (w_n w2 8 0 2)))).toNatClampNeg) 99 (w_z w2) 0) (0 : Int32).toNatClampNeg (0 : Int32).toNatClampNeg ((Int32.ofNat (w_n (ws_new w2 7 ((2 * (Int32.ofNat (w_n w2 8 0 2)))).toNatClampNeg) 8 0 2))).toNatClampNeg)) 8 0 2 (w_z w2))))))))) (fun e w => Q (.inr e) w)))
theorem zt_X9_newUnit_p0 {E : zE} {L : Nat} {Q : kx_Rs → wS → Prop} {x1 : Option Nat} {w : wS} (hL : 60 ≤ L) (h : zb_X9_newUnit_p0 E L Q x1 w) : kzE E L kt_M38 0 [(0, .ref (w_adr E.2.1 8 0)), (1, va_rf (x1))] [] w Q := by
  unfold zb_X9_newUnit_p0 at h
  refine kz_aload_n (M := kt_M38) kX9_newUnit_c0.1 rfl ?_
  refine kz_gfp (M := kt_M38) (c := 8) (o := 0) kX9_newUnit_c0.2.1 wf_X9_53 (.inl rfl) ?_
  refine kz_aload_nv (M := kt_M38) (x := x1) kX9_newUnit_c0.2.2.1 rfl ?_
  obtain ⟨hf1, h⟩ := h
  refine kz_nz1 (x := w_p w 8 0 6) hf1 ?_
  refine kz_cvr (M := kt_M38) (c := 3) (o := 0) (As := [va_rf (x1)]) (rest := []) kX9_newUnit_c0.2.2.2.1 wl_X9_57 wMv_227 rfl (.inl rfl) rfl (Nat.le_trans (Nat.le_of_ble_eq_true rfl) hL) (by simp [lg_sl, w_cat, z_ci, z_cr, z_cl, z_cn, kt_M227]) (Nat.le_of_ble_eq_true rfl) h (fun v3 w2 hle h => ?_) (fun _ _ _ h => kzx_no rfl h)
  have h := h hle
  refine kz_stv_n (M := kt_M38) (x := v3) [(0, .ref (w_adr E.2.1 8 0))] kX9_newUnit_c0.2.2.2.2.1 (Nat.le_of_ble_eq_true rfl) ⟨⟨rfl, rfl, .inl rfl⟩, trivial⟩ rfl ?_
  refine kz_aload_nv (M := kt_M38) (x := v3) kX9_newUnit_c0.2.2.2.2.2.1 rfl ?_
  obtain ⟨p4, hxp4, hlp4, h⟩ := h
  refine kz_nz0 (x := v3) hxp4 ?_
  refine kz_gfi (M := kt_M38) (c := 16) (o := p4) kX9_newUnit_c0.2.2.2.2.2.2.1 wf_X9_63 (.inr (by exact hlp4)) ?_
  refine kz_aload_n (M := kt_M38) kX9_newUnit_c0.2.2.2.2.2.2.2.1 rfl ?_
  refine kz_gfa (M := kt_M38) (c := 8) (o := 0) kX9_newUnit_c1.1 wf_X9_24 (.inl rfl) ?_
  refine kz_alen (M := kt_M38) (c := 8) (o := 0) (k := 2) (a := (w_d w2 8 0 2)) (τ := 7) kX9_newUnit_c1.2.1 ow_8_0_2 oa_8_0_2 (Nat.le_of_ble_eq_true rfl) ?_
  refine kz_icmp_ne (M := kt_M38) kX9_newUnit_c1.2.2.1 (t := 52) rfl h (fun h => ?_) (fun h => ?_)
  · skip
    exact kz_weak [(0, .ref (w_adr E.2.1 8 0)), (2, va_rf (v3))] ⟨rfl, ⟨rfl, trivial⟩⟩ rfl (zt_X9_newUnit_p52 hL  h)
  · skip
    refine kz_ic (M := kt_M38) 2 kX9_newUnit_c1.2.2.2.1 rfl ?_
    refine kz_aload_n (M := kt_M38) kX9_newUnit_c1.2.2.2.2.1 rfl ?_
    refine kz_gfa (M := kt_M38) (c := 8) (o := 0) kX9_newUnit_c1.2.2.2.2.2.1 wf_X9_24 (.inl rfl) ?_
    refine kz_alen (M := kt_M38) (c := 8) (o := 0) (k := 2) (a := (w_d w2 8 0 2)) (τ := 7) kX9_newUnit_c1.2.2.2.2.2.2.1 ow_8_0_2 oa_8_0_2 (Nat.le_of_ble_eq_true rfl) ?_
    refine kz_imul (M := kt_M38) kX9_newUnit_c1.2.2.2.2.2.2.2.1 ?_
    refine kz_newr (M := kt_M38) (τ := 3) (C := "MeetingHouse$Unit") kX9_newUnit_c2.1 zkl_X9_22 zft_7 ot_7 zao_7 h (fun h => ?_)
    refine kz_sta_n (M := kt_M38) [(0, .ref (w_adr E.2.1 8 0)), (2, va_rf (v3))] kX9_newUnit_c2.2.1 (Nat.le_of_ble_eq_true rfl) ⟨⟨rfl, rfl, .inl rfl⟩, ⟨⟨rfl, rfl, .inr (w_cat (v3))⟩, trivial⟩⟩ rfl ?_
    refine kz_aload_n (M := kt_M38) kX9_newUnit_c2.2.2.1 rfl ?_
    refine kz_gfa (M := kt_M38) (c := 8) (o := 0) kX9_newUnit_c2.2.2.2.1 wf_X9_24 (.inl rfl) ?_
    refine kz_ic (M := kt_M38) 0 kX9_newUnit_c2.2.2.2.2.1 rfl ?_
    refine kz_aload_n (M := kt_M38) kX9_newUnit_c2.2.2.2.2.2.1 rfl ?_
    refine kz_ic (M := kt_M38) 0 kX9_newUnit_c2.2.2.2.2.2.2.1 rfl ?_
    refine kz_aload_n (M := kt_M38) kX9_newUnit_c2.2.2.2.2.2.2.2.1 rfl ?_
    refine kz_gfa (M := kt_M38) (c := 8) (o := 0) kX9_newUnit_c3.1 wf_X9_24 (.inl rfl) ?_
    refine kz_alen (M := kt_M38) (c := 8) (o := 0) (k := 2) (a := (w_d (ws_new w2 7 ((2 * (Int32.ofNat (w_n w2 8 0 2)))).toNatClampNeg) 8 0 2)) (τ := 7) kX9_newUnit_c3.2.1 ow_8_0_2 oa_8_0_2 (Nat.le_of_ble_eq_true rfl) ?_
    obtain ⟨h0, h⟩ := h
    refine kz_cpyr (M := kt_M38) (τ := 3) (ci := 16) (c0 := 8) (o0 := 0) (k0 := 2) (c := 99) (o := (w_z w2)) (k := 0) (a0 := (w_d (ws_new w2 7 ((2 * (Int32.ofNat (w_n w2 8 0 2)))).toNatClampNeg) 8 0 2)) (a := (w_z w2)) kX9_newUnit_c3.2.2.1 (zac_X9_66) rfl rfl rfl rfl rfl ow_8_0_2 oa_8_0_2 (.inl ⟨rfl, rfl, h0.1, h0.2⟩) rfl (Nat.le_trans (by simp [kx_cat, w_cat, zac_w, z_ci, z_cr, z_cl, z_cn]) hL) h (fun h => ?_)
    refine kz_aload_n (M := kt_M38) kX9_newUnit_c3.2.2.2.1 rfl ?_
    refine kz_aload_n (M := kt_M38) kX9_newUnit_c3.2.2.2.2.1 rfl ?_
    refine kz_pfa (M := kt_M38) (c := 8) (o := 0) (τ := 7) kX9_newUnit_c3.2.2.2.2.2.1 wq_X9_24 (.inl rfl) rfl h (fun h => ?_)
    exact kz_weak [(0, .ref (w_adr E.2.1 8 0)), (2, va_rf (v3))] ⟨rfl, ⟨rfl, trivial⟩⟩ rfl (zt_X9_newUnit_p52 hL  h)
def zb_X9_here_p0 (E : zE) (L : Nat) (Q : kx_Rs → wS → Prop) (w : wS) : Prop := Q (.inl (some (.int (w_i w 9 0 1)))) w
theorem zt_X9_here_p0 {E : zE} {L : Nat} {Q : kx_Rs → wS → Prop} {w : wS} (hL : 19 ≤ L) (h : zb_X9_here_p0 E L Q  w) : kzE E L kt_M29 0 [(0, .ref (w_adr E.2.1 8 0))] [] w Q := by
  unfold zb_X9_here_p0 at h
  refine kz_aload_n (M := kt_M29) kX9_here_c0.1 rfl ?_
  refine kz_gfc (M := kt_M29) (x := 36) (c := 8) (o := 0) kX9_here_c0.2.1 wf_X9_12 (.inl rfl) ?_
  refine kz_gfNi (M := kt_M29) (c := 9) (o := 0) kX9_here_c0.2.2.1 wfn_X9_34 (.inl rfl) ?_
  exact kz_iret (M := kt_M29) kX9_here_c0.2.2.2.1 rfl rfl h
def zb_X9_declaration_p163 (E : zE) (L : Nat) (Q : kx_Rs → wS → Prop) (w : wS) : Prop := Q (.inl none) w
theorem zt_X9_declaration_p163 {E : zE} {L : Nat} {Q : kx_Rs → wS → Prop} {w : wS} (hL : 26 ≤ L) (h : zb_X9_declaration_p163 E L Q  w) : kzE E L kt_M23 163 [(0, .ref (w_adr E.2.1 8 0))] [] w Q := by
  unfold zb_X9_declaration_p163 at h
  exact kz_ret (M := kt_M23) kX9_declaration_c6.2.2.2.2.2.2.2.1 rfl h
def zb_X9_declaration_p149 (E : zE) (L : Nat) (Q : kx_Rs → wS → Prop) (y0 : Int32) (w : wS) : Prop := zw E (L - 21) kt_M24 [.ref (w_adr E.2.1 8 0), .int y0] w (wk0 (fun w1 => wle w w1 → zb_X9_declaration_p163 E L Q w1) (fun e w => Q (.inr e) w))
theorem zt_X9_declaration_p149 {E : zE} {L : Nat} {Q : kx_Rs → wS → Prop} {y0 : Int32} {w : wS} (hL : 26 ≤ L) (h : zb_X9_declaration_p149 E L Q y0 w) : kzE E L kt_M23 149 [(0, .ref (w_adr E.2.1 8 0))] [.int y0, .ref (w_adr E.2.1 8 0)] w Q := by
  unfold zb_X9_declaration_p149 at h
  refine kz_cv0 (M := kt_M23) (c := 8) (o := 0) (As := [.int y0]) (rest := []) kX9_declaration_c6.2.1 wl_X9_137 wMv_24 rfl (.inl rfl) rfl (Nat.le_trans (Nat.le_of_ble_eq_true rfl) hL) (Nat.le_of_ble_eq_true rfl) (Nat.le_of_ble_eq_true rfl) h (fun w1 hle h => ?_) (fun _ _ _ h => kzx_no rfl h)
  have h := h hle
  refine kz_goto (M := kt_M23) kX9_declaration_c6.2.2.1 (t := 163) rfl ?_
  exact kz_weak [(0, .ref (w_adr E.2.1 8 0))] ⟨rfl, trivial⟩ rfl (zt_X9_declaration_p163 hL  h)
def zb_X9_declaration_p119 (E : zE) (L : Nat) (Q : kx_Rs → wS → Prop) (x1 : Option Nat) (w : wS) : Prop := (∃ p1, x1 = some p1 ∧ w_l w E.2.1 14 p1 ∧ (∃ p2, w_p w 14 p1 16 = some p2 ∧ w_l w E.2.1 15 p2 ∧ zw E (L - 22) kt_M36 [.ref (w_adr E.2.1 8 0), va_rf (w_p w 8 0 7), .int (w_i w 15 p2 21)] w (wk0 (fun w3 => wle w w3 → (if w_i w3 14 p1 13 = 0 then zb_X9_declaration_p149 E L Q 28 w3 else zb_X9_declaration_p149 E L Q 29 w3)) (fun e w => Q (.inr e) w))))
theorem zt_X9_declaration_p119 {E : zE} {L : Nat} {Q : kx_Rs → wS → Prop} {x1 : Option Nat} {w : wS} (hL : 26 ≤ L) (h : zb_X9_declaration_p119 E L Q x1 w) : kzE E L kt_M23 119 [(0, .ref (w_adr E.2.1 8 0)), (1, va_rf (x1))] [] w Q := by
  unfold zb_X9_declaration_p119 at h
  refine kz_aload_n (M := kt_M23) kX9_declaration_c4.2.2.2.1 rfl ?_
  refine kz_aload_n (M := kt_M23) kX9_declaration_c4.2.2.2.2.1 rfl ?_
  refine kz_gfp (M := kt_M23) (c := 8) (o := 0) kX9_declaration_c4.2.2.2.2.2.1 wf_X9_88 (.inl rfl) ?_
  refine kz_aload_nv (M := kt_M23) (x := x1) kX9_declaration_c4.2.2.2.2.2.2.1 rfl ?_
  obtain ⟨p1, hxp1, hlp1, h⟩ := h
  refine kz_nz0 (x := x1) hxp1 ?_
  refine kz_gfp (M := kt_M23) (c := 14) (o := p1) kX9_declaration_c4.2.2.2.2.2.2.2.1 wf_X9_115 (.inr (by exact hlp1)) ?_
  obtain ⟨p2, hxp2, hlp2, h⟩ := h
  refine kz_nz0 (x := w_p w 14 p1 16) hxp2 ?_
  refine kz_gfi (M := kt_M23) (c := 15) (o := p2) kX9_declaration_c5.1 wf_X9_119 (.inr (by exact hlp2)) ?_
  refine kz_cv0 (M := kt_M23) (c := 8) (o := 0) (As := [va_rf (w_p w 8 0 7), .int (w_i w 15 p2 21)]) (rest := []) kX9_declaration_c5.2.1 wl_X9_182 wMv_36 rfl (.inl rfl) rfl (Nat.le_trans (Nat.le_of_ble_eq_true rfl) hL) (by simp [lg_sl, w_cat, z_ci, z_cr, z_cl, z_cn, kt_M36]) (Nat.le_of_ble_eq_true rfl) h (fun w3 hle h => ?_) (fun _ _ _ h => kzx_no rfl h)
  have h := h hle
  have hlp1 := w_l_le hlp1 hle
  have hlp2 := w_l_le hlp2 hle
  refine kz_aload_n (M := kt_M23) kX9_declaration_c5.2.2.1 rfl ?_
  refine kz_aload_nv (M := kt_M23) (x := x1) kX9_declaration_c5.2.2.2.1 rfl ?_
  refine kz_nz0 (x := x1) hxp1 ?_
  refine kz_gfi (M := kt_M23) (c := 14) (o := p1) kX9_declaration_c5.2.2.2.2.1 wf_X9_172 (.inr (by exact hlp1)) ?_
  refine kz_if_eq (M := kt_M23) kX9_declaration_c5.2.2.2.2.2.1 (t := 147) rfl h (fun h => ?_) (fun h => ?_)
  · skip
    refine kz_bi (M := kt_M23) 28 kX9_declaration_c6.1 rfl ?_
    exact kz_weak [(0, .ref (w_adr E.2.1 8 0))] ⟨rfl, trivial⟩ rfl (zt_X9_declaration_p149 hL  h)
  · skip
    refine kz_bi (M := kt_M23) 29 kX9_declaration_c5.2.2.2.2.2.2.1 rfl ?_
    refine kz_goto (M := kt_M23) kX9_declaration_c5.2.2.2.2.2.2.2.1 (t := 149) rfl ?_
    exact kz_weak [(0, .ref (w_adr E.2.1 8 0))] ⟨rfl, trivial⟩ rfl (zt_X9_declaration_p149 hL  h)
def zb_X9_declaration_p0 (E : zE) (L : Nat) (Q : kx_Rs → wS → Prop) (x1 : Option Nat) (w : wS) : Prop := (∃ p1, x1 = some p1 ∧ w_l w E.2.1 14 p1 ∧ (∃ i2, zO E "MeetingHouse$Kind" (w_p w 14 p1 0) i2 ∧ (if (kw_on i2) = 1 then zw E (L - 25) kt_M49 [.ref (w_adr E.2.1 8 0), va_rf (x1)] w (wk0 (fun w3 => wle w w3 → zb_X9_declaration_p163 E L Q w3) (fun e w => Q (.inr e) w)) else (if (kw_on i2) = 2 then zw E (L - 25) kt_M49 [.ref (w_adr E.2.1 8 0), va_rf (x1)] w (wk0 (fun w5 => wle w w5 → zb_X9_declaration_p163 E L Q w5) (fun e w => Q (.inr e) w)) else (if (kw_on i2) = 4 then zw E (L - 22) kt_M51 [.ref (w_adr E.2.1 8 0), va_rf (x1)] w (wk0 (fun w7 => wle w w7 → zb_X9_declaration_p163 E L Q w7) (fun e w => Q (.inr e) w)) else (if (kw_on i2) = 5 then zw E (L - 22) kt_M25 [.ref (w_adr E.2.1 8 0), .int 1, .int (w_i w 14 p1 2)] w (wk0 (fun w9 => wle w w9 → zw E (L - 22) kt_M30 [.ref (w_adr E.2.1 8 0), va_rf (w_p w9 14 p1 16), .int 2] w9 (wk0 (fun w11 => wle w9 w11 → (if w_i w11 14 p1 13 = 0 then zw E (L - 22) kt_M44 [.ref (w_adr E.2.1 8 0), va_rf (w_p w11 14 p1 3)] w11 (wk0 (fun w13 => wle w11 w13 → zb_X9_declaration_p119 E L Q x1 w13) (fun e w => Q (.inr e) w)) else (∃ p15, w_p w11 14 p1 3 = some p15 ∧ w_l w11 E.2.1 14 p15 ∧ zw E (L - 21) kt_M42 [.ref (w_adr E.2.1 8 0), va_rf (w_p w11 14 p15 16)] w11 (wk0 (fun w16 => wle w11 w16 → zb_X9_declaration_p119 E L Q x1 w16) (fun e w => Q (.inr e) w))))) (fun e w => Q (.inr e) w))) (fun e w => Q (.inr e) w)) else (if (kw_on i2) = 8 then zw E (L - 26) kt_M47 [.ref (w_adr E.2.1 8 0), va_rf (x1)] w (wk0 (fun w18 => wle w w18 → zb_X9_declaration_p163 E L Q w18) (fun e w => Q (.inr e) w)) else (if (kw_on i2) = 9 then zw E (L - 26) kt_M47 [.ref (w_adr E.2.1 8 0), va_rf (x1)] w (wk0 (fun w20 => wle w w20 → zb_X9_declaration_p163 E L Q w20) (fun e w => Q (.inr e) w)) else zb_X9_declaration_p163 E L Q w))))))))
theorem zt_X9_declaration_p0 {E : zE} {L : Nat} {Q : kx_Rs → wS → Prop} {x1 : Option Nat} {w : wS} (hL : 26 ≤ L) (h : zb_X9_declaration_p0 E L Q x1 w) : kzE E L kt_M23 0 [(0, .ref (w_adr E.2.1 8 0)), (1, va_rf (x1))] [] w Q := by
  unfold zb_X9_declaration_p0 at h
  refine kz_aload_nv (M := kt_M23) (x := x1) kX9_declaration_c0.1 rfl ?_
  obtain ⟨p1, hxp1, hlp1, h⟩ := h
  refine kz_nz0 (x := x1) hxp1 ?_
  refine kz_gfp (M := kt_M23) (c := 14) (o := p1) kX9_declaration_c0.2.1 wf_X9_103 (.inr (by exact hlp1)) ?_
  obtain ⟨i2, ho, h⟩ := h
  refine kz_ord (M := kt_M23) (x := w_p w 14 p1 0) (i := i2) (C := "MeetingHouse$Kind") kX9_declaration_c0.2.2.1 zo_l_X9 zo_m_X9 zo_s_Kind zo_u_X9 (Nat.le_trans (Nat.le_of_ble_eq_true rfl) hL) (Nat.le_of_ble_eq_true rfl) ho ?_
  refine kz_tsw (M := kt_M23) [(1, 56), (2, 56), (4, 64), (5, 72), (8, 155), (9, 155)] [_, _, _, _, _, _] 163 dX9_declaration_p7 (by decide +kernel) h ⟨fun h => ?_, fun h => ?_, fun h => ?_, fun h => ?_, fun h => ?_, fun h => ?_, trivial⟩ (fun h => ?_)
  · skip
    refine kz_aload_n (M := kt_M23) kX9_declaration_c0.2.2.2.2.1 rfl ?_
    refine kz_aload_nv (M := kt_M23) (x := x1) kX9_declaration_c0.2.2.2.2.2.1 rfl ?_
    refine kz_cv0 (M := kt_M23) (c := 8) (o := 0) (As := [va_rf (x1)]) (rest := []) kX9_declaration_c0.2.2.2.2.2.2.1 wl_X9_160 wMv_49 rfl (.inl rfl) rfl (Nat.le_trans (Nat.le_of_ble_eq_true rfl) hL) (by simp [lg_sl, w_cat, z_ci, z_cr, z_cl, z_cn, kt_M49]) (Nat.le_of_ble_eq_true rfl) h (fun w3 hle h => ?_) (fun _ _ _ h => kzx_no rfl h)
    have h := h hle
    have hlp1 := w_l_le hlp1 hle
    refine kz_goto (M := kt_M23) kX9_declaration_c0.2.2.2.2.2.2.2.1 (t := 163) rfl ?_
    exact kz_weak [(0, .ref (w_adr E.2.1 8 0))] ⟨rfl, trivial⟩ rfl (zt_X9_declaration_p163 hL  h)
  · skip
    refine kz_aload_n (M := kt_M23) kX9_declaration_c0.2.2.2.2.1 rfl ?_
    refine kz_aload_nv (M := kt_M23) (x := x1) kX9_declaration_c0.2.2.2.2.2.1 rfl ?_
    refine kz_cv0 (M := kt_M23) (c := 8) (o := 0) (As := [va_rf (x1)]) (rest := []) kX9_declaration_c0.2.2.2.2.2.2.1 wl_X9_160 wMv_49 rfl (.inl rfl) rfl (Nat.le_trans (Nat.le_of_ble_eq_true rfl) hL) (by simp [lg_sl, w_cat, z_ci, z_cr, z_cl, z_cn, kt_M49]) (Nat.le_of_ble_eq_true rfl) h (fun w5 hle h => ?_) (fun _ _ _ h => kzx_no rfl h)
    have h := h hle
    have hlp1 := w_l_le hlp1 hle
    refine kz_goto (M := kt_M23) kX9_declaration_c0.2.2.2.2.2.2.2.1 (t := 163) rfl ?_
    exact kz_weak [(0, .ref (w_adr E.2.1 8 0))] ⟨rfl, trivial⟩ rfl (zt_X9_declaration_p163 hL  h)
  · skip
    refine kz_aload_n (M := kt_M23) kX9_declaration_c1.1 rfl ?_
    refine kz_aload_nv (M := kt_M23) (x := x1) kX9_declaration_c1.2.1 rfl ?_
    refine kz_cv0 (M := kt_M23) (c := 8) (o := 0) (As := [va_rf (x1)]) (rest := []) kX9_declaration_c1.2.2.1 wl_X9_163 wMv_51 rfl (.inl rfl) rfl (Nat.le_trans (Nat.le_of_ble_eq_true rfl) hL) (by simp [lg_sl, w_cat, z_ci, z_cr, z_cl, z_cn, kt_M51]) (Nat.le_of_ble_eq_true rfl) h (fun w7 hle h => ?_) (fun _ _ _ h => kzx_no rfl h)
    have h := h hle
    have hlp1 := w_l_le hlp1 hle
    refine kz_goto (M := kt_M23) kX9_declaration_c1.2.2.2.1 (t := 163) rfl ?_
    exact kz_weak [(0, .ref (w_adr E.2.1 8 0))] ⟨rfl, trivial⟩ rfl (zt_X9_declaration_p163 hL  h)
  · skip
    refine kz_aload_n (M := kt_M23) kX9_declaration_c1.2.2.2.2.1 rfl ?_
    refine kz_ic (M := kt_M23) 1 kX9_declaration_c1.2.2.2.2.2.1 rfl ?_
    refine kz_aload_nv (M := kt_M23) (x := x1) kX9_declaration_c1.2.2.2.2.2.2.1 rfl ?_
    refine kz_nz0 (x := x1) hxp1 ?_
    refine kz_gfi (M := kt_M23) (c := 14) (o := p1) kX9_declaration_c1.2.2.2.2.2.2.2.1 wf_X9_166 (.inr (by exact hlp1)) ?_
    refine kz_cv0 (M := kt_M23) (c := 8) (o := 0) (As := [.int 1, .int (w_i w 14 p1 2)]) (rest := []) kX9_declaration_c2.1 wl_X9_42 wMv_25 rfl (.inl rfl) rfl (Nat.le_trans (Nat.le_of_ble_eq_true rfl) hL) (Nat.le_of_ble_eq_true rfl) (Nat.le_of_ble_eq_true rfl) h (fun w9 hle h => ?_) (fun _ _ _ h => kzx_no rfl h)
    have h := h hle
    have hlp1 := w_l_le hlp1 hle
    refine kz_aload_n (M := kt_M23) kX9_declaration_c2.2.1 rfl ?_
    refine kz_aload_nv (M := kt_M23) (x := x1) kX9_declaration_c2.2.2.1 rfl ?_
    refine kz_nz0 (x := x1) hxp1 ?_
    refine kz_gfp (M := kt_M23) (c := 14) (o := p1) kX9_declaration_c2.2.2.2.1 wf_X9_115 (.inr (by exact hlp1)) ?_
    refine kz_ic (M := kt_M23) 2 kX9_declaration_c2.2.2.2.2.1 rfl ?_
    refine kz_cv0 (M := kt_M23) (c := 8) (o := 0) (As := [va_rf (w_p w9 14 p1 16), .int 2]) (rest := []) kX9_declaration_c2.2.2.2.2.2.1 wl_X9_169 wMv_30 rfl (.inl rfl) rfl (Nat.le_trans (Nat.le_of_ble_eq_true rfl) hL) (by simp [lg_sl, w_cat, z_ci, z_cr, z_cl, z_cn, kt_M30]) (Nat.le_of_ble_eq_true rfl) h (fun w11 hle h => ?_) (fun _ _ _ h => kzx_no rfl h)
    have h := h hle
    have hlp1 := w_l_le hlp1 hle
    refine kz_aload_nv (M := kt_M23) (x := x1) kX9_declaration_c2.2.2.2.2.2.2.1 rfl ?_
    refine kz_nz0 (x := x1) hxp1 ?_
    refine kz_gfi (M := kt_M23) (c := 14) (o := p1) kX9_declaration_c2.2.2.2.2.2.2.2.1 wf_X9_172 (.inr (by exact hlp1)) ?_
    refine kz_if_eq (M := kt_M23) kX9_declaration_c3.1 (t := 111) rfl h (fun h => ?_) (fun h => ?_)
    · skip
      refine kz_aload_n (M := kt_M23) kX9_declaration_c3.2.2.2.2.2.2.2.1 rfl ?_
      refine kz_aload_nv (M := kt_M23) (x := x1) kX9_declaration_c4.1 rfl ?_
      refine kz_nz0 (x := x1) hxp1 ?_
      refine kz_gfp (M := kt_M23) (c := 14) (o := p1) kX9_declaration_c4.2.1 wf_X9_93 (.inr (by exact hlp1)) ?_
      refine kz_cv0 (M := kt_M23) (c := 8) (o := 0) (As := [va_rf (w_p w11 14 p1 3)]) (rest := []) kX9_declaration_c4.2.2.1 wl_X9_179 wMv_44 rfl (.inl rfl) rfl (Nat.le_trans (Nat.le_of_ble_eq_true rfl) hL) (by simp [lg_sl, w_cat, z_ci, z_cr, z_cl, z_cn, kt_M44]) (Nat.le_of_ble_eq_true rfl) h (fun w13 hle h => ?_) (fun _ _ _ h => kzx_no rfl h)
      have h := h hle
      have hlp1 := w_l_le hlp1 hle
      exact kz_weak [(0, .ref (w_adr E.2.1 8 0)), (1, va_rf (x1))] ⟨rfl, ⟨rfl, trivial⟩⟩ rfl (zt_X9_declaration_p119 hL  h)
    · skip
      refine kz_aload_n (M := kt_M23) kX9_declaration_c3.2.1 rfl ?_
      refine kz_aload_nv (M := kt_M23) (x := x1) kX9_declaration_c3.2.2.1 rfl ?_
      refine kz_nz0 (x := x1) hxp1 ?_
      refine kz_gfp (M := kt_M23) (c := 14) (o := p1) kX9_declaration_c3.2.2.2.1 wf_X9_93 (.inr (by exact hlp1)) ?_
      obtain ⟨p15, hxp15, hlp15, h⟩ := h
      refine kz_nz0 (x := w_p w11 14 p1 3) hxp15 ?_
      refine kz_gfp (M := kt_M23) (c := 14) (o := p15) kX9_declaration_c3.2.2.2.2.1 wf_X9_115 (.inr (by exact hlp15)) ?_
      refine kz_cv0 (M := kt_M23) (c := 8) (o := 0) (As := [va_rf (w_p w11 14 p15 16)]) (rest := []) kX9_declaration_c3.2.2.2.2.2.1 wl_X9_175 wMv_42 rfl (.inl rfl) rfl (Nat.le_trans (Nat.le_of_ble_eq_true rfl) hL) (by simp [lg_sl, w_cat, z_ci, z_cr, z_cl, z_cn, kt_M42]) (Nat.le_of_ble_eq_true rfl) h (fun w16 hle h => ?_) (fun _ _ _ h => kzx_no rfl h)
      have h := h hle
      have hlp1 := w_l_le hlp1 hle
      have hlp15 := w_l_le hlp15 hle
      refine kz_goto (M := kt_M23) kX9_declaration_c3.2.2.2.2.2.2.1 (t := 119) rfl ?_
      exact kz_weak [(0, .ref (w_adr E.2.1 8 0)), (1, va_rf (x1))] ⟨rfl, ⟨rfl, trivial⟩⟩ rfl (zt_X9_declaration_p119 hL  h)
  · skip
    refine kz_aload_n (M := kt_M23) kX9_declaration_c6.2.2.2.1 rfl ?_
    refine kz_aload_nv (M := kt_M23) (x := x1) kX9_declaration_c6.2.2.2.2.1 rfl ?_
    refine kz_cv0 (M := kt_M23) (c := 8) (o := 0) (As := [va_rf (x1)]) (rest := []) kX9_declaration_c6.2.2.2.2.2.1 wl_X9_186 wMv_47 rfl (.inl rfl) rfl (Nat.le_trans (Nat.le_of_ble_eq_true rfl) hL) (by simp [lg_sl, w_cat, z_ci, z_cr, z_cl, z_cn, kt_M47]) (Nat.le_of_ble_eq_true rfl) h (fun w18 hle h => ?_) (fun _ _ _ h => kzx_no rfl h)
    have h := h hle
    have hlp1 := w_l_le hlp1 hle
    refine kz_goto (M := kt_M23) kX9_declaration_c6.2.2.2.2.2.2.1 (t := 163) rfl ?_
    exact kz_weak [(0, .ref (w_adr E.2.1 8 0))] ⟨rfl, trivial⟩ rfl (zt_X9_declaration_p163 hL  h)
  · skip
    refine kz_aload_n (M := kt_M23) kX9_declaration_c6.2.2.2.1 rfl ?_
    refine kz_aload_nv (M := kt_M23) (x := x1) kX9_declaration_c6.2.2.2.2.1 rfl ?_
    refine kz_cv0 (M := kt_M23) (c := 8) (o := 0) (As := [va_rf (x1)]) (rest := []) kX9_declaration_c6.2.2.2.2.2.1 wl_X9_186 wMv_47 rfl (.inl rfl) rfl (Nat.le_trans (Nat.le_of_ble_eq_true rfl) hL) (by simp [lg_sl, w_cat, z_ci, z_cr, z_cl, z_cn, kt_M47]) (Nat.le_of_ble_eq_true rfl) h (fun w20 hle h => ?_) (fun _ _ _ h => kzx_no rfl h)
    have h := h hle
    have hlp1 := w_l_le hlp1 hle
    refine kz_goto (M := kt_M23) kX9_declaration_c6.2.2.2.2.2.2.1 (t := 163) rfl ?_
    exact kz_weak [(0, .ref (w_adr E.2.1 8 0))] ⟨rfl, trivial⟩ rfl (zt_X9_declaration_p163 hL  h)
  · skip
    exact kz_weak [(0, .ref (w_adr E.2.1 8 0))] ⟨rfl, trivial⟩ rfl (zt_X9_declaration_p163 hL  h)
def zL_X9_several_p87 (E : zE) (L : Nat) (Q : kx_Rs → wS → Prop) (x1 : Option Nat) (x2 : Int32) (x4 : Option Nat) (w : wS) : Prop := kzE E L kt_M49 87 [(0, .ref (w_adr E.2.1 8 0)), (1, va_rf (x1)), (2, .int x2), (4, va_rf (x4))] [] w Q
def zL_X9_several_p24 (E : zE) (L : Nat) (Q : kx_Rs → wS → Prop) (x1 : Option Nat) (x2 : Int32) (x3 : Int32) (x4 : Option Nat) (w : wS) : Prop := kzE E L kt_M49 24 [(0, .ref (w_adr E.2.1 8 0)), (1, va_rf (x1)), (2, .int x2), (3, .int x3), (4, va_rf (x4))] [] w Q
def zb_X9_several_p221 (E : zE) (L : Nat) (Q : kx_Rs → wS → Prop) (x1 : Option Nat) (x2 : Int32) (x4 : Option Nat) (w : wS) : Prop := (∃ p1, x4 = some p1 ∧ w_l w E.2.1 14 p1 ∧ zL_X9_several_p87 E L Q x1 x2 (w_p w 14 p1 7) w)
theorem zt_X9_several_p221 {E : zE} {L : Nat} {Q : kx_Rs → wS → Prop} {x1 : Option Nat} {x2 : Int32} {x4 : Option Nat} {w : wS} (hL : 23 ≤ L) (h : zb_X9_several_p221 E L Q x1 x2 x4 w) : kzE E L kt_M49 221 [(0, .ref (w_adr E.2.1 8 0)), (1, va_rf (x1)), (2, .int x2), (4, va_rf (x4))] [] w Q := by
  unfold zb_X9_several_p221 at h
  refine kz_aloadv (M := kt_M49) (x := x4) kX9_several_c13.2.1 rfl ?_
  obtain ⟨p1, hxp1, hlp1, h⟩ := h
  refine kz_nz0 (x := x4) hxp1 ?_
  refine kz_gfp (M := kt_M49) (c := 14) (o := p1) kX9_several_c13.2.2.1 wf_X9_129 (.inr (by exact hlp1)) ?_
  refine kz_stv (M := kt_M49) (x := w_p w 14 p1 7) [(0, .ref (w_adr E.2.1 8 0)), (1, va_rf (x1)), (2, .int x2)] kX9_several_c13.2.2.2.1 (Nat.le_of_ble_eq_true rfl) ⟨⟨rfl, rfl, .inl rfl⟩, ⟨⟨rfl, rfl, .inl rfl⟩, ⟨⟨rfl, rfl, .inl rfl⟩, trivial⟩⟩⟩ rfl ?_
  refine kz_goto (M := kt_M49) kX9_several_c13.2.2.2.2.1 (t := 87) rfl ?_
  exact kz_weak [(0, .ref (w_adr E.2.1 8 0)), (1, va_rf (x1)), (2, .int x2), (4, va_rf (w_p w 14 p1 7))] ⟨rfl, ⟨rfl, ⟨rfl, ⟨rfl, trivial⟩⟩⟩⟩ rfl h
def zb_X9_several_p201 (E : zE) (L : Nat) (Q : kx_Rs → wS → Prop) (x1 : Option Nat) (x2 : Int32) (x4 : Option Nat) (x5 : Option Nat) (y0 : Int32) (y1 : Int32) (w : wS) : Prop := zw E (L - 22) kt_M25 [.ref (w_adr E.2.1 8 0), .int y1, .int y0] w (wk0 (fun w1 => wle w w1 → (if x2 = 0 then zb_X9_several_p221 E L Q x1 x2 x4 w1 else (∃ p3, x5 = some p3 ∧ w_l w1 E.2.1 15 p3 ∧ (∃ p4, x1 = some p4 ∧ w_l w1 E.2.1 14 p4 ∧ zw E (L - 22) kt_M39 [.ref (w_adr E.2.1 8 0), .int (w_i w1 15 p3 21), .int (w_i w1 14 p4 2)] w1 (wk0 (fun w5 => wle w1 w5 → zb_X9_several_p221 E L Q x1 x2 x4 w5) (fun e w => Q (.inr e) w)))))) (fun e w => Q (.inr e) w))
theorem zt_X9_several_p201 {E : zE} {L : Nat} {Q : kx_Rs → wS → Prop} {x1 : Option Nat} {x2 : Int32} {x4 : Option Nat} {x5 : Option Nat} {y0 : Int32} {y1 : Int32} {w : wS} (hL : 23 ≤ L) (h : zb_X9_several_p201 E L Q x1 x2 x4 x5 y0 y1 w) : kzE E L kt_M49 201 [(0, .ref (w_adr E.2.1 8 0)), (1, va_rf (x1)), (2, .int x2), (4, va_rf (x4)), (5, va_rf (x5))] [.int y0, .int y1, .ref (w_adr E.2.1 8 0)] w Q := by
  unfold zb_X9_several_p201 at h
  refine kz_cv0 (M := kt_M49) (c := 8) (o := 0) (As := [.int y1, .int y0]) (rest := []) kX9_several_c12.1 wl_X9_42 wMv_25 rfl (.inl rfl) rfl (Nat.le_trans (Nat.le_of_ble_eq_true rfl) hL) (Nat.le_of_ble_eq_true rfl) (Nat.le_of_ble_eq_true rfl) h (fun w1 hle h => ?_) (fun _ _ _ h => kzx_no rfl h)
  have h := h hle
  refine kz_iload_n (M := kt_M49) kX9_several_c12.2.1 rfl ?_
  refine kz_if_eq (M := kt_M49) kX9_several_c12.2.2.1 (t := 221) rfl h (fun h => ?_) (fun h => ?_)
  · skip
    exact kz_weak [(0, .ref (w_adr E.2.1 8 0)), (1, va_rf (x1)), (2, .int x2), (4, va_rf (x4))] ⟨rfl, ⟨rfl, ⟨rfl, ⟨rfl, trivial⟩⟩⟩⟩ rfl (zt_X9_several_p221 hL  h)
  · skip
    refine kz_aload_n (M := kt_M49) kX9_several_c12.2.2.2.1 rfl ?_
    refine kz_aloadv (M := kt_M49) (x := x5) kX9_several_c12.2.2.2.2.1 rfl ?_
    obtain ⟨p3, hxp3, hlp3, h⟩ := h
    refine kz_nz0 (x := x5) hxp3 ?_
    refine kz_gfi (M := kt_M49) (c := 15) (o := p3) kX9_several_c12.2.2.2.2.2.1 wf_X9_119 (.inr (by exact hlp3)) ?_
    refine kz_aload_nv (M := kt_M49) (x := x1) kX9_several_c12.2.2.2.2.2.2.1 rfl ?_
    obtain ⟨p4, hxp4, hlp4, h⟩ := h
    refine kz_nz0 (x := x1) hxp4 ?_
    refine kz_gfi (M := kt_M49) (c := 14) (o := p4) kX9_several_c12.2.2.2.2.2.2.2.1 wf_X9_166 (.inr (by exact hlp4)) ?_
    refine kz_cv0 (M := kt_M49) (c := 8) (o := 0) (As := [.int (w_i w1 15 p3 21), .int (w_i w1 14 p4 2)]) (rest := []) kX9_several_c13.1 wl_X9_192 wMv_39 rfl (.inl rfl) rfl (Nat.le_trans (Nat.le_of_ble_eq_true rfl) hL) (Nat.le_of_ble_eq_true rfl) (Nat.le_of_ble_eq_true rfl) h (fun w5 hle h => ?_) (fun _ _ _ h => kzx_no rfl h)
    have h := h hle
    have hlp3 := w_l_le hlp3 hle
    have hlp4 := w_l_le hlp4 hle
    exact kz_weak [(0, .ref (w_adr E.2.1 8 0)), (1, va_rf (x1)), (2, .int x2), (4, va_rf (x4))] ⟨rfl, ⟨rfl, ⟨rfl, ⟨rfl, trivial⟩⟩⟩⟩ rfl (zt_X9_several_p221 hL  h)
def zb_X9_several_p142 (E : zE) (L : Nat) (Q : kx_Rs → wS → Prop) (x1 : Option Nat) (x2 : Int32) (x4 : Option Nat) (x5 : Option Nat) (y0 : Int32) (w : wS) : Prop := (∃ p1, x5 = some p1 ∧ w_l w E.2.1 15 p1 ∧ (∃ p2, x1 = some p2 ∧ w_l w E.2.1 14 p2 ∧ zw E (L - 23) kt_M26 [.ref (w_adr E.2.1 8 0), .int y0, .int (w_i w 15 p1 6), .int (w_i w 14 p2 2)] w (wk0 (fun w3 => wle w w3 → zw E (L - 22) kt_M36 [.ref (w_adr E.2.1 8 0), va_rf (w_p w3 8 0 7), .int (w_i w3 15 p1 21)] w3 (wk0 (fun w5 => wle w3 w5 → zw E (L - 21) kt_M24 [.ref (w_adr E.2.1 8 0), .int 28] w5 (wk0 (fun w7 => wle w5 w7 → zb_X9_several_p221 E L Q x1 x2 x4 w7) (fun e w => Q (.inr e) w))) (fun e w => Q (.inr e) w))) (fun e w => Q (.inr e) w))))
theorem zt_X9_several_p142 {E : zE} {L : Nat} {Q : kx_Rs → wS → Prop} {x1 : Option Nat} {x2 : Int32} {x4 : Option Nat} {x5 : Option Nat} {y0 : Int32} {w : wS} (hL : 23 ≤ L) (h : zb_X9_several_p142 E L Q x1 x2 x4 x5 y0 w) : kzE E L kt_M49 142 [(0, .ref (w_adr E.2.1 8 0)), (1, va_rf (x1)), (2, .int x2), (4, va_rf (x4)), (5, va_rf (x5))] [.int y0, .ref (w_adr E.2.1 8 0)] w Q := by
  unfold zb_X9_several_p142 at h
  refine kz_aloadv (M := kt_M49) (x := x5) kX9_several_c8.2.2.2.2.1 rfl ?_
  obtain ⟨p1, hxp1, hlp1, h⟩ := h
  refine kz_nz0 (x := x5) hxp1 ?_
  refine kz_gfi (M := kt_M49) (c := 15) (o := p1) kX9_several_c8.2.2.2.2.2.1 wf_X9_128 (.inr (by exact hlp1)) ?_
  refine kz_aload_nv (M := kt_M49) (x := x1) kX9_several_c8.2.2.2.2.2.2.1 rfl ?_
  obtain ⟨p2, hxp2, hlp2, h⟩ := h
  refine kz_nz0 (x := x1) hxp2 ?_
  refine kz_gfi (M := kt_M49) (c := 14) (o := p2) kX9_several_c8.2.2.2.2.2.2.2.1 wf_X9_166 (.inr (by exact hlp2)) ?_
  refine kz_cv0 (M := kt_M49) (c := 8) (o := 0) (As := [.int y0, .int (w_i w 15 p1 6), .int (w_i w 14 p2 2)]) (rest := []) kX9_several_c9.1 wl_X9_154 wMv_26 rfl (.inl rfl) rfl (Nat.le_trans (Nat.le_of_ble_eq_true rfl) hL) (Nat.le_of_ble_eq_true rfl) (Nat.le_of_ble_eq_true rfl) h (fun w3 hle h => ?_) (fun _ _ _ h => kzx_no rfl h)
  have h := h hle
  have hlp1 := w_l_le hlp1 hle
  have hlp2 := w_l_le hlp2 hle
  refine kz_aload_n (M := kt_M49) kX9_several_c9.2.1 rfl ?_
  refine kz_aload_n (M := kt_M49) kX9_several_c9.2.2.1 rfl ?_
  refine kz_gfp (M := kt_M49) (c := 8) (o := 0) kX9_several_c9.2.2.2.1 wf_X9_88 (.inl rfl) ?_
  refine kz_aloadv (M := kt_M49) (x := x5) kX9_several_c9.2.2.2.2.1 rfl ?_
  refine kz_nz0 (x := x5) hxp1 ?_
  refine kz_gfi (M := kt_M49) (c := 15) (o := p1) kX9_several_c9.2.2.2.2.2.1 wf_X9_119 (.inr (by exact hlp1)) ?_
  refine kz_cv0 (M := kt_M49) (c := 8) (o := 0) (As := [va_rf (w_p w3 8 0 7), .int (w_i w3 15 p1 21)]) (rest := []) kX9_several_c9.2.2.2.2.2.2.1 wl_X9_182 wMv_36 rfl (.inl rfl) rfl (Nat.le_trans (Nat.le_of_ble_eq_true rfl) hL) (by simp [lg_sl, w_cat, z_ci, z_cr, z_cl, z_cn, kt_M36]) (Nat.le_of_ble_eq_true rfl) h (fun w5 hle h => ?_) (fun _ _ _ h => kzx_no rfl h)
  have h := h hle
  have hlp1 := w_l_le hlp1 hle
  have hlp2 := w_l_le hlp2 hle
  refine kz_aload_n (M := kt_M49) kX9_several_c9.2.2.2.2.2.2.2.1 rfl ?_
  refine kz_bi (M := kt_M49) 28 kX9_several_c10.1 rfl ?_
  refine kz_cv0 (M := kt_M49) (c := 8) (o := 0) (As := [.int 28]) (rest := []) kX9_several_c10.2.1 wl_X9_137 wMv_24 rfl (.inl rfl) rfl (Nat.le_trans (Nat.le_of_ble_eq_true rfl) hL) (Nat.le_of_ble_eq_true rfl) (Nat.le_of_ble_eq_true rfl) h (fun w7 hle h => ?_) (fun _ _ _ h => kzx_no rfl h)
  have h := h hle
  have hlp1 := w_l_le hlp1 hle
  have hlp2 := w_l_le hlp2 hle
  refine kz_goto (M := kt_M49) kX9_several_c10.2.2.1 (t := 221) rfl ?_
  exact kz_weak [(0, .ref (w_adr E.2.1 8 0)), (1, va_rf (x1)), (2, .int x2), (4, va_rf (x4))] ⟨rfl, ⟨rfl, ⟨rfl, ⟨rfl, trivial⟩⟩⟩⟩ rfl (zt_X9_several_p221 hL  h)
def zb_X9_several_p119 (E : zE) (L : Nat) (Q : kx_Rs → wS → Prop) (x1 : Option Nat) (x2 : Int32) (x4 : Option Nat) (x5 : Option Nat) (y0 : Int32) (y1 : Option Nat) (w : wS) : Prop := zw E (L - 22) kt_M30 [.ref (w_adr E.2.1 8 0), va_rf (y1), .int y0] w (wk0 (fun w1 => wle w w1 → (∃ p3, x5 = some p3 ∧ w_l w1 E.2.1 15 p3 ∧ (if w_i w1 15 p3 9 = 0 then zw E (L - 22) kt_M36 [.ref (w_adr E.2.1 8 0), va_rf (w_p w1 8 0 7), .int (w_i w1 15 p3 21)] w1 (wk0 (fun w4 => wle w1 w4 → (if x2 = 0 then zb_X9_several_p201 E L Q x1 x2 x4 x5 1 26 w4 else zb_X9_several_p201 E L Q x1 x2 x4 x5 2 26 w4)) (fun e w => Q (.inr e) w)) else (if x2 = 0 then zb_X9_several_p142 E L Q x1 x2 x4 x5 23 w1 else zb_X9_several_p142 E L Q x1 x2 x4 x5 24 w1)))) (fun e w => Q (.inr e) w))
theorem zt_X9_several_p119 {E : zE} {L : Nat} {Q : kx_Rs → wS → Prop} {x1 : Option Nat} {x2 : Int32} {x4 : Option Nat} {x5 : Option Nat} {y0 : Int32} {y1 : Option Nat} {w : wS} (hL : 23 ≤ L) (h : zb_X9_several_p119 E L Q x1 x2 x4 x5 y0 y1 w) : kzE E L kt_M49 119 [(0, .ref (w_adr E.2.1 8 0)), (1, va_rf (x1)), (2, .int x2), (4, va_rf (x4)), (5, va_rf (x5))] [.int y0, va_rf (y1), .ref (w_adr E.2.1 8 0)] w Q := by
  unfold zb_X9_several_p119 at h
  refine kz_cv0 (M := kt_M49) (c := 8) (o := 0) (As := [va_rf (y1), .int y0]) (rest := []) kX9_several_c7.2.2.1 wl_X9_169 wMv_30 rfl (.inl rfl) rfl (Nat.le_trans (Nat.le_of_ble_eq_true rfl) hL) (by simp [lg_sl, w_cat, z_ci, z_cr, z_cl, z_cn, kt_M30]) (Nat.le_of_ble_eq_true rfl) h (fun w1 hle h => ?_) (fun _ _ _ h => kzx_no rfl h)
  have h := h hle
  refine kz_aloadv (M := kt_M49) (x := x5) kX9_several_c7.2.2.2.1 rfl ?_
  obtain ⟨p3, hxp3, hlp3, h⟩ := h
  refine kz_nz0 (x := x5) hxp3 ?_
  refine kz_gfi (M := kt_M49) (c := 15) (o := p3) kX9_several_c7.2.2.2.2.1 wf_X9_124 (.inr (by exact hlp3)) ?_
  refine kz_if_eq (M := kt_M49) kX9_several_c7.2.2.2.2.2.1 (t := 176) rfl h (fun h => ?_) (fun h => ?_)
  · skip
    refine kz_aload_n (M := kt_M49) kX9_several_c10.2.2.2.1 rfl ?_
    refine kz_aload_n (M := kt_M49) kX9_several_c10.2.2.2.2.1 rfl ?_
    refine kz_gfp (M := kt_M49) (c := 8) (o := 0) kX9_several_c10.2.2.2.2.2.1 wf_X9_88 (.inl rfl) ?_
    refine kz_aloadv (M := kt_M49) (x := x5) kX9_several_c10.2.2.2.2.2.2.1 rfl ?_
    refine kz_nz0 (x := x5) hxp3 ?_
    refine kz_gfi (M := kt_M49) (c := 15) (o := p3) kX9_several_c10.2.2.2.2.2.2.2.1 wf_X9_119 (.inr (by exact hlp3)) ?_
    refine kz_cv0 (M := kt_M49) (c := 8) (o := 0) (As := [va_rf (w_p w1 8 0 7), .int (w_i w1 15 p3 21)]) (rest := []) kX9_several_c11.1 wl_X9_182 wMv_36 rfl (.inl rfl) rfl (Nat.le_trans (Nat.le_of_ble_eq_true rfl) hL) (by simp [lg_sl, w_cat, z_ci, z_cr, z_cl, z_cn, kt_M36]) (Nat.le_of_ble_eq_true rfl) h (fun w4 hle h => ?_) (fun _ _ _ h => kzx_no rfl h)
    have h := h hle
    have hlp3 := w_l_le hlp3 hle
    refine kz_aload_n (M := kt_M49) kX9_several_c11.2.1 rfl ?_
    refine kz_bi (M := kt_M49) 26 kX9_several_c11.2.2.1 rfl ?_
    refine kz_iload_n (M := kt_M49) kX9_several_c11.2.2.2.1 rfl ?_
    refine kz_if_eq (M := kt_M49) kX9_several_c11.2.2.2.2.1 (t := 200) rfl h (fun h => ?_) (fun h => ?_)
    · skip
      refine kz_ic (M := kt_M49) 1 kX9_several_c11.2.2.2.2.2.2.2.1 rfl ?_
      exact kz_weak [(0, .ref (w_adr E.2.1 8 0)), (1, va_rf (x1)), (2, .int x2), (4, va_rf (x4)), (5, va_rf (x5))] ⟨rfl, ⟨rfl, ⟨rfl, ⟨rfl, ⟨rfl, trivial⟩⟩⟩⟩⟩ rfl (zt_X9_several_p201 hL  h)
    · skip
      refine kz_ic (M := kt_M49) 2 kX9_several_c11.2.2.2.2.2.1 rfl ?_
      refine kz_goto (M := kt_M49) kX9_several_c11.2.2.2.2.2.2.1 (t := 201) rfl ?_
      exact kz_weak [(0, .ref (w_adr E.2.1 8 0)), (1, va_rf (x1)), (2, .int x2), (4, va_rf (x4)), (5, va_rf (x5))] ⟨rfl, ⟨rfl, ⟨rfl, ⟨rfl, ⟨rfl, trivial⟩⟩⟩⟩⟩ rfl (zt_X9_several_p201 hL  h)
  · skip
    refine kz_aload_n (M := kt_M49) kX9_several_c7.2.2.2.2.2.2.1 rfl ?_
    refine kz_iload_n (M := kt_M49) kX9_several_c7.2.2.2.2.2.2.2.1 rfl ?_
    refine kz_if_eq (M := kt_M49) kX9_several_c8.1 (t := 140) rfl h (fun h => ?_) (fun h => ?_)
    · skip
      refine kz_bi (M := kt_M49) 23 kX9_several_c8.2.2.2.1 rfl ?_
      exact kz_weak [(0, .ref (w_adr E.2.1 8 0)), (1, va_rf (x1)), (2, .int x2), (4, va_rf (x4)), (5, va_rf (x5))] ⟨rfl, ⟨rfl, ⟨rfl, ⟨rfl, ⟨rfl, trivial⟩⟩⟩⟩⟩ rfl (zt_X9_several_p142 hL  h)
    · skip
      refine kz_bi (M := kt_M49) 24 kX9_several_c8.2.1 rfl ?_
      refine kz_goto (M := kt_M49) kX9_several_c8.2.2.1 (t := 142) rfl ?_
      exact kz_weak [(0, .ref (w_adr E.2.1 8 0)), (1, va_rf (x1)), (2, .int x2), (4, va_rf (x4)), (5, va_rf (x5))] ⟨rfl, ⟨rfl, ⟨rfl, ⟨rfl, ⟨rfl, trivial⟩⟩⟩⟩⟩ rfl (zt_X9_several_p142 hL  h)
def zb_X9_several_p118 (E : zE) (L : Nat) (Q : kx_Rs → wS → Prop) (x1 : Option Nat) (x2 : Int32) (x4 : Option Nat) (x5 : Option Nat) (y0 : Option Nat) (w : wS) : Prop := zb_X9_several_p119 E L Q x1 x2 x4 x5 1 y0 w
theorem zt_X9_several_p118 {E : zE} {L : Nat} {Q : kx_Rs → wS → Prop} {x1 : Option Nat} {x2 : Int32} {x4 : Option Nat} {x5 : Option Nat} {y0 : Option Nat} {w : wS} (hL : 23 ≤ L) (h : zb_X9_several_p118 E L Q x1 x2 x4 x5 y0 w) : kzE E L kt_M49 118 [(0, .ref (w_adr E.2.1 8 0)), (1, va_rf (x1)), (2, .int x2), (4, va_rf (x4)), (5, va_rf (x5))] [va_rf (y0), .ref (w_adr E.2.1 8 0)] w Q := by
  unfold zb_X9_several_p118 at h
  refine kz_ic (M := kt_M49) 1 kX9_several_c7.2.1 rfl ?_
  exact kz_weak [(0, .ref (w_adr E.2.1 8 0)), (1, va_rf (x1)), (2, .int x2), (4, va_rf (x4)), (5, va_rf (x5))] ⟨rfl, ⟨rfl, ⟨rfl, ⟨rfl, ⟨rfl, trivial⟩⟩⟩⟩⟩ rfl (zt_X9_several_p119 hL  h)
def zb_X9_several_p87 (E : zE) (L : Nat) (Q : kx_Rs → wS → Prop) (x1 : Option Nat) (x2 : Int32) (x4 : Option Nat) (w : wS) : Prop := (if x4 = none then Q (.inl none) w else (∃ p1, x4 = some p1 ∧ w_l w E.2.1 14 p1 ∧ (if x2 = 0 then zb_X9_several_p118 E L Q x1 x2 x4 (w_p w 14 p1 16) (w_p w 14 p1 16) w else (∃ p2, w_p w 14 p1 16 = some p2 ∧ w_l w E.2.1 15 p2 ∧ (if ¬ w_i w 15 p2 9 = 0 then zb_X9_several_p118 E L Q x1 x2 x4 (w_p w 14 p1 16) (w_p w 14 p1 16) w else zb_X9_several_p119 E L Q x1 x2 x4 (w_p w 14 p1 16) 2 (w_p w 14 p1 16) w)))))
theorem zt_X9_several_p87 {E : zE} {L : Nat} {Q : kx_Rs → wS → Prop} {x1 : Option Nat} {x2 : Int32} {x4 : Option Nat} {w : wS} (hL : 23 ≤ L) (h : zb_X9_several_p87 E L Q x1 x2 x4 w) : kzE E L kt_M49 87 [(0, .ref (w_adr E.2.1 8 0)), (1, va_rf (x1)), (2, .int x2), (4, va_rf (x4))] [] w Q := by
  unfold zb_X9_several_p87 at h
  refine kz_aloadv (M := kt_M49) (x := x4) kX9_several_c5.2.2.2.1 rfl ?_
  refine kz_ifnull (M := kt_M49) (x := x4) kX9_several_c5.2.2.2.2.1 (t := 231) rfl h (fun h => ?_) (fun h => ?_)
  · skip
    exact kz_ret (M := kt_M49) kX9_several_c13.2.2.2.2.2.1 rfl h
  · skip
    refine kz_aloadv (M := kt_M49) (x := x4) kX9_several_c5.2.2.2.2.2.1 rfl ?_
    obtain ⟨p1, hxp1, hlp1, h⟩ := h
    refine kz_nz0 (x := x4) hxp1 ?_
    refine kz_gfp (M := kt_M49) (c := 14) (o := p1) kX9_several_c5.2.2.2.2.2.2.1 wf_X9_115 (.inr (by exact hlp1)) ?_
    refine kz_stv (M := kt_M49) (x := w_p w 14 p1 16) [(0, .ref (w_adr E.2.1 8 0)), (1, va_rf (x1)), (2, .int x2), (4, va_rf (x4))] kX9_several_c5.2.2.2.2.2.2.2.1 (Nat.le_of_ble_eq_true rfl) ⟨⟨rfl, rfl, .inl rfl⟩, ⟨⟨rfl, rfl, .inl rfl⟩, ⟨⟨rfl, rfl, .inl rfl⟩, ⟨⟨rfl, rfl, .inr (w_cat (x4))⟩, trivial⟩⟩⟩⟩ rfl ?_
    refine kz_aload_n (M := kt_M49) kX9_several_c6.1 rfl ?_
    refine kz_aloadv (M := kt_M49) (x := w_p w 14 p1 16) kX9_several_c6.2.1 rfl ?_
    refine kz_iload_n (M := kt_M49) kX9_several_c6.2.2.1 rfl ?_
    refine kz_if_eq (M := kt_M49) kX9_several_c6.2.2.2.1 (t := 118) rfl h (fun h => ?_) (fun h => ?_)
    · skip
      exact kz_weak [(0, .ref (w_adr E.2.1 8 0)), (1, va_rf (x1)), (2, .int x2), (4, va_rf (x4)), (5, va_rf (w_p w 14 p1 16))] ⟨rfl, ⟨rfl, ⟨rfl, ⟨rfl, ⟨rfl, trivial⟩⟩⟩⟩⟩ rfl (zt_X9_several_p118 hL  h)
    · skip
      refine kz_aloadv (M := kt_M49) (x := w_p w 14 p1 16) kX9_several_c6.2.2.2.2.1 rfl ?_
      obtain ⟨p2, hxp2, hlp2, h⟩ := h
      refine kz_nz0 (x := w_p w 14 p1 16) hxp2 ?_
      refine kz_gfi (M := kt_M49) (c := 15) (o := p2) kX9_several_c6.2.2.2.2.2.1 wf_X9_124 (.inr (by exact hlp2)) ?_
      refine kz_if_ne (M := kt_M49) kX9_several_c6.2.2.2.2.2.2.1 (t := 118) rfl h (fun h => ?_) (fun h => ?_)
      · skip
        exact kz_weak [(0, .ref (w_adr E.2.1 8 0)), (1, va_rf (x1)), (2, .int x2), (4, va_rf (x4)), (5, va_rf (w_p w 14 p1 16))] ⟨rfl, ⟨rfl, ⟨rfl, ⟨rfl, ⟨rfl, trivial⟩⟩⟩⟩⟩ rfl (zt_X9_several_p118 hL  h)
      · skip
        refine kz_ic (M := kt_M49) 2 kX9_several_c6.2.2.2.2.2.2.2.1 rfl ?_
        refine kz_goto (M := kt_M49) kX9_several_c7.1 (t := 119) rfl ?_
        exact kz_weak [(0, .ref (w_adr E.2.1 8 0)), (1, va_rf (x1)), (2, .int x2), (4, va_rf (x4)), (5, va_rf (w_p w 14 p1 16))] ⟨rfl, ⟨rfl, ⟨rfl, ⟨rfl, ⟨rfl, trivial⟩⟩⟩⟩⟩ rfl (zt_X9_several_p119 hL  h)
def zb_X9_several_p53 (E : zE) (L : Nat) (Q : kx_Rs → wS → Prop) (x1 : Option Nat) (x2 : Int32) (x4 : Option Nat) (y0 : Int32) (y1 : Int32) (w : wS) : Prop := (∃ p1, x4 = some p1 ∧ w_l w E.2.1 14 p1 ∧ zL_X9_several_p24 E L Q x1 x2 (y1 + y0) (w_p w 14 p1 7) w)
theorem zt_X9_several_p53 {E : zE} {L : Nat} {Q : kx_Rs → wS → Prop} {x1 : Option Nat} {x2 : Int32} {x4 : Option Nat} {y0 : Int32} {y1 : Int32} {w : wS} (hL : 23 ≤ L) (h : zb_X9_several_p53 E L Q x1 x2 x4 y0 y1 w) : kzE E L kt_M49 53 [(0, .ref (w_adr E.2.1 8 0)), (1, va_rf (x1)), (2, .int x2), (4, va_rf (x4))] [.int y0, .int y1] w Q := by
  unfold zb_X9_several_p53 at h
  refine kz_iadd (M := kt_M49) kX9_several_c3.2.1 ?_
  refine kz_sti_n (M := kt_M49) [(0, .ref (w_adr E.2.1 8 0)), (1, va_rf (x1)), (2, .int x2), (4, va_rf (x4))] kX9_several_c3.2.2.1 (Nat.le_of_ble_eq_true rfl) ⟨⟨rfl, rfl, .inl rfl⟩, ⟨⟨rfl, rfl, .inl rfl⟩, ⟨⟨rfl, rfl, .inr rfl⟩, ⟨⟨rfl, rfl, .inl rfl⟩, trivial⟩⟩⟩⟩ rfl ?_
  refine kz_aloadv (M := kt_M49) (x := x4) kX9_several_c3.2.2.2.1 rfl ?_
  obtain ⟨p1, hxp1, hlp1, h⟩ := h
  refine kz_nz0 (x := x4) hxp1 ?_
  refine kz_gfp (M := kt_M49) (c := 14) (o := p1) kX9_several_c3.2.2.2.2.1 wf_X9_129 (.inr (by exact hlp1)) ?_
  refine kz_stv (M := kt_M49) (x := w_p w 14 p1 7) [(0, .ref (w_adr E.2.1 8 0)), (1, va_rf (x1)), (2, .int x2), (3, .int (y1 + y0))] kX9_several_c3.2.2.2.2.2.1 (Nat.le_of_ble_eq_true rfl) ⟨⟨rfl, rfl, .inl rfl⟩, ⟨⟨rfl, rfl, .inl rfl⟩, ⟨⟨rfl, rfl, .inl rfl⟩, ⟨⟨rfl, rfl, .inr rfl⟩, trivial⟩⟩⟩⟩ rfl ?_
  refine kz_goto (M := kt_M49) kX9_several_c3.2.2.2.2.2.2.1 (t := 24) rfl ?_
  exact kz_weak [(0, .ref (w_adr E.2.1 8 0)), (1, va_rf (x1)), (2, .int x2), (3, .int (y1 + y0)), (4, va_rf (w_p w 14 p1 7))] ⟨rfl, ⟨rfl, ⟨rfl, ⟨rfl, ⟨rfl, trivial⟩⟩⟩⟩⟩ rfl h
def zb_X9_several_p24 (E : zE) (L : Nat) (Q : kx_Rs → wS → Prop) (x1 : Option Nat) (x2 : Int32) (x3 : Int32) (x4 : Option Nat) (w : wS) : Prop := (if x4 = none then (∃ p1, x1 = some p1 ∧ w_l w E.2.1 14 p1 ∧ zw E (L - 22) kt_M25 [.ref (w_adr E.2.1 8 0), .int 1, .int (w_i w 14 p1 2)] w (wk0 (fun w2 => wle w w2 → zw E (L - 22) kt_M25 [.ref (w_adr E.2.1 8 0), .int 22, .int x3] w2 (wk0 (fun w4 => wle w2 w4 → zL_X9_several_p87 E L Q x1 x2 (w_p w4 14 p1 4) w4) (fun e w => Q (.inr e) w))) (fun e w => Q (.inr e) w))) else (∃ p6, x4 = some p6 ∧ w_l w E.2.1 14 p6 ∧ (∃ p7, w_p w 14 p6 16 = some p7 ∧ w_l w E.2.1 15 p7 ∧ (if w_i w 15 p7 9 = 0 then zb_X9_several_p53 E L Q x1 x2 x4 1 x3 w else zb_X9_several_p53 E L Q x1 x2 x4 (w_i w 15 p7 6) x3 w))))
theorem zt_X9_several_p24 {E : zE} {L : Nat} {Q : kx_Rs → wS → Prop} {x1 : Option Nat} {x2 : Int32} {x3 : Int32} {x4 : Option Nat} {w : wS} (hL : 23 ≤ L) (h : zb_X9_several_p24 E L Q x1 x2 x3 x4 w) : kzE E L kt_M49 24 [(0, .ref (w_adr E.2.1 8 0)), (1, va_rf (x1)), (2, .int x2), (3, .int x3), (4, va_rf (x4))] [] w Q := by
  unfold zb_X9_several_p24 at h
  refine kz_aloadv (M := kt_M49) (x := x4) kX9_several_c1.2.2.2.2.2.1 rfl ?_
  refine kz_ifnull (M := kt_M49) (x := x4) kX9_several_c1.2.2.2.2.2.2.1 (t := 65) rfl h (fun h => ?_) (fun h => ?_)
  · skip
    refine kz_aload_n (M := kt_M49) kX9_several_c3.2.2.2.2.2.2.2.1 rfl ?_
    refine kz_ic (M := kt_M49) 1 kX9_several_c4.1 rfl ?_
    refine kz_aload_nv (M := kt_M49) (x := x1) kX9_several_c4.2.1 rfl ?_
    obtain ⟨p1, hxp1, hlp1, h⟩ := h
    refine kz_nz0 (x := x1) hxp1 ?_
    refine kz_gfi (M := kt_M49) (c := 14) (o := p1) kX9_several_c4.2.2.1 wf_X9_166 (.inr (by exact hlp1)) ?_
    refine kz_cv0 (M := kt_M49) (c := 8) (o := 0) (As := [.int 1, .int (w_i w 14 p1 2)]) (rest := []) kX9_several_c4.2.2.2.1 wl_X9_42 wMv_25 rfl (.inl rfl) rfl (Nat.le_trans (Nat.le_of_ble_eq_true rfl) hL) (Nat.le_of_ble_eq_true rfl) (Nat.le_of_ble_eq_true rfl) h (fun w2 hle h => ?_) (fun _ _ _ h => kzx_no rfl h)
    have h := h hle
    have hlp1 := w_l_le hlp1 hle
    refine kz_aload_n (M := kt_M49) kX9_several_c4.2.2.2.2.1 rfl ?_
    refine kz_bi (M := kt_M49) 22 kX9_several_c4.2.2.2.2.2.1 rfl ?_
    refine kz_iload_n (M := kt_M49) kX9_several_c4.2.2.2.2.2.2.1 rfl ?_
    refine kz_cv0 (M := kt_M49) (c := 8) (o := 0) (As := [.int 22, .int x3]) (rest := []) kX9_several_c4.2.2.2.2.2.2.2.1 wl_X9_42 wMv_25 rfl (.inl rfl) rfl (Nat.le_trans (Nat.le_of_ble_eq_true rfl) hL) (Nat.le_of_ble_eq_true rfl) (Nat.le_of_ble_eq_true rfl) h (fun w4 hle h => ?_) (fun _ _ _ h => kzx_no rfl h)
    have h := h hle
    have hlp1 := w_l_le hlp1 hle
    refine kz_aload_nv (M := kt_M49) (x := x1) kX9_several_c5.1 rfl ?_
    refine kz_nz0 (x := x1) hxp1 ?_
    refine kz_gfp (M := kt_M49) (c := 14) (o := p1) kX9_several_c5.2.1 wf_X9_112 (.inr (by exact hlp1)) ?_
    refine kz_stv (M := kt_M49) (x := w_p w4 14 p1 4) [(0, .ref (w_adr E.2.1 8 0)), (1, va_rf (x1)), (2, .int x2)] kX9_several_c5.2.2.1 (Nat.le_of_ble_eq_true rfl) ⟨⟨rfl, rfl, .inl rfl⟩, ⟨⟨rfl, rfl, .inl rfl⟩, ⟨⟨rfl, rfl, .inl rfl⟩, trivial⟩⟩⟩ rfl ?_
    exact kz_weak [(0, .ref (w_adr E.2.1 8 0)), (1, va_rf (x1)), (2, .int x2), (4, va_rf (w_p w4 14 p1 4))] ⟨rfl, ⟨rfl, ⟨rfl, ⟨rfl, trivial⟩⟩⟩⟩ rfl h
  · skip
    refine kz_iload_n (M := kt_M49) kX9_several_c1.2.2.2.2.2.2.2.1 rfl ?_
    refine kz_aloadv (M := kt_M49) (x := x4) kX9_several_c2.1 rfl ?_
    obtain ⟨p6, hxp6, hlp6, h⟩ := h
    refine kz_nz0 (x := x4) hxp6 ?_
    refine kz_gfp (M := kt_M49) (c := 14) (o := p6) kX9_several_c2.2.1 wf_X9_115 (.inr (by exact hlp6)) ?_
    obtain ⟨p7, hxp7, hlp7, h⟩ := h
    refine kz_nz0 (x := w_p w 14 p6 16) hxp7 ?_
    refine kz_gfi (M := kt_M49) (c := 15) (o := p7) kX9_several_c2.2.2.1 wf_X9_124 (.inr (by exact hlp7)) ?_
    refine kz_if_eq (M := kt_M49) kX9_several_c2.2.2.2.1 (t := 52) rfl h (fun h => ?_) (fun h => ?_)
    · skip
      refine kz_ic (M := kt_M49) 1 kX9_several_c3.1 rfl ?_
      exact kz_weak [(0, .ref (w_adr E.2.1 8 0)), (1, va_rf (x1)), (2, .int x2), (4, va_rf (x4))] ⟨rfl, ⟨rfl, ⟨rfl, ⟨rfl, trivial⟩⟩⟩⟩ rfl (zt_X9_several_p53 hL  h)
    · skip
      refine kz_aloadv (M := kt_M49) (x := x4) kX9_several_c2.2.2.2.2.1 rfl ?_
      refine kz_nz0 (x := x4) hxp6 ?_
      refine kz_gfp (M := kt_M49) (c := 14) (o := p6) kX9_several_c2.2.2.2.2.2.1 wf_X9_115 (.inr (by exact hlp6)) ?_
      refine kz_nz0 (x := w_p w 14 p6 16) hxp7 ?_
      refine kz_gfi (M := kt_M49) (c := 15) (o := p7) kX9_several_c2.2.2.2.2.2.2.1 wf_X9_128 (.inr (by exact hlp7)) ?_
      refine kz_goto (M := kt_M49) kX9_several_c2.2.2.2.2.2.2.2.1 (t := 53) rfl ?_
      exact kz_weak [(0, .ref (w_adr E.2.1 8 0)), (1, va_rf (x1)), (2, .int x2), (4, va_rf (x4))] ⟨rfl, ⟨rfl, ⟨rfl, ⟨rfl, trivial⟩⟩⟩⟩ rfl (zt_X9_several_p53 hL  h)
def zb_X9_several_p15 (E : zE) (L : Nat) (Q : kx_Rs → wS → Prop) (x1 : Option Nat) (y0 : Int32) (w : wS) : Prop := (∃ p1, x1 = some p1 ∧ w_l w E.2.1 14 p1 ∧ zL_X9_several_p24 E L Q x1 y0 0 (w_p w 14 p1 4) w)
theorem zt_X9_several_p15 {E : zE} {L : Nat} {Q : kx_Rs → wS → Prop} {x1 : Option Nat} {y0 : Int32} {w : wS} (hL : 23 ≤ L) (h : zb_X9_several_p15 E L Q x1 y0 w) : kzE E L kt_M49 15 [(0, .ref (w_adr E.2.1 8 0)), (1, va_rf (x1))] [.int y0] w Q := by
  unfold zb_X9_several_p15 at h
  refine kz_sti_n (M := kt_M49) [(0, .ref (w_adr E.2.1 8 0)), (1, va_rf (x1))] kX9_several_c0.2.2.2.2.2.2.2.1 (Nat.le_of_ble_eq_true rfl) ⟨⟨rfl, rfl, .inl rfl⟩, ⟨⟨rfl, rfl, .inr (w_cat (x1))⟩, trivial⟩⟩ rfl ?_
  refine kz_ic (M := kt_M49) 0 kX9_several_c1.1 rfl ?_
  refine kz_sti_n (M := kt_M49) [(0, .ref (w_adr E.2.1 8 0)), (1, va_rf (x1)), (2, .int y0)] kX9_several_c1.2.1 (Nat.le_of_ble_eq_true rfl) ⟨⟨rfl, rfl, .inl rfl⟩, ⟨⟨rfl, rfl, .inl rfl⟩, ⟨⟨rfl, rfl, .inr rfl⟩, trivial⟩⟩⟩ rfl ?_
  refine kz_aload_nv (M := kt_M49) (x := x1) kX9_several_c1.2.2.1 rfl ?_
  obtain ⟨p1, hxp1, hlp1, h⟩ := h
  refine kz_nz0 (x := x1) hxp1 ?_
  refine kz_gfp (M := kt_M49) (c := 14) (o := p1) kX9_several_c1.2.2.2.1 wf_X9_112 (.inr (by exact hlp1)) ?_
  refine kz_stv (M := kt_M49) (x := w_p w 14 p1 4) [(0, .ref (w_adr E.2.1 8 0)), (1, va_rf (x1)), (2, .int y0), (3, .int 0)] kX9_several_c1.2.2.2.2.1 (Nat.le_of_ble_eq_true rfl) ⟨⟨rfl, rfl, .inl rfl⟩, ⟨⟨rfl, rfl, .inl rfl⟩, ⟨⟨rfl, rfl, .inl rfl⟩, ⟨⟨rfl, rfl, .inr rfl⟩, trivial⟩⟩⟩⟩ rfl ?_
  exact kz_weak [(0, .ref (w_adr E.2.1 8 0)), (1, va_rf (x1)), (2, .int y0), (3, .int 0), (4, va_rf (w_p w 14 p1 4))] ⟨rfl, ⟨rfl, ⟨rfl, ⟨rfl, ⟨rfl, trivial⟩⟩⟩⟩⟩ rfl h
def zb_X9_several_p0 (E : zE) (L : Nat) (Q : kx_Rs → wS → Prop) (x1 : Option Nat) (w : wS) : Prop := (∃ p1, x1 = some p1 ∧ w_l w E.2.1 14 p1 ∧ (if ¬ w_p w 14 p1 0 = some (E.1.1 26) then zb_X9_several_p15 E L Q x1 0 w else zb_X9_several_p15 E L Q x1 1 w))
theorem zt_X9_several_p0 {E : zE} {L : Nat} {Q : kx_Rs → wS → Prop} {x1 : Option Nat} {w : wS} (hL : 23 ≤ L) (h : zb_X9_several_p0 E L Q x1 w) : kzE E L kt_M49 0 [(0, .ref (w_adr E.2.1 8 0)), (1, va_rf (x1))] [] w Q := by
  unfold zb_X9_several_p0 at h
  refine kz_aload_nv (M := kt_M49) (x := x1) kX9_several_c0.1 rfl ?_
  obtain ⟨p1, hxp1, hlp1, h⟩ := h
  refine kz_nz0 (x := x1) hxp1 ?_
  refine kz_gfp (M := kt_M49) (c := 14) (o := p1) kX9_several_c0.2.1 wf_X9_103 (.inr (by exact hlp1)) ?_
  refine kz_getsE (M := kt_M49) (v := va_rf (some (E.1.1 26))) kX9_several_c0.2.2.1 zs_X9_189 ?_
  refine kz_acmp_ne (M := kt_M49) (x := w_p w 14 p1 0) (y := some (E.1.1 26)) kX9_several_c0.2.2.2.1 (t := 14) rfl h (fun h => ?_) (fun h => ?_)
  · skip
    refine kz_ic (M := kt_M49) 0 kX9_several_c0.2.2.2.2.2.2.1 rfl ?_
    exact kz_weak [(0, .ref (w_adr E.2.1 8 0)), (1, va_rf (x1))] ⟨rfl, ⟨rfl, trivial⟩⟩ rfl (zt_X9_several_p15 hL  h)
  · skip
    refine kz_ic (M := kt_M49) 1 kX9_several_c0.2.2.2.2.1 rfl ?_
    refine kz_goto (M := kt_M49) kX9_several_c0.2.2.2.2.2.1 (t := 15) rfl ?_
    exact kz_weak [(0, .ref (w_adr E.2.1 8 0)), (1, va_rf (x1))] ⟨rfl, ⟨rfl, trivial⟩⟩ rfl (zt_X9_several_p15 hL  h)
def zb_X9_emit_p0 (E : zE) (L : Nat) (Q : kx_Rs → wS → Prop) (x1 : Int32) (x2 : Int32) (w : wS) : Prop := zw E (L - 22) kt_M219 [.ref (w_adr E.2.1 9 0), .int x1] w (wk0 (fun w1 => wle w w1 → zw E (L - 22) kt_M219 [.ref (w_adr E.2.1 9 0), .int x2] w1 (wk0 (fun w3 => wle w1 w3 → Q (.inl none) w3) (fun e w => Q (.inr e) w))) (fun e w => Q (.inr e) w))
theorem zt_X9_emit_p0 {E : zE} {L : Nat} {Q : kx_Rs → wS → Prop} {x1 : Int32} {x2 : Int32} {w : wS} (hL : 22 ≤ L) (h : zb_X9_emit_p0 E L Q x1 x2 w) : kzE E L kt_M25 0 [(0, .ref (w_adr E.2.1 8 0)), (1, .int x1), (2, .int x2)] [] w Q := by
  unfold zb_X9_emit_p0 at h
  refine kz_aload_n (M := kt_M25) kX9_emit_c0.1 rfl ?_
  refine kz_gfc (M := kt_M25) (x := 36) (c := 8) (o := 0) kX9_emit_c0.2.1 wf_X9_12 (.inl rfl) ?_
  refine kz_iload_n (M := kt_M25) kX9_emit_c0.2.2.1 rfl ?_
  refine kz_cv0 (M := kt_M25) (c := 9) (o := 0) (As := [.int x1]) (rest := []) kX9_emit_c0.2.2.2.1 wl_X9_38 wMv_219 rfl (.inl rfl) rfl (Nat.le_trans (Nat.le_of_ble_eq_true rfl) hL) (Nat.le_of_ble_eq_true rfl) (Nat.le_of_ble_eq_true rfl) h (fun w1 hle h => ?_) (fun _ _ _ h => kzx_no rfl h)
  have h := h hle
  refine kz_aload_n (M := kt_M25) kX9_emit_c0.2.2.2.2.1 rfl ?_
  refine kz_gfc (M := kt_M25) (x := 36) (c := 8) (o := 0) kX9_emit_c0.2.2.2.2.2.1 wf_X9_12 (.inl rfl) ?_
  refine kz_iload_n (M := kt_M25) kX9_emit_c0.2.2.2.2.2.2.1 rfl ?_
  refine kz_cv0 (M := kt_M25) (c := 9) (o := 0) (As := [.int x2]) (rest := []) kX9_emit_c0.2.2.2.2.2.2.2.1 wl_X9_38 wMv_219 rfl (.inl rfl) rfl (Nat.le_trans (Nat.le_of_ble_eq_true rfl) hL) (Nat.le_of_ble_eq_true rfl) (Nat.le_of_ble_eq_true rfl) h (fun w3 hle h => ?_) (fun _ _ _ h => kzx_no rfl h)
  have h := h hle
  exact kz_ret (M := kt_M25) kX9_emit_c1.1 rfl h
def zb_X9_home_p0 (E : zE) (L : Nat) (Q : kx_Rs → wS → Prop) (x1 : Option Nat) (x2 : Int32) (w : wS) : Prop := (∃ p1, x1 = some p1 ∧ w_l w E.2.1 15 p1 ∧ zw E (L - 22) kt_M50 [.ref (w_adr E.2.1 8 0), .int x2] (ws_p w 15 p1 20 (w_p w 8 0 7)) (wk1 (fun v3 w2 => wle (ws_p w 15 p1 20 (w_p w 8 0 7)) w2 → Q (.inl none) (ws_i w2 15 p1 21 v3)) (fun e w => Q (.inr e) w)))
theorem zt_X9_home_p0 {E : zE} {L : Nat} {Q : kx_Rs → wS → Prop} {x1 : Option Nat} {x2 : Int32} {w : wS} (hL : 22 ≤ L) (h : zb_X9_home_p0 E L Q x1 x2 w) : kzE E L kt_M30 0 [(0, .ref (w_adr E.2.1 8 0)), (1, va_rf (x1)), (2, .int x2)] [] w Q := by
  unfold zb_X9_home_p0 at h
  refine kz_aload_nv (M := kt_M30) (x := x1) kX9_home_c0.1 rfl ?_
  refine kz_aload_n (M := kt_M30) kX9_home_c0.2.1 rfl ?_
  refine kz_gfp (M := kt_M30) (c := 8) (o := 0) kX9_home_c0.2.2.1 wf_X9_88 (.inl rfl) ?_
  obtain ⟨p1, hxp1, hlp1, h⟩ := h
  refine kz_nz1 (x := x1) hxp1 ?_
  refine kz_pfp (M := kt_M30) (n := w_p w 8 0 7) (c := 15) (o := p1) kX9_home_c0.2.2.2.1 wq_X9_145 (.inr (by exact hlp1)) ?_
  refine kz_aload_nv (M := kt_M30) (x := x1) kX9_home_c0.2.2.2.2.1 rfl ?_
  refine kz_aload_n (M := kt_M30) kX9_home_c0.2.2.2.2.2.1 rfl ?_
  refine kz_iload_n (M := kt_M30) kX9_home_c0.2.2.2.2.2.2.1 rfl ?_
  refine kz_cv1 (M := kt_M30) (c := 8) (o := 0) (As := [.int x2]) (rest := [va_rf (x1)]) kX9_home_c0.2.2.2.2.2.2.2.1 wl_X9_148 wMv_50 rfl (.inl rfl) rfl (Nat.le_trans (Nat.le_of_ble_eq_true rfl) hL) (Nat.le_of_ble_eq_true rfl) (by simp [kx_cat, w_cat, z_ci, z_cr, z_cl, z_cn]) h (fun v3 w2 hle h => ?_) (fun _ _ _ h => kzx_no rfl h)
  have h := h hle
  have hlp1 := w_l_le hlp1 hle
  refine kz_nz1 (x := x1) hxp1 ?_
  refine kz_pfi (M := kt_M30) (c := 15) (o := p1) kX9_home_c1.1 wq_X9_119 (.inr (by exact hlp1)) ?_
  exact kz_ret (M := kt_M30) kX9_home_c1.2.1 rfl h
def zb_X9_slot_p0 (E : zE) (L : Nat) (Q : kx_Rs → wS → Prop) (x1 : Int32) (w : wS) : Prop := (∃ p1, w_p w 8 0 7 = some p1 ∧ w_l w E.2.1 16 p1 ∧ Q (.inl (some (.int (w_i w 16 p1 2)))) (ws_i w 16 p1 2 ((w_i w 16 p1 2) + x1)))
theorem zt_X9_slot_p0 {E : zE} {L : Nat} {Q : kx_Rs → wS → Prop} {x1 : Int32} {w : wS} (hL : 19 ≤ L) (h : zb_X9_slot_p0 E L Q x1 w) : kzE E L kt_M50 0 [(0, .ref (w_adr E.2.1 8 0)), (1, .int x1)] [] w Q := by
  unfold zb_X9_slot_p0 at h
  refine kz_aload_n (M := kt_M50) kX9_slot_c0.1 rfl ?_
  refine kz_gfp (M := kt_M50) (c := 8) (o := 0) kX9_slot_c0.2.1 wf_X9_88 (.inl rfl) ?_
  obtain ⟨p1, hxp1, hlp1, h⟩ := h
  refine kz_nz0 (x := w_p w 8 0 7) hxp1 ?_
  refine kz_gfi (M := kt_M50) (c := 16) (o := p1) kX9_slot_c0.2.2.1 wf_X9_142 (.inr (by exact hlp1)) ?_
  refine kz_sti_n (M := kt_M50) [(0, .ref (w_adr E.2.1 8 0)), (1, .int x1)] kX9_slot_c0.2.2.2.1 (Nat.le_of_ble_eq_true rfl) ⟨⟨rfl, rfl, .inl rfl⟩, ⟨⟨rfl, rfl, .inr rfl⟩, trivial⟩⟩ rfl ?_
  refine kz_aload_n (M := kt_M50) kX9_slot_c0.2.2.2.2.1 rfl ?_
  refine kz_gfp (M := kt_M50) (c := 8) (o := 0) kX9_slot_c0.2.2.2.2.2.1 wf_X9_88 (.inl rfl) ?_
  refine kz_dup (M := kt_M50) kX9_slot_c0.2.2.2.2.2.2.1 (w_cat _) ?_
  refine kz_nz0 (x := w_p w 8 0 7) hxp1 ?_
  refine kz_gfi (M := kt_M50) (c := 16) (o := p1) kX9_slot_c0.2.2.2.2.2.2.2.1 wf_X9_142 (.inr (by exact hlp1)) ?_
  refine kz_iload_n (M := kt_M50) kX9_slot_c1.1 rfl ?_
  refine kz_iadd (M := kt_M50) kX9_slot_c1.2.1 ?_
  refine kz_nz1 (x := w_p w 8 0 7) hxp1 ?_
  refine kz_pfi (M := kt_M50) (c := 16) (o := p1) kX9_slot_c1.2.2.1 wq_X9_142 (.inr (by exact hlp1)) ?_
  refine kz_iload_n (M := kt_M50) kX9_slot_c1.2.2.2.1 rfl ?_
  exact kz_iret (M := kt_M50) kX9_slot_c1.2.2.2.2.1 rfl rfl h
def zb_X9_emit_2_p0 (E : zE) (L : Nat) (Q : kx_Rs → wS → Prop) (x1 : Int32) (x2 : Int32) (x3 : Int32) (w : wS) : Prop := zw E (L - 22) kt_M25 [.ref (w_adr E.2.1 8 0), .int x1, .int x2] w (wk0 (fun w1 => wle w w1 → zw E (L - 22) kt_M219 [.ref (w_adr E.2.1 9 0), .int x3] w1 (wk0 (fun w3 => wle w1 w3 → Q (.inl none) w3) (fun e w => Q (.inr e) w))) (fun e w => Q (.inr e) w))
theorem zt_X9_emit_2_p0 {E : zE} {L : Nat} {Q : kx_Rs → wS → Prop} {x1 : Int32} {x2 : Int32} {x3 : Int32} {w : wS} (hL : 22 ≤ L) (h : zb_X9_emit_2_p0 E L Q x1 x2 x3 w) : kzE E L kt_M26 0 [(0, .ref (w_adr E.2.1 8 0)), (1, .int x1), (2, .int x2), (3, .int x3)] [] w Q := by
  unfold zb_X9_emit_2_p0 at h
  refine kz_aload_n (M := kt_M26) kX9_emit_2_c0.1 rfl ?_
  refine kz_iload_n (M := kt_M26) kX9_emit_2_c0.2.1 rfl ?_
  refine kz_iload_n (M := kt_M26) kX9_emit_2_c0.2.2.1 rfl ?_
  refine kz_cv0 (M := kt_M26) (c := 8) (o := 0) (As := [.int x1, .int x2]) (rest := []) kX9_emit_2_c0.2.2.2.1 wl_X9_42 wMv_25 rfl (.inl rfl) rfl (Nat.le_trans (Nat.le_of_ble_eq_true rfl) hL) (Nat.le_of_ble_eq_true rfl) (Nat.le_of_ble_eq_true rfl) h (fun w1 hle h => ?_) (fun _ _ _ h => kzx_no rfl h)
  have h := h hle
  refine kz_aload_n (M := kt_M26) kX9_emit_2_c0.2.2.2.2.1 rfl ?_
  refine kz_gfc (M := kt_M26) (x := 36) (c := 8) (o := 0) kX9_emit_2_c0.2.2.2.2.2.1 wf_X9_12 (.inl rfl) ?_
  refine kz_iload_n (M := kt_M26) kX9_emit_2_c0.2.2.2.2.2.2.1 rfl ?_
  refine kz_cv0 (M := kt_M26) (c := 9) (o := 0) (As := [.int x3]) (rest := []) kX9_emit_2_c0.2.2.2.2.2.2.2.1 wl_X9_38 wMv_219 rfl (.inl rfl) rfl (Nat.le_trans (Nat.le_of_ble_eq_true rfl) hL) (Nat.le_of_ble_eq_true rfl) (Nat.le_of_ble_eq_true rfl) h (fun w3 hle h => ?_) (fun _ _ _ h => kzx_no rfl h)
  have h := h hle
  exact kz_ret (M := kt_M26) kX9_emit_2_c1.1 rfl h
def zb_X9_local_p0 (E : zE) (L : Nat) (Q : kx_Rs → wS → Prop) (x1 : Option Nat) (x2 : Int32) (w : wS) : Prop := (∃ p1, w_p w 8 0 7 = some p1 ∧ w_l w E.2.1 16 p1 ∧ (∃ p2, x1 = some p2 ∧ w_l w E.2.1 16 p2 ∧ zw E (L - 23) kt_M26 [.ref (w_adr E.2.1 8 0), .int 3, .int ((w_i w 16 p1 1) - (w_i w 16 p2 1)), .int x2] w (wk0 (fun w3 => wle w w3 → Q (.inl none) w3) (fun e w => Q (.inr e) w))))
theorem zt_X9_local_p0 {E : zE} {L : Nat} {Q : kx_Rs → wS → Prop} {x1 : Option Nat} {x2 : Int32} {w : wS} (hL : 23 ≤ L) (h : zb_X9_local_p0 E L Q x1 x2 w) : kzE E L kt_M36 0 [(0, .ref (w_adr E.2.1 8 0)), (1, va_rf (x1)), (2, .int x2)] [] w Q := by
  unfold zb_X9_local_p0 at h
  refine kz_aload_n (M := kt_M36) kX9_local_c0.1 rfl ?_
  refine kz_ic (M := kt_M36) 3 kX9_local_c0.2.1 rfl ?_
  refine kz_aload_n (M := kt_M36) kX9_local_c0.2.2.1 rfl ?_
  refine kz_gfp (M := kt_M36) (c := 8) (o := 0) kX9_local_c0.2.2.2.1 wf_X9_88 (.inl rfl) ?_
  obtain ⟨p1, hxp1, hlp1, h⟩ := h
  refine kz_nz0 (x := w_p w 8 0 7) hxp1 ?_
  refine kz_gfi (M := kt_M36) (c := 16) (o := p1) kX9_local_c0.2.2.2.2.1 wf_X9_151 (.inr (by exact hlp1)) ?_
  refine kz_aload_nv (M := kt_M36) (x := x1) kX9_local_c0.2.2.2.2.2.1 rfl ?_
  obtain ⟨p2, hxp2, hlp2, h⟩ := h
  refine kz_nz0 (x := x1) hxp2 ?_
  refine kz_gfi (M := kt_M36) (c := 16) (o := p2) kX9_local_c0.2.2.2.2.2.2.1 wf_X9_151 (.inr (by exact hlp2)) ?_
  refine kz_isub (M := kt_M36) kX9_local_c0.2.2.2.2.2.2.2.1 ?_
  refine kz_iload_n (M := kt_M36) kX9_local_c1.1 rfl ?_
  refine kz_cv0 (M := kt_M36) (c := 8) (o := 0) (As := [.int 3, .int ((w_i w 16 p1 1) - (w_i w 16 p2 1)), .int x2]) (rest := []) kX9_local_c1.2.1 wl_X9_154 wMv_26 rfl (.inl rfl) rfl (Nat.le_trans (Nat.le_of_ble_eq_true rfl) hL) (Nat.le_of_ble_eq_true rfl) (Nat.le_of_ble_eq_true rfl) h (fun w3 hle h => ?_) (fun _ _ _ h => kzx_no rfl h)
  have h := h hle
  have hlp1 := w_l_le hlp1 hle
  have hlp2 := w_l_le hlp2 hle
  exact kz_ret (M := kt_M36) kX9_local_c1.2.2.1 rfl h
def zb_X9_emit_3_p0 (E : zE) (L : Nat) (Q : kx_Rs → wS → Prop) (x1 : Int32) (w : wS) : Prop := zw E (L - 22) kt_M219 [.ref (w_adr E.2.1 9 0), .int x1] w (wk0 (fun w1 => wle w w1 → Q (.inl none) w1) (fun e w => Q (.inr e) w))
theorem zt_X9_emit_3_p0 {E : zE} {L : Nat} {Q : kx_Rs → wS → Prop} {x1 : Int32} {w : wS} (hL : 22 ≤ L) (h : zb_X9_emit_3_p0 E L Q x1 w) : kzE E L kt_M24 0 [(0, .ref (w_adr E.2.1 8 0)), (1, .int x1)] [] w Q := by
  unfold zb_X9_emit_3_p0 at h
  refine kz_aload_n (M := kt_M24) kX9_emit_3_c0.1 rfl ?_
  refine kz_gfc (M := kt_M24) (x := 36) (c := 8) (o := 0) kX9_emit_3_c0.2.1 wf_X9_12 (.inl rfl) ?_
  refine kz_iload_n (M := kt_M24) kX9_emit_3_c0.2.2.1 rfl ?_
  refine kz_cv0 (M := kt_M24) (c := 9) (o := 0) (As := [.int x1]) (rest := []) kX9_emit_3_c0.2.2.2.1 wl_X9_38 wMv_219 rfl (.inl rfl) rfl (Nat.le_trans (Nat.le_of_ble_eq_true rfl) hL) (Nat.le_of_ble_eq_true rfl) (Nat.le_of_ble_eq_true rfl) h (fun w1 hle h => ?_) (fun _ _ _ h => kzx_no rfl h)
  have h := h hle
  exact kz_ret (M := kt_M24) kX9_emit_3_c0.2.2.2.2.1 rfl h
def zb_X9_noted_p0 (E : zE) (L : Nat) (Q : kx_Rs → wS → Prop) (x1 : Int32) (x2 : Int32) (w : wS) : Prop := (∃ p1, w_p w 8 0 7 = some p1 ∧ w_l w E.2.1 16 p1 ∧ zw E (L - 22) kt_M219 [.ref (w_adr E.2.1 9 1), .int (w_i w 16 p1 4)] w (wk0 (fun w2 => wle w w2 → zw E (L - 22) kt_M219 [.ref (w_adr E.2.1 9 1), .int x1] w2 (wk0 (fun w4 => wle w2 w4 → zw E (L - 22) kt_M219 [.ref (w_adr E.2.1 9 1), .int x2] w4 (wk0 (fun w6 => wle w4 w6 → Q (.inl none) w6) (fun e w => Q (.inr e) w))) (fun e w => Q (.inr e) w))) (fun e w => Q (.inr e) w)))
theorem zt_X9_noted_p0 {E : zE} {L : Nat} {Q : kx_Rs → wS → Prop} {x1 : Int32} {x2 : Int32} {w : wS} (hL : 22 ≤ L) (h : zb_X9_noted_p0 E L Q x1 x2 w) : kzE E L kt_M39 0 [(0, .ref (w_adr E.2.1 8 0)), (1, .int x1), (2, .int x2)] [] w Q := by
  unfold zb_X9_noted_p0 at h
  refine kz_aload_n (M := kt_M39) kX9_noted_c0.1 rfl ?_
  refine kz_gfc (M := kt_M39) (x := 37) (c := 8) (o := 0) kX9_noted_c0.2.1 wf_X9_28 (.inl rfl) ?_
  refine kz_aload_n (M := kt_M39) kX9_noted_c0.2.2.1 rfl ?_
  refine kz_gfp (M := kt_M39) (c := 8) (o := 0) kX9_noted_c0.2.2.2.1 wf_X9_88 (.inl rfl) ?_
  obtain ⟨p1, hxp1, hlp1, h⟩ := h
  refine kz_nz0 (x := w_p w 8 0 7) hxp1 ?_
  refine kz_gfi (M := kt_M39) (c := 16) (o := p1) kX9_noted_c0.2.2.2.2.1 wf_X9_63 (.inr (by exact hlp1)) ?_
  refine kz_cv0 (M := kt_M39) (c := 9) (o := 1) (As := [.int (w_i w 16 p1 4)]) (rest := []) kX9_noted_c0.2.2.2.2.2.1 wl_X9_38 wMv_219 rfl (.inl rfl) rfl (Nat.le_trans (Nat.le_of_ble_eq_true rfl) hL) (Nat.le_of_ble_eq_true rfl) (Nat.le_of_ble_eq_true rfl) h (fun w2 hle h => ?_) (fun _ _ _ h => kzx_no rfl h)
  have h := h hle
  have hlp1 := w_l_le hlp1 hle
  refine kz_aload_n (M := kt_M39) kX9_noted_c0.2.2.2.2.2.2.1 rfl ?_
  refine kz_gfc (M := kt_M39) (x := 37) (c := 8) (o := 0) kX9_noted_c0.2.2.2.2.2.2.2.1 wf_X9_28 (.inl rfl) ?_
  refine kz_iload_n (M := kt_M39) kX9_noted_c1.1 rfl ?_
  refine kz_cv0 (M := kt_M39) (c := 9) (o := 1) (As := [.int x1]) (rest := []) kX9_noted_c1.2.1 wl_X9_38 wMv_219 rfl (.inl rfl) rfl (Nat.le_trans (Nat.le_of_ble_eq_true rfl) hL) (Nat.le_of_ble_eq_true rfl) (Nat.le_of_ble_eq_true rfl) h (fun w4 hle h => ?_) (fun _ _ _ h => kzx_no rfl h)
  have h := h hle
  have hlp1 := w_l_le hlp1 hle
  refine kz_aload_n (M := kt_M39) kX9_noted_c1.2.2.1 rfl ?_
  refine kz_gfc (M := kt_M39) (x := 37) (c := 8) (o := 0) kX9_noted_c1.2.2.2.1 wf_X9_28 (.inl rfl) ?_
  refine kz_iload_n (M := kt_M39) kX9_noted_c1.2.2.2.2.1 rfl ?_
  refine kz_cv0 (M := kt_M39) (c := 9) (o := 1) (As := [.int x2]) (rest := []) kX9_noted_c1.2.2.2.2.2.1 wl_X9_38 wMv_219 rfl (.inl rfl) rfl (Nat.le_trans (Nat.le_of_ble_eq_true rfl) hL) (Nat.le_of_ble_eq_true rfl) (Nat.le_of_ble_eq_true rfl) h (fun w6 hle h => ?_) (fun _ _ _ h => kzx_no rfl h)
  have h := h hle
  have hlp1 := w_l_le hlp1 hle
  exact kz_ret (M := kt_M39) kX9_noted_c1.2.2.2.2.2.2.1 rfl h
def zb_X9_value_p107 (E : zE) (L : Nat) (Q : kx_Rs → wS → Prop) (w : wS) : Prop := Q (.inl none) w
theorem zt_X9_value_p107 {E : zE} {L : Nat} {Q : kx_Rs → wS → Prop} {w : wS} (hL : 23 ≤ L) (h : zb_X9_value_p107 E L Q  w) : kzE E L kt_M51 107 [(0, .ref (w_adr E.2.1 8 0))] [] w Q := by
  unfold zb_X9_value_p107 at h
  exact kz_ret (M := kt_M51) kX9_value_c6.2.2.2.2.2.2.1 rfl h
def zb_X9_value_p36 (E : zE) (L : Nat) (Q : kx_Rs → wS → Prop) (x1 : Option Nat) (x2 : Option Nat) (y0 : Int32) (y1 : Option Nat) (w : wS) : Prop := zw E (L - 22) kt_M30 [.ref (w_adr E.2.1 8 0), va_rf (y1), .int y0] w (wk0 (fun w1 => wle w w1 → (∃ p3, x2 = some p3 ∧ w_l w1 E.2.1 15 p3 ∧ (if w_i w1 15 p3 9 = 0 then (∃ p4, x1 = some p4 ∧ w_l w1 E.2.1 14 p4 ∧ zw E (L - 23) kt_M27 [.ref (w_adr E.2.1 8 0), va_rf (w_p w1 14 p4 3)] w1 (wk0 (fun w5 => wle w1 w5 → zw E (L - 22) kt_M36 [.ref (w_adr E.2.1 8 0), va_rf (w_p w5 8 0 7), .int (w_i w5 15 p3 21)] w5 (wk0 (fun w7 => wle w5 w7 → zw E (L - 21) kt_M24 [.ref (w_adr E.2.1 8 0), .int 28] w7 (wk0 (fun w9 => wle w7 w9 → zb_X9_value_p107 E L Q w9) (fun e w => Q (.inr e) w))) (fun e w => Q (.inr e) w))) (fun e w => Q (.inr e) w))) else (∃ p11, x1 = some p11 ∧ w_l w1 E.2.1 14 p11 ∧ zw E (L - 23) kt_M19 [.ref (w_adr E.2.1 8 0), va_rf (w_p w1 14 p11 3)] w1 (wk0 (fun w12 => wle w1 w12 → zw E (L - 21) kt_M24 [.ref (w_adr E.2.1 8 0), .int 27] w12 (wk0 (fun w14 => wle w12 w14 → zw E (L - 22) kt_M36 [.ref (w_adr E.2.1 8 0), va_rf (w_p w14 8 0 7), .int (w_i w14 15 p3 21)] w14 (wk0 (fun w16 => wle w14 w16 → zw E (L - 21) kt_M24 [.ref (w_adr E.2.1 8 0), .int 29] w16 (wk0 (fun w18 => wle w16 w18 → zb_X9_value_p107 E L Q w18) (fun e w => Q (.inr e) w))) (fun e w => Q (.inr e) w))) (fun e w => Q (.inr e) w))) (fun e w => Q (.inr e) w)))))) (fun e w => Q (.inr e) w))
theorem zt_X9_value_p36 {E : zE} {L : Nat} {Q : kx_Rs → wS → Prop} {x1 : Option Nat} {x2 : Option Nat} {y0 : Int32} {y1 : Option Nat} {w : wS} (hL : 23 ≤ L) (h : zb_X9_value_p36 E L Q x1 x2 y0 y1 w) : kzE E L kt_M51 36 [(0, .ref (w_adr E.2.1 8 0)), (1, va_rf (x1)), (2, va_rf (x2))] [.int y0, va_rf (y1), .ref (w_adr E.2.1 8 0)] w Q := by
  unfold zb_X9_value_p36 at h
  refine kz_cv0 (M := kt_M51) (c := 8) (o := 0) (As := [va_rf (y1), .int y0]) (rest := []) kX9_value_c2.2.2.2.2.1 wl_X9_169 wMv_30 rfl (.inl rfl) rfl (Nat.le_trans (Nat.le_of_ble_eq_true rfl) hL) (by simp [lg_sl, w_cat, z_ci, z_cr, z_cl, z_cn, kt_M30]) (Nat.le_of_ble_eq_true rfl) h (fun w1 hle h => ?_) (fun _ _ _ h => kzx_no rfl h)
  have h := h hle
  refine kz_aload_nv (M := kt_M51) (x := x2) kX9_value_c2.2.2.2.2.2.1 rfl ?_
  obtain ⟨p3, hxp3, hlp3, h⟩ := h
  refine kz_nz0 (x := x2) hxp3 ?_
  refine kz_gfi (M := kt_M51) (c := 15) (o := p3) kX9_value_c2.2.2.2.2.2.2.1 wf_X9_124 (.inr (by exact hlp3)) ?_
  refine kz_if_eq (M := kt_M51) kX9_value_c2.2.2.2.2.2.2.2.1 (t := 81) rfl h (fun h => ?_) (fun h => ?_)
  · skip
    refine kz_aload_n (M := kt_M51) kX9_value_c5.2.1 rfl ?_
    refine kz_aload_nv (M := kt_M51) (x := x1) kX9_value_c5.2.2.1 rfl ?_
    obtain ⟨p4, hxp4, hlp4, h⟩ := h
    refine kz_nz0 (x := x1) hxp4 ?_
    refine kz_gfp (M := kt_M51) (c := 14) (o := p4) kX9_value_c5.2.2.2.1 wf_X9_93 (.inr (by exact hlp4)) ?_
    refine kz_cv0 (M := kt_M51) (c := 8) (o := 0) (As := [va_rf (w_p w1 14 p4 3)]) (rest := []) kX9_value_c5.2.2.2.2.1 wl_X9_200 wMv_27 rfl (.inl rfl) rfl (Nat.le_trans (Nat.le_of_ble_eq_true rfl) hL) (by simp [lg_sl, w_cat, z_ci, z_cr, z_cl, z_cn, kt_M27]) (Nat.le_of_ble_eq_true rfl) h (fun w5 hle h => ?_) (fun _ _ _ h => kzx_no rfl h)
    have h := h hle
    have hlp3 := w_l_le hlp3 hle
    have hlp4 := w_l_le hlp4 hle
    refine kz_aload_n (M := kt_M51) kX9_value_c5.2.2.2.2.2.1 rfl ?_
    refine kz_aload_n (M := kt_M51) kX9_value_c5.2.2.2.2.2.2.1 rfl ?_
    refine kz_gfp (M := kt_M51) (c := 8) (o := 0) kX9_value_c5.2.2.2.2.2.2.2.1 wf_X9_88 (.inl rfl) ?_
    refine kz_aload_nv (M := kt_M51) (x := x2) kX9_value_c6.1 rfl ?_
    refine kz_nz0 (x := x2) hxp3 ?_
    refine kz_gfi (M := kt_M51) (c := 15) (o := p3) kX9_value_c6.2.1 wf_X9_119 (.inr (by exact hlp3)) ?_
    refine kz_cv0 (M := kt_M51) (c := 8) (o := 0) (As := [va_rf (w_p w5 8 0 7), .int (w_i w5 15 p3 21)]) (rest := []) kX9_value_c6.2.2.1 wl_X9_182 wMv_36 rfl (.inl rfl) rfl (Nat.le_trans (Nat.le_of_ble_eq_true rfl) hL) (by simp [lg_sl, w_cat, z_ci, z_cr, z_cl, z_cn, kt_M36]) (Nat.le_of_ble_eq_true rfl) h (fun w7 hle h => ?_) (fun _ _ _ h => kzx_no rfl h)
    have h := h hle
    have hlp3 := w_l_le hlp3 hle
    have hlp4 := w_l_le hlp4 hle
    refine kz_aload_n (M := kt_M51) kX9_value_c6.2.2.2.1 rfl ?_
    refine kz_bi (M := kt_M51) 28 kX9_value_c6.2.2.2.2.1 rfl ?_
    refine kz_cv0 (M := kt_M51) (c := 8) (o := 0) (As := [.int 28]) (rest := []) kX9_value_c6.2.2.2.2.2.1 wl_X9_137 wMv_24 rfl (.inl rfl) rfl (Nat.le_trans (Nat.le_of_ble_eq_true rfl) hL) (Nat.le_of_ble_eq_true rfl) (Nat.le_of_ble_eq_true rfl) h (fun w9 hle h => ?_) (fun _ _ _ h => kzx_no rfl h)
    have h := h hle
    have hlp3 := w_l_le hlp3 hle
    have hlp4 := w_l_le hlp4 hle
    exact kz_weak [(0, .ref (w_adr E.2.1 8 0))] ⟨rfl, trivial⟩ rfl (zt_X9_value_p107 hL  h)
  · skip
    refine kz_aload_n (M := kt_M51) kX9_value_c3.1 rfl ?_
    refine kz_aload_nv (M := kt_M51) (x := x1) kX9_value_c3.2.1 rfl ?_
    obtain ⟨p11, hxp11, hlp11, h⟩ := h
    refine kz_nz0 (x := x1) hxp11 ?_
    refine kz_gfp (M := kt_M51) (c := 14) (o := p11) kX9_value_c3.2.2.1 wf_X9_93 (.inr (by exact hlp11)) ?_
    refine kz_cv0 (M := kt_M51) (c := 8) (o := 0) (As := [va_rf (w_p w1 14 p11 3)]) (rest := []) kX9_value_c3.2.2.2.1 wl_X9_198 wMv_19 rfl (.inl rfl) rfl (Nat.le_trans (Nat.le_of_ble_eq_true rfl) hL) (by simp [lg_sl, w_cat, z_ci, z_cr, z_cl, z_cn, kt_M19]) (Nat.le_of_ble_eq_true rfl) h (fun w12 hle h => ?_) (fun _ _ _ h => kzx_no rfl h)
    have h := h hle
    have hlp11 := w_l_le hlp11 hle
    have hlp3 := w_l_le hlp3 hle
    refine kz_aload_n (M := kt_M51) kX9_value_c3.2.2.2.2.1 rfl ?_
    refine kz_bi (M := kt_M51) 27 kX9_value_c3.2.2.2.2.2.1 rfl ?_
    refine kz_cv0 (M := kt_M51) (c := 8) (o := 0) (As := [.int 27]) (rest := []) kX9_value_c3.2.2.2.2.2.2.1 wl_X9_137 wMv_24 rfl (.inl rfl) rfl (Nat.le_trans (Nat.le_of_ble_eq_true rfl) hL) (Nat.le_of_ble_eq_true rfl) (Nat.le_of_ble_eq_true rfl) h (fun w14 hle h => ?_) (fun _ _ _ h => kzx_no rfl h)
    have h := h hle
    have hlp11 := w_l_le hlp11 hle
    have hlp3 := w_l_le hlp3 hle
    refine kz_aload_n (M := kt_M51) kX9_value_c3.2.2.2.2.2.2.2.1 rfl ?_
    refine kz_aload_n (M := kt_M51) kX9_value_c4.1 rfl ?_
    refine kz_gfp (M := kt_M51) (c := 8) (o := 0) kX9_value_c4.2.1 wf_X9_88 (.inl rfl) ?_
    refine kz_aload_nv (M := kt_M51) (x := x2) kX9_value_c4.2.2.1 rfl ?_
    refine kz_nz0 (x := x2) hxp3 ?_
    refine kz_gfi (M := kt_M51) (c := 15) (o := p3) kX9_value_c4.2.2.2.1 wf_X9_119 (.inr (by exact hlp3)) ?_
    refine kz_cv0 (M := kt_M51) (c := 8) (o := 0) (As := [va_rf (w_p w14 8 0 7), .int (w_i w14 15 p3 21)]) (rest := []) kX9_value_c4.2.2.2.2.1 wl_X9_182 wMv_36 rfl (.inl rfl) rfl (Nat.le_trans (Nat.le_of_ble_eq_true rfl) hL) (by simp [lg_sl, w_cat, z_ci, z_cr, z_cl, z_cn, kt_M36]) (Nat.le_of_ble_eq_true rfl) h (fun w16 hle h => ?_) (fun _ _ _ h => kzx_no rfl h)
    have h := h hle
    have hlp11 := w_l_le hlp11 hle
    have hlp3 := w_l_le hlp3 hle
    refine kz_aload_n (M := kt_M51) kX9_value_c4.2.2.2.2.2.1 rfl ?_
    refine kz_bi (M := kt_M51) 29 kX9_value_c4.2.2.2.2.2.2.1 rfl ?_
    refine kz_cv0 (M := kt_M51) (c := 8) (o := 0) (As := [.int 29]) (rest := []) kX9_value_c4.2.2.2.2.2.2.2.1 wl_X9_137 wMv_24 rfl (.inl rfl) rfl (Nat.le_trans (Nat.le_of_ble_eq_true rfl) hL) (Nat.le_of_ble_eq_true rfl) (Nat.le_of_ble_eq_true rfl) h (fun w18 hle h => ?_) (fun _ _ _ h => kzx_no rfl h)
    have h := h hle
    have hlp11 := w_l_le hlp11 hle
    have hlp3 := w_l_le hlp3 hle
    refine kz_goto (M := kt_M51) kX9_value_c5.1 (t := 107) rfl ?_
    exact kz_weak [(0, .ref (w_adr E.2.1 8 0))] ⟨rfl, trivial⟩ rfl (zt_X9_value_p107 hL  h)
def zb_X9_value_p0 (E : zE) (L : Nat) (Q : kx_Rs → wS → Prop) (x1 : Option Nat) (w : wS) : Prop := (∃ p1, x1 = some p1 ∧ w_l w E.2.1 14 p1 ∧ (∃ p2, w_p w 14 p1 16 = some p2 ∧ w_l w E.2.1 15 p2 ∧ (if w_i w 15 p2 10 = 0 then zw E (L - 22) kt_M25 [.ref (w_adr E.2.1 8 0), .int 1, .int (w_i w 14 p1 2)] w (wk0 (fun w3 => wle w w3 → (if w_i w3 15 p2 9 = 0 then zb_X9_value_p36 E L Q x1 (w_p w 14 p1 16) 1 (w_p w 14 p1 16) w3 else zb_X9_value_p36 E L Q x1 (w_p w 14 p1 16) 2 (w_p w 14 p1 16) w3)) (fun e w => Q (.inr e) w)) else Q (.inl none) w)))
theorem zt_X9_value_p0 {E : zE} {L : Nat} {Q : kx_Rs → wS → Prop} {x1 : Option Nat} {w : wS} (hL : 23 ≤ L) (h : zb_X9_value_p0 E L Q x1 w) : kzE E L kt_M51 0 [(0, .ref (w_adr E.2.1 8 0)), (1, va_rf (x1))] [] w Q := by
  unfold zb_X9_value_p0 at h
  refine kz_aload_nv (M := kt_M51) (x := x1) kX9_value_c0.1 rfl ?_
  obtain ⟨p1, hxp1, hlp1, h⟩ := h
  refine kz_nz0 (x := x1) hxp1 ?_
  refine kz_gfp (M := kt_M51) (c := 14) (o := p1) kX9_value_c0.2.1 wf_X9_115 (.inr (by exact hlp1)) ?_
  refine kz_stv_n (M := kt_M51) (x := w_p w 14 p1 16) [(0, .ref (w_adr E.2.1 8 0)), (1, va_rf (x1))] kX9_value_c0.2.2.1 (Nat.le_of_ble_eq_true rfl) ⟨⟨rfl, rfl, .inl rfl⟩, ⟨⟨rfl, rfl, .inr (w_cat (x1))⟩, trivial⟩⟩ rfl ?_
  refine kz_aload_nv (M := kt_M51) (x := w_p w 14 p1 16) kX9_value_c0.2.2.2.1 rfl ?_
  obtain ⟨p2, hxp2, hlp2, h⟩ := h
  refine kz_nz0 (x := w_p w 14 p1 16) hxp2 ?_
  refine kz_gfi (M := kt_M51) (c := 15) (o := p2) kX9_value_c0.2.2.2.2.1 wf_X9_195 (.inr (by exact hlp2)) ?_
  refine kz_if_eq (M := kt_M51) kX9_value_c0.2.2.2.2.2.1 (t := 13) rfl h (fun h => ?_) (fun h => ?_)
  · skip
    refine kz_aload_n (M := kt_M51) kX9_value_c0.2.2.2.2.2.2.2.1 rfl ?_
    refine kz_ic (M := kt_M51) 1 kX9_value_c1.1 rfl ?_
    refine kz_aload_nv (M := kt_M51) (x := x1) kX9_value_c1.2.1 rfl ?_
    refine kz_nz0 (x := x1) hxp1 ?_
    refine kz_gfi (M := kt_M51) (c := 14) (o := p1) kX9_value_c1.2.2.1 wf_X9_166 (.inr (by exact hlp1)) ?_
    refine kz_cv0 (M := kt_M51) (c := 8) (o := 0) (As := [.int 1, .int (w_i w 14 p1 2)]) (rest := []) kX9_value_c1.2.2.2.1 wl_X9_42 wMv_25 rfl (.inl rfl) rfl (Nat.le_trans (Nat.le_of_ble_eq_true rfl) hL) (Nat.le_of_ble_eq_true rfl) (Nat.le_of_ble_eq_true rfl) h (fun w3 hle h => ?_) (fun _ _ _ h => kzx_no rfl h)
    have h := h hle
    have hlp1 := w_l_le hlp1 hle
    have hlp2 := w_l_le hlp2 hle
    refine kz_aload_n (M := kt_M51) kX9_value_c1.2.2.2.2.1 rfl ?_
    refine kz_aload_nv (M := kt_M51) (x := w_p w 14 p1 16) kX9_value_c1.2.2.2.2.2.1 rfl ?_
    refine kz_aload_nv (M := kt_M51) (x := w_p w 14 p1 16) kX9_value_c1.2.2.2.2.2.2.1 rfl ?_
    refine kz_nz0 (x := w_p w 14 p1 16) hxp2 ?_
    refine kz_gfi (M := kt_M51) (c := 15) (o := p2) kX9_value_c1.2.2.2.2.2.2.2.1 wf_X9_124 (.inr (by exact hlp2)) ?_
    refine kz_if_eq (M := kt_M51) kX9_value_c2.1 (t := 35) rfl h (fun h => ?_) (fun h => ?_)
    · skip
      refine kz_ic (M := kt_M51) 1 kX9_value_c2.2.2.2.1 rfl ?_
      exact kz_weak [(0, .ref (w_adr E.2.1 8 0)), (1, va_rf (x1)), (2, va_rf (w_p w 14 p1 16))] ⟨rfl, ⟨rfl, ⟨rfl, trivial⟩⟩⟩ rfl (zt_X9_value_p36 hL  h)
    · skip
      refine kz_ic (M := kt_M51) 2 kX9_value_c2.2.1 rfl ?_
      refine kz_goto (M := kt_M51) kX9_value_c2.2.2.1 (t := 36) rfl ?_
      exact kz_weak [(0, .ref (w_adr E.2.1 8 0)), (1, va_rf (x1)), (2, va_rf (w_p w 14 p1 16))] ⟨rfl, ⟨rfl, ⟨rfl, trivial⟩⟩⟩ rfl (zt_X9_value_p36 hL  h)
  · skip
    exact kz_ret (M := kt_M51) kX9_value_c0.2.2.2.2.2.2.1 rfl h
def zL_X9_array_p44 (E : zE) (L : Nat) (Q : kx_Rs → wS → Prop) (x2 : Int32) (x3 : Option Nat) (w : wS) : Prop := kzE E L kt_M19 44 [(0, .ref (w_adr E.2.1 8 0)), (2, .int x2), (3, va_rf (x3))] [] w Q
def zb_X9_array_p82 (E : zE) (L : Nat) (Q : kx_Rs → wS → Prop) (w : wS) : Prop := Q (.inl none) w
theorem zt_X9_array_p82 {E : zE} {L : Nat} {Q : kx_Rs → wS → Prop} {w : wS} (hL : 23 ≤ L) (h : zb_X9_array_p82 E L Q  w) : kzE E L kt_M19 82 [(0, .ref (w_adr E.2.1 8 0))] [] w Q := by
  unfold zb_X9_array_p82 at h
  exact kz_ret (M := kt_M19) kX9_array_c5.1 rfl h
def zb_X9_array_p44 (E : zE) (L : Nat) (Q : kx_Rs → wS → Prop) (x2 : Int32) (x3 : Option Nat) (w : wS) : Prop := (if x3 = none then zw E (L - 22) kt_M25 [.ref (w_adr E.2.1 8 0), .int 13, .int x2] w (wk0 (fun w1 => wle w w1 → zb_X9_array_p82 E L Q w1) (fun e w => Q (.inr e) w)) else zw E (L - 23) kt_M27 [.ref (w_adr E.2.1 8 0), va_rf (x3)] w (wk0 (fun w3 => wle w w3 → (∃ p5, x3 = some p5 ∧ w_l w3 E.2.1 14 p5 ∧ zL_X9_array_p44 E L Q (x2 + 1) (w_p w3 14 p5 7) w3)) (fun e w => Q (.inr e) w)))
theorem zt_X9_array_p44 {E : zE} {L : Nat} {Q : kx_Rs → wS → Prop} {x2 : Int32} {x3 : Option Nat} {w : wS} (hL : 23 ≤ L) (h : zb_X9_array_p44 E L Q x2 x3 w) : kzE E L kt_M19 44 [(0, .ref (w_adr E.2.1 8 0)), (2, .int x2), (3, va_rf (x3))] [] w Q := by
  unfold zb_X9_array_p44 at h
  refine kz_aload_nv (M := kt_M19) (x := x3) kX9_array_c2.2.2.2.2.2.1 rfl ?_
  refine kz_ifnull (M := kt_M19) (x := x3) kX9_array_c2.2.2.2.2.2.2.1 (t := 64) rfl h (fun h => ?_) (fun h => ?_)
  · skip
    refine kz_aload_n (M := kt_M19) kX9_array_c3.2.2.2.2.2.2.2.1 rfl ?_
    refine kz_bi (M := kt_M19) 13 kX9_array_c4.1 rfl ?_
    refine kz_iload_n (M := kt_M19) kX9_array_c4.2.1 rfl ?_
    refine kz_cv0 (M := kt_M19) (c := 8) (o := 0) (As := [.int 13, .int x2]) (rest := []) kX9_array_c4.2.2.1 wl_X9_42 wMv_25 rfl (.inl rfl) rfl (Nat.le_trans (Nat.le_of_ble_eq_true rfl) hL) (Nat.le_of_ble_eq_true rfl) (Nat.le_of_ble_eq_true rfl) h (fun w1 hle h => ?_) (fun _ _ _ h => kzx_no rfl h)
    have h := h hle
    refine kz_goto (M := kt_M19) kX9_array_c4.2.2.2.1 (t := 82) rfl ?_
    exact kz_weak [(0, .ref (w_adr E.2.1 8 0))] ⟨rfl, trivial⟩ rfl (zt_X9_array_p82 hL  h)
  · skip
    refine kz_aload_n (M := kt_M19) kX9_array_c2.2.2.2.2.2.2.2.1 rfl ?_
    refine kz_aload_nv (M := kt_M19) (x := x3) kX9_array_c3.1 rfl ?_
    refine kz_cv0 (M := kt_M19) (c := 8) (o := 0) (As := [va_rf (x3)]) (rest := []) kX9_array_c3.2.1 wl_X9_200 wMv_27 rfl (.inl rfl) rfl (Nat.le_trans (Nat.le_of_ble_eq_true rfl) hL) (by simp [lg_sl, w_cat, z_ci, z_cr, z_cl, z_cn, kt_M27]) (Nat.le_of_ble_eq_true rfl) h (fun w3 hle h => ?_) (fun _ _ _ h => kzx_no rfl h)
    have h := h hle
    refine kz_inc (M := kt_M19) [(0, .ref (w_adr E.2.1 8 0)), (3, va_rf (x3))] kX9_array_c3.2.2.1 rfl (Nat.le_of_ble_eq_true rfl) ⟨⟨rfl, rfl, .inl rfl⟩, ⟨⟨rfl, rfl, .inl rfl⟩, trivial⟩⟩ rfl ?_
    refine kz_aload_nv (M := kt_M19) (x := x3) kX9_array_c3.2.2.2.1 rfl ?_
    obtain ⟨p5, hxp5, hlp5, h⟩ := h
    refine kz_nz0 (x := x3) hxp5 ?_
    refine kz_gfp (M := kt_M19) (c := 14) (o := p5) kX9_array_c3.2.2.2.2.1 wf_X9_129 (.inr (by exact hlp5)) ?_
    refine kz_stv_n (M := kt_M19) (x := w_p w3 14 p5 7) [(0, .ref (w_adr E.2.1 8 0)), (2, .int (x2 + 1))] kX9_array_c3.2.2.2.2.2.1 (Nat.le_of_ble_eq_true rfl) ⟨⟨rfl, rfl, .inl rfl⟩, ⟨⟨rfl, rfl, .inr rfl⟩, trivial⟩⟩ rfl ?_
    refine kz_goto (M := kt_M19) kX9_array_c3.2.2.2.2.2.2.1 (t := 44) rfl ?_
    exact kz_weak [(0, .ref (w_adr E.2.1 8 0)), (2, .int (x2 + 1)), (3, va_rf (w_p w3 14 p5 7))] ⟨rfl, ⟨rfl, ⟨rfl, trivial⟩⟩⟩ rfl h
def zb_X9_array_p0 (E : zE) (L : Nat) (Q : kx_Rs → wS → Prop) (x1 : Option Nat) (w : wS) : Prop := (∃ p1, x1 = some p1 ∧ w_l w E.2.1 14 p1 ∧ (if ¬ w_p w 14 p1 0 = some (E.1.1 16) then (if ¬ w_p w 14 p1 0 = some (E.1.1 22) then zw E (L - 21) kt_M42 [.ref (w_adr E.2.1 8 0), va_rf (w_p w 14 p1 16)] w (wk0 (fun w2 => wle w w2 → zb_X9_array_p82 E L Q w2) (fun e w => Q (.inr e) w)) else zL_X9_array_p44 E L Q 0 (w_p w 14 p1 3) w) else zw E (L - 23) kt_M26 [.ref (w_adr E.2.1 8 0), .int 12, .int (w_i w 14 p1 10), .int (w_i w 14 p1 18)] w (wk0 (fun w4 => wle w w4 → zb_X9_array_p82 E L Q w4) (fun e w => Q (.inr e) w))))
theorem zt_X9_array_p0 {E : zE} {L : Nat} {Q : kx_Rs → wS → Prop} {x1 : Option Nat} {w : wS} (hL : 23 ≤ L) (h : zb_X9_array_p0 E L Q x1 w) : kzE E L kt_M19 0 [(0, .ref (w_adr E.2.1 8 0)), (1, va_rf (x1))] [] w Q := by
  unfold zb_X9_array_p0 at h
  refine kz_aload_nv (M := kt_M19) (x := x1) kX9_array_c0.1 rfl ?_
  obtain ⟨p1, hxp1, hlp1, h⟩ := h
  refine kz_nz0 (x := x1) hxp1 ?_
  refine kz_gfp (M := kt_M19) (c := 14) (o := p1) kX9_array_c0.2.1 wf_X9_103 (.inr (by exact hlp1)) ?_
  refine kz_getsE (M := kt_M19) (v := va_rf (some (E.1.1 16))) kX9_array_c0.2.2.1 zs_X9_341 ?_
  refine kz_acmp_ne (M := kt_M19) (x := w_p w 14 p1 0) (y := some (E.1.1 16)) kX9_array_c0.2.2.2.1 (t := 27) rfl h (fun h => ?_) (fun h => ?_)
  · skip
    refine kz_aload_nv (M := kt_M19) (x := x1) kX9_array_c1.2.2.2.2.1 rfl ?_
    refine kz_nz0 (x := x1) hxp1 ?_
    refine kz_gfp (M := kt_M19) (c := 14) (o := p1) kX9_array_c1.2.2.2.2.2.1 wf_X9_103 (.inr (by exact hlp1)) ?_
    refine kz_getsE (M := kt_M19) (v := va_rf (some (E.1.1 22))) kX9_array_c1.2.2.2.2.2.2.1 zs_X9_344 ?_
    refine kz_acmp_ne (M := kt_M19) (x := w_p w 14 p1 0) (y := some (E.1.1 22)) kX9_array_c1.2.2.2.2.2.2.2.1 (t := 74) rfl h (fun h => ?_) (fun h => ?_)
    · skip
      refine kz_aload_n (M := kt_M19) kX9_array_c4.2.2.2.2.1 rfl ?_
      refine kz_aload_nv (M := kt_M19) (x := x1) kX9_array_c4.2.2.2.2.2.1 rfl ?_
      refine kz_nz0 (x := x1) hxp1 ?_
      refine kz_gfp (M := kt_M19) (c := 14) (o := p1) kX9_array_c4.2.2.2.2.2.2.1 wf_X9_115 (.inr (by exact hlp1)) ?_
      refine kz_cv0 (M := kt_M19) (c := 8) (o := 0) (As := [va_rf (w_p w 14 p1 16)]) (rest := []) kX9_array_c4.2.2.2.2.2.2.2.1 wl_X9_175 wMv_42 rfl (.inl rfl) rfl (Nat.le_trans (Nat.le_of_ble_eq_true rfl) hL) (by simp [lg_sl, w_cat, z_ci, z_cr, z_cl, z_cn, kt_M42]) (Nat.le_of_ble_eq_true rfl) h (fun w2 hle h => ?_) (fun _ _ _ h => kzx_no rfl h)
      have h := h hle
      have hlp1 := w_l_le hlp1 hle
      exact kz_weak [(0, .ref (w_adr E.2.1 8 0))] ⟨rfl, trivial⟩ rfl (zt_X9_array_p82 hL  h)
    · skip
      refine kz_ic (M := kt_M19) 0 kX9_array_c2.1 rfl ?_
      refine kz_sti_n (M := kt_M19) [(0, .ref (w_adr E.2.1 8 0)), (1, va_rf (x1))] kX9_array_c2.2.1 (Nat.le_of_ble_eq_true rfl) ⟨⟨rfl, rfl, .inl rfl⟩, ⟨⟨rfl, rfl, .inr (w_cat (x1))⟩, trivial⟩⟩ rfl ?_
      refine kz_aload_nv (M := kt_M19) (x := x1) kX9_array_c2.2.2.1 rfl ?_
      refine kz_nz0 (x := x1) hxp1 ?_
      refine kz_gfp (M := kt_M19) (c := 14) (o := p1) kX9_array_c2.2.2.2.1 wf_X9_93 (.inr (by exact hlp1)) ?_
      refine kz_stv_n (M := kt_M19) (x := w_p w 14 p1 3) [(0, .ref (w_adr E.2.1 8 0)), (2, .int 0)] kX9_array_c2.2.2.2.2.1 (Nat.le_of_ble_eq_true rfl) ⟨⟨rfl, rfl, .inl rfl⟩, ⟨⟨rfl, rfl, .inr rfl⟩, trivial⟩⟩ rfl ?_
      exact kz_weak [(0, .ref (w_adr E.2.1 8 0)), (2, .int 0), (3, va_rf (w_p w 14 p1 3))] ⟨rfl, ⟨rfl, ⟨rfl, trivial⟩⟩⟩ rfl h
  · skip
    refine kz_aload_n (M := kt_M19) kX9_array_c0.2.2.2.2.1 rfl ?_
    refine kz_bi (M := kt_M19) 12 kX9_array_c0.2.2.2.2.2.1 rfl ?_
    refine kz_aload_nv (M := kt_M19) (x := x1) kX9_array_c0.2.2.2.2.2.2.1 rfl ?_
    refine kz_nz0 (x := x1) hxp1 ?_
    refine kz_gfi (M := kt_M19) (c := 14) (o := p1) kX9_array_c0.2.2.2.2.2.2.2.1 wf_X9_318 (.inr (by exact hlp1)) ?_
    refine kz_aload_nv (M := kt_M19) (x := x1) kX9_array_c1.1 rfl ?_
    refine kz_nz0 (x := x1) hxp1 ?_
    refine kz_gfi (M := kt_M19) (c := 14) (o := p1) kX9_array_c1.2.1 wf_X9_295 (.inr (by exact hlp1)) ?_
    refine kz_cv0 (M := kt_M19) (c := 8) (o := 0) (As := [.int 12, .int (w_i w 14 p1 10), .int (w_i w 14 p1 18)]) (rest := []) kX9_array_c1.2.2.1 wl_X9_154 wMv_26 rfl (.inl rfl) rfl (Nat.le_trans (Nat.le_of_ble_eq_true rfl) hL) (Nat.le_of_ble_eq_true rfl) (Nat.le_of_ble_eq_true rfl) h (fun w4 hle h => ?_) (fun _ _ _ h => kzx_no rfl h)
    have h := h hle
    have hlp1 := w_l_le hlp1 hle
    refine kz_goto (M := kt_M19) kX9_array_c1.2.2.2.1 (t := 82) rfl ?_
    exact kz_weak [(0, .ref (w_adr E.2.1 8 0))] ⟨rfl, trivial⟩ rfl (zt_X9_array_p82 hL  h)
def zL_X9_expression_p175 (E : zE) (L : Nat) (Q : kx_Rs → wS → Prop) (x1 : Option Nat) (x2 : Int32) (x3 : Option Nat) (w : wS) : Prop := kzE E L kt_M27 175 [(0, .ref (w_adr E.2.1 8 0)), (1, va_rf (x1)), (2, .int x2), (3, va_rf (x3))] [] w Q
def zb_X9_expression_p304 (E : zE) (L : Nat) (Q : kx_Rs → wS → Prop) (w : wS) : Prop := Q (.inl none) w
theorem zt_X9_expression_p304 {E : zE} {L : Nat} {Q : kx_Rs → wS → Prop} {w : wS} (hL : 23 ≤ L) (h : zb_X9_expression_p304 E L Q  w) : kzE E L kt_M27 304 [(0, .ref (w_adr E.2.1 8 0))] [] w Q := by
  unfold zb_X9_expression_p304 at h
  exact kz_ret (M := kt_M27) kX9_expression_c15.2.2.2.2.2.2.1 rfl h
def zb_X9_expression_p299 (E : zE) (L : Nat) (Q : kx_Rs → wS → Prop) (w : wS) : Prop := zw E (L - 21) kt_M24 [.ref (w_adr E.2.1 8 0), .int 4] w (wk0 (fun w1 => wle w w1 → zb_X9_expression_p304 E L Q w1) (fun e w => Q (.inr e) w))
theorem zt_X9_expression_p299 {E : zE} {L : Nat} {Q : kx_Rs → wS → Prop} {w : wS} (hL : 23 ≤ L) (h : zb_X9_expression_p299 E L Q  w) : kzE E L kt_M27 299 [(0, .ref (w_adr E.2.1 8 0))] [] w Q := by
  unfold zb_X9_expression_p299 at h
  refine kz_aload_n (M := kt_M27) kX9_expression_c15.2.2.2.1 rfl ?_
  refine kz_ic (M := kt_M27) 4 kX9_expression_c15.2.2.2.2.1 rfl ?_
  refine kz_cv0 (M := kt_M27) (c := 8) (o := 0) (As := [.int 4]) (rest := []) kX9_expression_c15.2.2.2.2.2.1 wl_X9_137 wMv_24 rfl (.inl rfl) rfl (Nat.le_trans (Nat.le_of_ble_eq_true rfl) hL) (Nat.le_of_ble_eq_true rfl) (Nat.le_of_ble_eq_true rfl) h (fun w1 hle h => ?_) (fun _ _ _ h => kzx_no rfl h)
  have h := h hle
  exact kz_weak [(0, .ref (w_adr E.2.1 8 0))] ⟨rfl, trivial⟩ rfl (zt_X9_expression_p304 hL  h)
def zb_X9_expression_p294 (E : zE) (L : Nat) (Q : kx_Rs → wS → Prop) (x1 : Option Nat) (w : wS) : Prop := zw E (L - 22) kt_M44 [.ref (w_adr E.2.1 8 0), va_rf (x1)] w (wk0 (fun w1 => wle w w1 → zb_X9_expression_p299 E L Q w1) (fun e w => Q (.inr e) w))
theorem zt_X9_expression_p294 {E : zE} {L : Nat} {Q : kx_Rs → wS → Prop} {x1 : Option Nat} {w : wS} (hL : 23 ≤ L) (h : zb_X9_expression_p294 E L Q x1 w) : kzE E L kt_M27 294 [(0, .ref (w_adr E.2.1 8 0)), (1, va_rf (x1))] [] w Q := by
  unfold zb_X9_expression_p294 at h
  refine kz_aload_n (M := kt_M27) kX9_expression_c15.1 rfl ?_
  refine kz_aload_nv (M := kt_M27) (x := x1) kX9_expression_c15.2.1 rfl ?_
  refine kz_cv0 (M := kt_M27) (c := 8) (o := 0) (As := [va_rf (x1)]) (rest := []) kX9_expression_c15.2.2.1 wl_X9_179 wMv_44 rfl (.inl rfl) rfl (Nat.le_trans (Nat.le_of_ble_eq_true rfl) hL) (by simp [lg_sl, w_cat, z_ci, z_cr, z_cl, z_cn, kt_M44]) (Nat.le_of_ble_eq_true rfl) h (fun w1 hle h => ?_) (fun _ _ _ h => kzx_no rfl h)
  have h := h hle
  exact kz_weak [(0, .ref (w_adr E.2.1 8 0))] ⟨rfl, trivial⟩ rfl (zt_X9_expression_p299 hL  h)
def zb_X9_expression_p175 (E : zE) (L : Nat) (Q : kx_Rs → wS → Prop) (x1 : Option Nat) (x2 : Int32) (x3 : Option Nat) (w : wS) : Prop := (if x3 = none then (∃ p1, x1 = some p1 ∧ w_l w E.2.1 14 p1 ∧ zw E (L - 23) kt_M26 [.ref (w_adr E.2.1 8 0), .int 10, .int x2, .int (w_i w 14 p1 8)] w (wk0 (fun w2 => wle w w2 → zb_X9_expression_p304 E L Q w2) (fun e w => Q (.inr e) w))) else zw E (L - 23) kt_M27 [.ref (w_adr E.2.1 8 0), va_rf (x3)] w (wk0 (fun w4 => wle w w4 → (∃ p6, x3 = some p6 ∧ w_l w4 E.2.1 14 p6 ∧ zL_X9_expression_p175 E L Q x1 (x2 + 1) (w_p w4 14 p6 7) w4)) (fun e w => Q (.inr e) w)))
theorem zt_X9_expression_p175 {E : zE} {L : Nat} {Q : kx_Rs → wS → Prop} {x1 : Option Nat} {x2 : Int32} {x3 : Option Nat} {w : wS} (hL : 23 ≤ L) (h : zb_X9_expression_p175 E L Q x1 x2 x3 w) : kzE E L kt_M27 175 [(0, .ref (w_adr E.2.1 8 0)), (1, va_rf (x1)), (2, .int x2), (3, va_rf (x3))] [] w Q := by
  unfold zb_X9_expression_p175 at h
  refine kz_aload_nv (M := kt_M27) (x := x3) kX9_expression_c8.2.1 rfl ?_
  refine kz_ifnull (M := kt_M27) (x := x3) kX9_expression_c8.2.2.1 (t := 195) rfl h (fun h => ?_) (fun h => ?_)
  · skip
    refine kz_aload_n (M := kt_M27) kX9_expression_c9.2.2.2.1 rfl ?_
    refine kz_bi (M := kt_M27) 10 kX9_expression_c9.2.2.2.2.1 rfl ?_
    refine kz_iload_n (M := kt_M27) kX9_expression_c9.2.2.2.2.2.1 rfl ?_
    refine kz_aload_nv (M := kt_M27) (x := x1) kX9_expression_c9.2.2.2.2.2.2.1 rfl ?_
    obtain ⟨p1, hxp1, hlp1, h⟩ := h
    refine kz_nz0 (x := x1) hxp1 ?_
    refine kz_gfi (M := kt_M27) (c := 14) (o := p1) kX9_expression_c9.2.2.2.2.2.2.2.1 wf_X9_348 (.inr (by exact hlp1)) ?_
    refine kz_cv0 (M := kt_M27) (c := 8) (o := 0) (As := [.int 10, .int x2, .int (w_i w 14 p1 8)]) (rest := []) kX9_expression_c10.1 wl_X9_154 wMv_26 rfl (.inl rfl) rfl (Nat.le_trans (Nat.le_of_ble_eq_true rfl) hL) (Nat.le_of_ble_eq_true rfl) (Nat.le_of_ble_eq_true rfl) h (fun w2 hle h => ?_) (fun _ _ _ h => kzx_no rfl h)
    have h := h hle
    have hlp1 := w_l_le hlp1 hle
    refine kz_goto (M := kt_M27) kX9_expression_c10.2.1 (t := 304) rfl ?_
    exact kz_weak [(0, .ref (w_adr E.2.1 8 0))] ⟨rfl, trivial⟩ rfl (zt_X9_expression_p304 hL  h)
  · skip
    refine kz_aload_n (M := kt_M27) kX9_expression_c8.2.2.2.1 rfl ?_
    refine kz_aload_nv (M := kt_M27) (x := x3) kX9_expression_c8.2.2.2.2.1 rfl ?_
    refine kz_cv0 (M := kt_M27) (c := 8) (o := 0) (As := [va_rf (x3)]) (rest := []) kX9_expression_c8.2.2.2.2.2.1 wl_X9_200 wMv_27 rfl (.inl rfl) rfl (Nat.le_trans (Nat.le_of_ble_eq_true rfl) hL) (by simp [lg_sl, w_cat, z_ci, z_cr, z_cl, z_cn, kt_M27]) (Nat.le_of_ble_eq_true rfl) h (fun w4 hle h => ?_) (fun _ _ _ h => kzx_no rfl h)
    have h := h hle
    refine kz_inc (M := kt_M27) [(0, .ref (w_adr E.2.1 8 0)), (1, va_rf (x1)), (3, va_rf (x3))] kX9_expression_c8.2.2.2.2.2.2.1 rfl (Nat.le_of_ble_eq_true rfl) ⟨⟨rfl, rfl, .inl rfl⟩, ⟨⟨rfl, rfl, .inr (w_cat (x1))⟩, ⟨⟨rfl, rfl, .inl rfl⟩, trivial⟩⟩⟩ rfl ?_
    refine kz_aload_nv (M := kt_M27) (x := x3) kX9_expression_c8.2.2.2.2.2.2.2.1 rfl ?_
    obtain ⟨p6, hxp6, hlp6, h⟩ := h
    refine kz_nz0 (x := x3) hxp6 ?_
    refine kz_gfp (M := kt_M27) (c := 14) (o := p6) kX9_expression_c9.1 wf_X9_129 (.inr (by exact hlp6)) ?_
    refine kz_stv_n (M := kt_M27) (x := w_p w4 14 p6 7) [(0, .ref (w_adr E.2.1 8 0)), (1, va_rf (x1)), (2, .int (x2 + 1))] kX9_expression_c9.2.1 (Nat.le_of_ble_eq_true rfl) ⟨⟨rfl, rfl, .inl rfl⟩, ⟨⟨rfl, rfl, .inl rfl⟩, ⟨⟨rfl, rfl, .inr rfl⟩, trivial⟩⟩⟩ rfl ?_
    refine kz_goto (M := kt_M27) kX9_expression_c9.2.2.1 (t := 175) rfl ?_
    exact kz_weak [(0, .ref (w_adr E.2.1 8 0)), (1, va_rf (x1)), (2, .int (x2 + 1)), (3, va_rf (w_p w4 14 p6 7))] ⟨rfl, ⟨rfl, ⟨rfl, ⟨rfl, trivial⟩⟩⟩⟩ rfl h
def zb_X9_expression_p0 (E : zE) (L : Nat) (Q : kx_Rs → wS → Prop) (x1 : Option Nat) (w : wS) : Prop := (∃ p1, x1 = some p1 ∧ w_l w E.2.1 14 p1 ∧ (if w_i w 14 p1 21 = 0 then (∃ i2, zO E "MeetingHouse$Kind" (w_p w 14 p1 0) i2 ∧ (if (kw_on i2) = 37 then zw E (L - 23) kt_M27 [.ref (w_adr E.2.1 8 0), va_rf (w_p w 14 p1 3)] w (wk0 (fun w3 => wle w w3 → zw E (L - 22) kt_M25 [.ref (w_adr E.2.1 8 0), .int 11, .int (w_i w3 14 p1 8)] w3 (wk0 (fun w5 => wle w3 w5 → zb_X9_expression_p304 E L Q w5) (fun e w => Q (.inr e) w))) (fun e w => Q (.inr e) w)) else (if (kw_on i2) = 40 then zw E (L - 23) kt_M18 [.ref (w_adr E.2.1 8 0), va_rf (x1)] w (wk0 (fun w7 => wle w w7 → (∃ p9, w_p w7 14 p1 16 = some p9 ∧ w_l w7 E.2.1 15 p9 ∧ (∃ p10, w_p w7 15 p9 20 = some p10 ∧ w_l w7 E.2.1 16 p10 ∧ (∃ p11, w_p w7 8 0 7 = some p11 ∧ w_l w7 E.2.1 16 p11 ∧ zw E (L - 23) kt_M26 [.ref (w_adr E.2.1 8 0), .int 45, .int (w_i w7 16 p10 4), .int (((w_i w7 16 p11 1) - (w_i w7 16 p10 1)) + 1)] w7 (wk0 (fun w12 => wle w7 w12 → zb_X9_expression_p304 E L Q w12) (fun e w => Q (.inr e) w)))))) (fun e w => Q (.inr e) w)) else (if (kw_on i2) = 41 then (if ¬ w_i w 14 p1 8 = 27 then zw E (L - 23) kt_M27 [.ref (w_adr E.2.1 8 0), va_rf (w_p w 14 p1 3)] w (wk0 (fun w14 => wle w w14 → zw E (L - 22) kt_M25 [.ref (w_adr E.2.1 8 0), .int 8, .int (w_i w14 14 p1 8)] w14 (wk0 (fun w16 => wle w14 w16 → zb_X9_expression_p304 E L Q w16) (fun e w => Q (.inr e) w))) (fun e w => Q (.inr e) w)) else (∃ p18, w_p w 14 p1 3 = some p18 ∧ w_l w E.2.1 14 p18 ∧ zw E (L - 21) kt_M42 [.ref (w_adr E.2.1 8 0), va_rf (w_p w 14 p18 16)] w (wk0 (fun w19 => wle w w19 → zw E (L - 21) kt_M24 [.ref (w_adr E.2.1 8 0), .int 14] w19 (wk0 (fun w21 => wle w19 w21 → zb_X9_expression_p304 E L Q w21) (fun e w => Q (.inr e) w))) (fun e w => Q (.inr e) w)))) else (if (kw_on i2) = 42 then zw E (L - 23) kt_M27 [.ref (w_adr E.2.1 8 0), va_rf (w_p w 14 p1 3)] w (wk0 (fun w23 => wle w w23 → zw E (L - 23) kt_M27 [.ref (w_adr E.2.1 8 0), va_rf (w_p w23 14 p1 4)] w23 (wk0 (fun w25 => wle w23 w25 → zw E (L - 22) kt_M25 [.ref (w_adr E.2.1 8 0), .int 9, .int (w_i w25 14 p1 8)] w25 (wk0 (fun w27 => wle w25 w27 → zb_X9_expression_p304 E L Q w27) (fun e w => Q (.inr e) w))) (fun e w => Q (.inr e) w))) (fun e w => Q (.inr e) w)) else (if (kw_on i2) = 43 then zL_X9_expression_p175 E L Q x1 0 (w_p w 14 p1 3) w else (∃ p29, w_p w 14 p1 16 = some p29 ∧ w_l w E.2.1 15 p29 ∧ (if ¬ w_p w 15 p29 0 = some (E.1.1 55) then zb_X9_expression_p294 E L Q x1 w else (if ¬ (w_p w 14 p1 3) = none then zb_X9_expression_p294 E L Q x1 w else zw E (L - 22) kt_M36 [.ref (w_adr E.2.1 8 0), va_rf (w_p w 15 p29 20), .int (w_i w 15 p29 21)] w (wk0 (fun w30 => wle w w30 → zb_X9_expression_p299 E L Q w30) (fun e w => Q (.inr e) w))))))))))) else zw E (L - 22) kt_M25 [.ref (w_adr E.2.1 8 0), .int 2, .int (w_i w 14 p1 19)] w (wk0 (fun w32 => wle w w32 → Q (.inl none) w32) (fun e w => Q (.inr e) w))))
theorem zt_X9_expression_p0 {E : zE} {L : Nat} {Q : kx_Rs → wS → Prop} {x1 : Option Nat} {w : wS} (hL : 23 ≤ L) (h : zb_X9_expression_p0 E L Q x1 w) : kzE E L kt_M27 0 [(0, .ref (w_adr E.2.1 8 0)), (1, va_rf (x1))] [] w Q := by
  unfold zb_X9_expression_p0 at h
  refine kz_aload_nv (M := kt_M27) (x := x1) kX9_expression_c0.1 rfl ?_
  obtain ⟨p1, hxp1, hlp1, h⟩ := h
  refine kz_nz0 (x := x1) hxp1 ?_
  refine kz_gfi (M := kt_M27) (c := 14) (o := p1) kX9_expression_c0.2.1 wf_X9_347 (.inr (by exact hlp1)) ?_
  refine kz_if_eq (M := kt_M27) kX9_expression_c0.2.2.1 (t := 17) rfl h (fun h => ?_) (fun h => ?_)
  · skip
    refine kz_aload_nv (M := kt_M27) (x := x1) kX9_expression_c1.2.1 rfl ?_
    refine kz_nz0 (x := x1) hxp1 ?_
    refine kz_gfp (M := kt_M27) (c := 14) (o := p1) kX9_expression_c1.2.2.1 wf_X9_103 (.inr (by exact hlp1)) ?_
    obtain ⟨i2, ho, h⟩ := h
    refine kz_ord (M := kt_M27) (x := w_p w 14 p1 0) (i := i2) (C := "MeetingHouse$Kind") kX9_expression_c1.2.2.2.1 zo_l_X9 zo_m_X9 zo_s_Kind zo_u_X9 (Nat.le_trans (Nat.le_of_ble_eq_true rfl) hL) (Nat.le_of_ble_eq_true rfl) ho ?_
    refine kz_tsw (M := kt_M27) [(37, 68), (40, 209), (41, 89), (42, 139), (43, 168)] [_, _, _, _, _] 253 dX9_expression_p24 (by decide +kernel) h ⟨fun h => ?_, fun h => ?_, fun h => ?_, fun h => ?_, fun h => ?_, trivial⟩ (fun h => ?_)
    · skip
      refine kz_aload_n (M := kt_M27) kX9_expression_c1.2.2.2.2.2.1 rfl ?_
      refine kz_aload_nv (M := kt_M27) (x := x1) kX9_expression_c1.2.2.2.2.2.2.1 rfl ?_
      refine kz_nz0 (x := x1) hxp1 ?_
      refine kz_gfp (M := kt_M27) (c := 14) (o := p1) kX9_expression_c1.2.2.2.2.2.2.2.1 wf_X9_93 (.inr (by exact hlp1)) ?_
      refine kz_cv0 (M := kt_M27) (c := 8) (o := 0) (As := [va_rf (w_p w 14 p1 3)]) (rest := []) kX9_expression_c2.1 wl_X9_200 wMv_27 rfl (.inl rfl) rfl (Nat.le_trans (Nat.le_of_ble_eq_true rfl) hL) (by simp [lg_sl, w_cat, z_ci, z_cr, z_cl, z_cn, kt_M27]) (Nat.le_of_ble_eq_true rfl) h (fun w3 hle h => ?_) (fun _ _ _ h => kzx_no rfl h)
      have h := h hle
      have hlp1 := w_l_le hlp1 hle
      refine kz_aload_n (M := kt_M27) kX9_expression_c2.2.1 rfl ?_
      refine kz_bi (M := kt_M27) 11 kX9_expression_c2.2.2.1 rfl ?_
      refine kz_aload_nv (M := kt_M27) (x := x1) kX9_expression_c2.2.2.2.1 rfl ?_
      refine kz_nz0 (x := x1) hxp1 ?_
      refine kz_gfi (M := kt_M27) (c := 14) (o := p1) kX9_expression_c2.2.2.2.2.1 wf_X9_348 (.inr (by exact hlp1)) ?_
      refine kz_cv0 (M := kt_M27) (c := 8) (o := 0) (As := [.int 11, .int (w_i w3 14 p1 8)]) (rest := []) kX9_expression_c2.2.2.2.2.2.1 wl_X9_42 wMv_25 rfl (.inl rfl) rfl (Nat.le_trans (Nat.le_of_ble_eq_true rfl) hL) (Nat.le_of_ble_eq_true rfl) (Nat.le_of_ble_eq_true rfl) h (fun w5 hle h => ?_) (fun _ _ _ h => kzx_no rfl h)
      have h := h hle
      have hlp1 := w_l_le hlp1 hle
      refine kz_goto (M := kt_M27) kX9_expression_c2.2.2.2.2.2.2.1 (t := 304) rfl ?_
      exact kz_weak [(0, .ref (w_adr E.2.1 8 0))] ⟨rfl, trivial⟩ rfl (zt_X9_expression_p304 hL  h)
    · skip
      refine kz_aload_n (M := kt_M27) kX9_expression_c10.2.2.1 rfl ?_
      refine kz_aload_nv (M := kt_M27) (x := x1) kX9_expression_c10.2.2.2.1 rfl ?_
      refine kz_cv0 (M := kt_M27) (c := 8) (o := 0) (As := [va_rf (x1)]) (rest := []) kX9_expression_c10.2.2.2.2.1 wl_X9_263 wMv_18 rfl (.inl rfl) rfl (Nat.le_trans (Nat.le_of_ble_eq_true rfl) hL) (by simp [lg_sl, w_cat, z_ci, z_cr, z_cl, z_cn, kt_M18]) (Nat.le_of_ble_eq_true rfl) h (fun w7 hle h => ?_) (fun _ _ _ h => kzx_no rfl h)
      have h := h hle
      have hlp1 := w_l_le hlp1 hle
      refine kz_aload_n (M := kt_M27) kX9_expression_c10.2.2.2.2.2.1 rfl ?_
      refine kz_bi (M := kt_M27) 45 kX9_expression_c10.2.2.2.2.2.2.1 rfl ?_
      refine kz_aload_nv (M := kt_M27) (x := x1) kX9_expression_c10.2.2.2.2.2.2.2.1 rfl ?_
      refine kz_nz0 (x := x1) hxp1 ?_
      refine kz_gfp (M := kt_M27) (c := 14) (o := p1) kX9_expression_c11.1 wf_X9_115 (.inr (by exact hlp1)) ?_
      obtain ⟨p9, hxp9, hlp9, h⟩ := h
      refine kz_nz0 (x := w_p w7 14 p1 16) hxp9 ?_
      refine kz_gfp (M := kt_M27) (c := 15) (o := p9) kX9_expression_c11.2.1 wf_X9_145 (.inr (by exact hlp9)) ?_
      obtain ⟨p10, hxp10, hlp10, h⟩ := h
      refine kz_nz0 (x := w_p w7 15 p9 20) hxp10 ?_
      refine kz_gfi (M := kt_M27) (c := 16) (o := p10) kX9_expression_c11.2.2.1 wf_X9_63 (.inr (by exact hlp10)) ?_
      refine kz_aload_n (M := kt_M27) kX9_expression_c11.2.2.2.1 rfl ?_
      refine kz_gfp (M := kt_M27) (c := 8) (o := 0) kX9_expression_c11.2.2.2.2.1 wf_X9_88 (.inl rfl) ?_
      obtain ⟨p11, hxp11, hlp11, h⟩ := h
      refine kz_nz0 (x := w_p w7 8 0 7) hxp11 ?_
      refine kz_gfi (M := kt_M27) (c := 16) (o := p11) kX9_expression_c11.2.2.2.2.2.1 wf_X9_151 (.inr (by exact hlp11)) ?_
      refine kz_aload_nv (M := kt_M27) (x := x1) kX9_expression_c11.2.2.2.2.2.2.1 rfl ?_
      refine kz_nz0 (x := x1) hxp1 ?_
      refine kz_gfp (M := kt_M27) (c := 14) (o := p1) kX9_expression_c11.2.2.2.2.2.2.2.1 wf_X9_115 (.inr (by exact hlp1)) ?_
      refine kz_nz0 (x := w_p w7 14 p1 16) hxp9 ?_
      refine kz_gfp (M := kt_M27) (c := 15) (o := p9) kX9_expression_c12.1 wf_X9_145 (.inr (by exact hlp9)) ?_
      refine kz_nz0 (x := w_p w7 15 p9 20) hxp10 ?_
      refine kz_gfi (M := kt_M27) (c := 16) (o := p10) kX9_expression_c12.2.1 wf_X9_151 (.inr (by exact hlp10)) ?_
      refine kz_isub (M := kt_M27) kX9_expression_c12.2.2.1 ?_
      refine kz_ic (M := kt_M27) 1 kX9_expression_c12.2.2.2.1 rfl ?_
      refine kz_iadd (M := kt_M27) kX9_expression_c12.2.2.2.2.1 ?_
      refine kz_cv0 (M := kt_M27) (c := 8) (o := 0) (As := [.int 45, .int (w_i w7 16 p10 4), .int (((w_i w7 16 p11 1) - (w_i w7 16 p10 1)) + 1)]) (rest := []) kX9_expression_c12.2.2.2.2.2.1 wl_X9_154 wMv_26 rfl (.inl rfl) rfl (Nat.le_trans (Nat.le_of_ble_eq_true rfl) hL) (Nat.le_of_ble_eq_true rfl) (Nat.le_of_ble_eq_true rfl) h (fun w12 hle h => ?_) (fun _ _ _ h => kzx_no rfl h)
      have h := h hle
      have hlp1 := w_l_le hlp1 hle
      have hlp10 := w_l_le hlp10 hle
      have hlp11 := w_l_le hlp11 hle
      have hlp9 := w_l_le hlp9 hle
      refine kz_goto (M := kt_M27) kX9_expression_c12.2.2.2.2.2.2.1 (t := 304) rfl ?_
      exact kz_weak [(0, .ref (w_adr E.2.1 8 0))] ⟨rfl, trivial⟩ rfl (zt_X9_expression_p304 hL  h)
    · skip
      refine kz_aload_nv (M := kt_M27) (x := x1) kX9_expression_c2.2.2.2.2.2.2.2.1 rfl ?_
      refine kz_nz0 (x := x1) hxp1 ?_
      refine kz_gfi (M := kt_M27) (c := 14) (o := p1) kX9_expression_c3.1 wf_X9_348 (.inr (by exact hlp1)) ?_
      refine kz_bi (M := kt_M27) 27 kX9_expression_c3.2.1 rfl ?_
      refine kz_icmp_ne (M := kt_M27) kX9_expression_c3.2.2.1 (t := 118) rfl h (fun h => ?_) (fun h => ?_)
      · skip
        refine kz_aload_n (M := kt_M27) kX9_expression_c4.2.2.2.2.1 rfl ?_
        refine kz_aload_nv (M := kt_M27) (x := x1) kX9_expression_c4.2.2.2.2.2.1 rfl ?_
        refine kz_nz0 (x := x1) hxp1 ?_
        refine kz_gfp (M := kt_M27) (c := 14) (o := p1) kX9_expression_c4.2.2.2.2.2.2.1 wf_X9_93 (.inr (by exact hlp1)) ?_
        refine kz_cv0 (M := kt_M27) (c := 8) (o := 0) (As := [va_rf (w_p w 14 p1 3)]) (rest := []) kX9_expression_c4.2.2.2.2.2.2.2.1 wl_X9_200 wMv_27 rfl (.inl rfl) rfl (Nat.le_trans (Nat.le_of_ble_eq_true rfl) hL) (by simp [lg_sl, w_cat, z_ci, z_cr, z_cl, z_cn, kt_M27]) (Nat.le_of_ble_eq_true rfl) h (fun w14 hle h => ?_) (fun _ _ _ h => kzx_no rfl h)
        have h := h hle
        have hlp1 := w_l_le hlp1 hle
        refine kz_aload_n (M := kt_M27) kX9_expression_c5.1 rfl ?_
        refine kz_bi (M := kt_M27) 8 kX9_expression_c5.2.1 rfl ?_
        refine kz_aload_nv (M := kt_M27) (x := x1) kX9_expression_c5.2.2.1 rfl ?_
        refine kz_nz0 (x := x1) hxp1 ?_
        refine kz_gfi (M := kt_M27) (c := 14) (o := p1) kX9_expression_c5.2.2.2.1 wf_X9_348 (.inr (by exact hlp1)) ?_
        refine kz_cv0 (M := kt_M27) (c := 8) (o := 0) (As := [.int 8, .int (w_i w14 14 p1 8)]) (rest := []) kX9_expression_c5.2.2.2.2.1 wl_X9_42 wMv_25 rfl (.inl rfl) rfl (Nat.le_trans (Nat.le_of_ble_eq_true rfl) hL) (Nat.le_of_ble_eq_true rfl) (Nat.le_of_ble_eq_true rfl) h (fun w16 hle h => ?_) (fun _ _ _ h => kzx_no rfl h)
        have h := h hle
        have hlp1 := w_l_le hlp1 hle
        refine kz_goto (M := kt_M27) kX9_expression_c5.2.2.2.2.2.1 (t := 304) rfl ?_
        exact kz_weak [(0, .ref (w_adr E.2.1 8 0))] ⟨rfl, trivial⟩ rfl (zt_X9_expression_p304 hL  h)
      · skip
        refine kz_aload_n (M := kt_M27) kX9_expression_c3.2.2.2.1 rfl ?_
        refine kz_aload_nv (M := kt_M27) (x := x1) kX9_expression_c3.2.2.2.2.1 rfl ?_
        refine kz_nz0 (x := x1) hxp1 ?_
        refine kz_gfp (M := kt_M27) (c := 14) (o := p1) kX9_expression_c3.2.2.2.2.2.1 wf_X9_93 (.inr (by exact hlp1)) ?_
        obtain ⟨p18, hxp18, hlp18, h⟩ := h
        refine kz_nz0 (x := w_p w 14 p1 3) hxp18 ?_
        refine kz_gfp (M := kt_M27) (c := 14) (o := p18) kX9_expression_c3.2.2.2.2.2.2.1 wf_X9_115 (.inr (by exact hlp18)) ?_
        refine kz_cv0 (M := kt_M27) (c := 8) (o := 0) (As := [va_rf (w_p w 14 p18 16)]) (rest := []) kX9_expression_c3.2.2.2.2.2.2.2.1 wl_X9_175 wMv_42 rfl (.inl rfl) rfl (Nat.le_trans (Nat.le_of_ble_eq_true rfl) hL) (by simp [lg_sl, w_cat, z_ci, z_cr, z_cl, z_cn, kt_M42]) (Nat.le_of_ble_eq_true rfl) h (fun w19 hle h => ?_) (fun _ _ _ h => kzx_no rfl h)
        have h := h hle
        have hlp1 := w_l_le hlp1 hle
        have hlp18 := w_l_le hlp18 hle
        refine kz_aload_n (M := kt_M27) kX9_expression_c4.1 rfl ?_
        refine kz_bi (M := kt_M27) 14 kX9_expression_c4.2.1 rfl ?_
        refine kz_cv0 (M := kt_M27) (c := 8) (o := 0) (As := [.int 14]) (rest := []) kX9_expression_c4.2.2.1 wl_X9_137 wMv_24 rfl (.inl rfl) rfl (Nat.le_trans (Nat.le_of_ble_eq_true rfl) hL) (Nat.le_of_ble_eq_true rfl) (Nat.le_of_ble_eq_true rfl) h (fun w21 hle h => ?_) (fun _ _ _ h => kzx_no rfl h)
        have h := h hle
        have hlp1 := w_l_le hlp1 hle
        have hlp18 := w_l_le hlp18 hle
        refine kz_goto (M := kt_M27) kX9_expression_c4.2.2.2.1 (t := 304) rfl ?_
        exact kz_weak [(0, .ref (w_adr E.2.1 8 0))] ⟨rfl, trivial⟩ rfl (zt_X9_expression_p304 hL  h)
    · skip
      refine kz_aload_n (M := kt_M27) kX9_expression_c5.2.2.2.2.2.2.1 rfl ?_
      refine kz_aload_nv (M := kt_M27) (x := x1) kX9_expression_c5.2.2.2.2.2.2.2.1 rfl ?_
      refine kz_nz0 (x := x1) hxp1 ?_
      refine kz_gfp (M := kt_M27) (c := 14) (o := p1) kX9_expression_c6.1 wf_X9_93 (.inr (by exact hlp1)) ?_
      refine kz_cv0 (M := kt_M27) (c := 8) (o := 0) (As := [va_rf (w_p w 14 p1 3)]) (rest := []) kX9_expression_c6.2.1 wl_X9_200 wMv_27 rfl (.inl rfl) rfl (Nat.le_trans (Nat.le_of_ble_eq_true rfl) hL) (by simp [lg_sl, w_cat, z_ci, z_cr, z_cl, z_cn, kt_M27]) (Nat.le_of_ble_eq_true rfl) h (fun w23 hle h => ?_) (fun _ _ _ h => kzx_no rfl h)
      have h := h hle
      have hlp1 := w_l_le hlp1 hle
      refine kz_aload_n (M := kt_M27) kX9_expression_c6.2.2.1 rfl ?_
      refine kz_aload_nv (M := kt_M27) (x := x1) kX9_expression_c6.2.2.2.1 rfl ?_
      refine kz_nz0 (x := x1) hxp1 ?_
      refine kz_gfp (M := kt_M27) (c := 14) (o := p1) kX9_expression_c6.2.2.2.2.1 wf_X9_112 (.inr (by exact hlp1)) ?_
      refine kz_cv0 (M := kt_M27) (c := 8) (o := 0) (As := [va_rf (w_p w23 14 p1 4)]) (rest := []) kX9_expression_c6.2.2.2.2.2.1 wl_X9_200 wMv_27 rfl (.inl rfl) rfl (Nat.le_trans (Nat.le_of_ble_eq_true rfl) hL) (by simp [lg_sl, w_cat, z_ci, z_cr, z_cl, z_cn, kt_M27]) (Nat.le_of_ble_eq_true rfl) h (fun w25 hle h => ?_) (fun _ _ _ h => kzx_no rfl h)
      have h := h hle
      have hlp1 := w_l_le hlp1 hle
      refine kz_aload_n (M := kt_M27) kX9_expression_c6.2.2.2.2.2.2.1 rfl ?_
      refine kz_bi (M := kt_M27) 9 kX9_expression_c6.2.2.2.2.2.2.2.1 rfl ?_
      refine kz_aload_nv (M := kt_M27) (x := x1) kX9_expression_c7.1 rfl ?_
      refine kz_nz0 (x := x1) hxp1 ?_
      refine kz_gfi (M := kt_M27) (c := 14) (o := p1) kX9_expression_c7.2.1 wf_X9_348 (.inr (by exact hlp1)) ?_
      refine kz_cv0 (M := kt_M27) (c := 8) (o := 0) (As := [.int 9, .int (w_i w25 14 p1 8)]) (rest := []) kX9_expression_c7.2.2.1 wl_X9_42 wMv_25 rfl (.inl rfl) rfl (Nat.le_trans (Nat.le_of_ble_eq_true rfl) hL) (Nat.le_of_ble_eq_true rfl) (Nat.le_of_ble_eq_true rfl) h (fun w27 hle h => ?_) (fun _ _ _ h => kzx_no rfl h)
      have h := h hle
      have hlp1 := w_l_le hlp1 hle
      refine kz_goto (M := kt_M27) kX9_expression_c7.2.2.2.1 (t := 304) rfl ?_
      exact kz_weak [(0, .ref (w_adr E.2.1 8 0))] ⟨rfl, trivial⟩ rfl (zt_X9_expression_p304 hL  h)
    · skip
      refine kz_ic (M := kt_M27) 0 kX9_expression_c7.2.2.2.2.1 rfl ?_
      refine kz_sti_n (M := kt_M27) [(0, .ref (w_adr E.2.1 8 0)), (1, va_rf (x1))] kX9_expression_c7.2.2.2.2.2.1 (Nat.le_of_ble_eq_true rfl) ⟨⟨rfl, rfl, .inl rfl⟩, ⟨⟨rfl, rfl, .inr (w_cat (x1))⟩, trivial⟩⟩ rfl ?_
      refine kz_aload_nv (M := kt_M27) (x := x1) kX9_expression_c7.2.2.2.2.2.2.1 rfl ?_
      refine kz_nz0 (x := x1) hxp1 ?_
      refine kz_gfp (M := kt_M27) (c := 14) (o := p1) kX9_expression_c7.2.2.2.2.2.2.2.1 wf_X9_93 (.inr (by exact hlp1)) ?_
      refine kz_stv_n (M := kt_M27) (x := w_p w 14 p1 3) [(0, .ref (w_adr E.2.1 8 0)), (1, va_rf (x1)), (2, .int 0)] kX9_expression_c8.1 (Nat.le_of_ble_eq_true rfl) ⟨⟨rfl, rfl, .inl rfl⟩, ⟨⟨rfl, rfl, .inl rfl⟩, ⟨⟨rfl, rfl, .inr rfl⟩, trivial⟩⟩⟩ rfl ?_
      exact kz_weak [(0, .ref (w_adr E.2.1 8 0)), (1, va_rf (x1)), (2, .int 0), (3, va_rf (w_p w 14 p1 3))] ⟨rfl, ⟨rfl, ⟨rfl, ⟨rfl, trivial⟩⟩⟩⟩ rfl h
    · skip
      refine kz_aload_nv (M := kt_M27) (x := x1) kX9_expression_c12.2.2.2.2.2.2.2.1 rfl ?_
      refine kz_nz0 (x := x1) hxp1 ?_
      refine kz_gfp (M := kt_M27) (c := 14) (o := p1) kX9_expression_c13.1 wf_X9_115 (.inr (by exact hlp1)) ?_
      obtain ⟨p29, hxp29, hlp29, h⟩ := h
      refine kz_nz0 (x := w_p w 14 p1 16) hxp29 ?_
      refine kz_gfp (M := kt_M27) (c := 15) (o := p29) kX9_expression_c13.2.1 wf_X9_245 (.inr (by exact hlp29)) ?_
      refine kz_getsE (M := kt_M27) (v := va_rf (some (E.1.1 55))) kX9_expression_c13.2.2.1 zs_X9_339 ?_
      refine kz_acmp_ne (M := kt_M27) (x := w_p w 15 p29 0) (y := some (E.1.1 55)) kX9_expression_c13.2.2.2.1 (t := 294) rfl h (fun h => ?_) (fun h => ?_)
      · skip
        exact kz_weak [(0, .ref (w_adr E.2.1 8 0)), (1, va_rf (x1))] ⟨rfl, ⟨rfl, trivial⟩⟩ rfl (zt_X9_expression_p294 hL  h)
      · skip
        refine kz_aload_nv (M := kt_M27) (x := x1) kX9_expression_c13.2.2.2.2.1 rfl ?_
        refine kz_nz0 (x := x1) hxp1 ?_
        refine kz_gfp (M := kt_M27) (c := 14) (o := p1) kX9_expression_c13.2.2.2.2.2.1 wf_X9_93 (.inr (by exact hlp1)) ?_
        refine kz_ifnonnull (M := kt_M27) (x := w_p w 14 p1 3) kX9_expression_c13.2.2.2.2.2.2.1 (t := 294) rfl h (fun h => ?_) (fun h => ?_)
        · skip
          exact kz_weak [(0, .ref (w_adr E.2.1 8 0)), (1, va_rf (x1))] ⟨rfl, ⟨rfl, trivial⟩⟩ rfl (zt_X9_expression_p294 hL  h)
        · skip
          refine kz_aload_n (M := kt_M27) kX9_expression_c13.2.2.2.2.2.2.2.1 rfl ?_
          refine kz_aload_nv (M := kt_M27) (x := x1) kX9_expression_c14.1 rfl ?_
          refine kz_nz0 (x := x1) hxp1 ?_
          refine kz_gfp (M := kt_M27) (c := 14) (o := p1) kX9_expression_c14.2.1 wf_X9_115 (.inr (by exact hlp1)) ?_
          refine kz_nz0 (x := w_p w 14 p1 16) hxp29 ?_
          refine kz_gfp (M := kt_M27) (c := 15) (o := p29) kX9_expression_c14.2.2.1 wf_X9_145 (.inr (by exact hlp29)) ?_
          refine kz_aload_nv (M := kt_M27) (x := x1) kX9_expression_c14.2.2.2.1 rfl ?_
          refine kz_nz0 (x := x1) hxp1 ?_
          refine kz_gfp (M := kt_M27) (c := 14) (o := p1) kX9_expression_c14.2.2.2.2.1 wf_X9_115 (.inr (by exact hlp1)) ?_
          refine kz_nz0 (x := w_p w 14 p1 16) hxp29 ?_
          refine kz_gfi (M := kt_M27) (c := 15) (o := p29) kX9_expression_c14.2.2.2.2.2.1 wf_X9_119 (.inr (by exact hlp29)) ?_
          refine kz_cv0 (M := kt_M27) (c := 8) (o := 0) (As := [va_rf (w_p w 15 p29 20), .int (w_i w 15 p29 21)]) (rest := []) kX9_expression_c14.2.2.2.2.2.2.1 wl_X9_182 wMv_36 rfl (.inl rfl) rfl (Nat.le_trans (Nat.le_of_ble_eq_true rfl) hL) (by simp [lg_sl, w_cat, z_ci, z_cr, z_cl, z_cn, kt_M36]) (Nat.le_of_ble_eq_true rfl) h (fun w30 hle h => ?_) (fun _ _ _ h => kzx_no rfl h)
          have h := h hle
          have hlp1 := w_l_le hlp1 hle
          have hlp29 := w_l_le hlp29 hle
          refine kz_goto (M := kt_M27) kX9_expression_c14.2.2.2.2.2.2.2.1 (t := 299) rfl ?_
          exact kz_weak [(0, .ref (w_adr E.2.1 8 0))] ⟨rfl, trivial⟩ rfl (zt_X9_expression_p299 hL  h)
  · skip
    refine kz_aload_n (M := kt_M27) kX9_expression_c0.2.2.2.1 rfl ?_
    refine kz_ic (M := kt_M27) 2 kX9_expression_c0.2.2.2.2.1 rfl ?_
    refine kz_aload_nv (M := kt_M27) (x := x1) kX9_expression_c0.2.2.2.2.2.1 rfl ?_
    refine kz_nz0 (x := x1) hxp1 ?_
    refine kz_gfi (M := kt_M27) (c := 14) (o := p1) kX9_expression_c0.2.2.2.2.2.2.1 wf_X9_312 (.inr (by exact hlp1)) ?_
    refine kz_cv0 (M := kt_M27) (c := 8) (o := 0) (As := [.int 2, .int (w_i w 14 p1 19)]) (rest := []) kX9_expression_c0.2.2.2.2.2.2.2.1 wl_X9_42 wMv_25 rfl (.inl rfl) rfl (Nat.le_trans (Nat.le_of_ble_eq_true rfl) hL) (Nat.le_of_ble_eq_true rfl) (Nat.le_of_ble_eq_true rfl) h (fun w32 hle h => ?_) (fun _ _ _ h => kzx_no rfl h)
    have h := h hle
    have hlp1 := w_l_le hlp1 hle
    exact kz_ret (M := kt_M27) kX9_expression_c1.1 rfl h
def zb_X9_pair_p58 (E : zE) (L : Nat) (Q : kx_Rs → wS → Prop) (w : wS) : Prop := Q (.inl none) w
theorem zt_X9_pair_p58 {E : zE} {L : Nat} {Q : kx_Rs → wS → Prop} {w : wS} (hL : 22 ≤ L) (h : zb_X9_pair_p58 E L Q  w) : kzE E L kt_M42 58 [(0, .ref (w_adr E.2.1 8 0))] [] w Q := by
  unfold zb_X9_pair_p58 at h
  exact kz_ret (M := kt_M42) kX9_pair_c3.2.2.2.2.1 rfl h
def zb_X9_pair_p36 (E : zE) (L : Nat) (Q : kx_Rs → wS → Prop) (w : wS) : Prop := zw E (L - 21) kt_M24 [.ref (w_adr E.2.1 8 0), .int 5] w (wk0 (fun w1 => wle w w1 → zb_X9_pair_p58 E L Q w1) (fun e w => Q (.inr e) w))
theorem zt_X9_pair_p36 {E : zE} {L : Nat} {Q : kx_Rs → wS → Prop} {w : wS} (hL : 22 ≤ L) (h : zb_X9_pair_p36 E L Q  w) : kzE E L kt_M42 36 [(0, .ref (w_adr E.2.1 8 0))] [] w Q := by
  unfold zb_X9_pair_p36 at h
  refine kz_aload_n (M := kt_M42) kX9_pair_c2.1 rfl ?_
  refine kz_ic (M := kt_M42) 5 kX9_pair_c2.2.1 rfl ?_
  refine kz_cv0 (M := kt_M42) (c := 8) (o := 0) (As := [.int 5]) (rest := []) kX9_pair_c2.2.2.1 wl_X9_137 wMv_24 rfl (.inl rfl) rfl (Nat.le_trans (Nat.le_of_ble_eq_true rfl) hL) (Nat.le_of_ble_eq_true rfl) (Nat.le_of_ble_eq_true rfl) h (fun w1 hle h => ?_) (fun _ _ _ h => kzx_no rfl h)
  have h := h hle
  refine kz_goto (M := kt_M42) kX9_pair_c2.2.2.2.1 (t := 58) rfl ?_
  exact kz_weak [(0, .ref (w_adr E.2.1 8 0))] ⟨rfl, trivial⟩ rfl (zt_X9_pair_p58 hL  h)
def zb_X9_pair_p0 (E : zE) (L : Nat) (Q : kx_Rs → wS → Prop) (x1 : Option Nat) (w : wS) : Prop := (∃ p1, x1 = some p1 ∧ w_l w E.2.1 15 p1 ∧ zw E (L - 22) kt_M36 [.ref (w_adr E.2.1 8 0), va_rf (w_p w 15 p1 20), .int (w_i w 15 p1 21)] w (wk0 (fun w2 => wle w w2 → (if ¬ w_i w2 15 p1 11 = 0 then zb_X9_pair_p36 E L Q w2 else (if ¬ w_i w2 15 p1 14 = 0 then zb_X9_pair_p36 E L Q w2 else (if ¬ w_p w2 15 p1 0 = some (E.1.1 55) then zw E (L - 21) kt_M24 [.ref (w_adr E.2.1 8 0), .int 4] w2 (wk0 (fun w4 => wle w2 w4 → zw E (L - 22) kt_M25 [.ref (w_adr E.2.1 8 0), .int 2, .int (w_i w4 15 p1 6)] w4 (wk0 (fun w6 => wle w4 w6 → zb_X9_pair_p58 E L Q w6) (fun e w => Q (.inr e) w))) (fun e w => Q (.inr e) w)) else zb_X9_pair_p36 E L Q w2)))) (fun e w => Q (.inr e) w)))
theorem zt_X9_pair_p0 {E : zE} {L : Nat} {Q : kx_Rs → wS → Prop} {x1 : Option Nat} {w : wS} (hL : 22 ≤ L) (h : zb_X9_pair_p0 E L Q x1 w) : kzE E L kt_M42 0 [(0, .ref (w_adr E.2.1 8 0)), (1, va_rf (x1))] [] w Q := by
  unfold zb_X9_pair_p0 at h
  refine kz_aload_n (M := kt_M42) kX9_pair_c0.1 rfl ?_
  refine kz_aload_nv (M := kt_M42) (x := x1) kX9_pair_c0.2.1 rfl ?_
  obtain ⟨p1, hxp1, hlp1, h⟩ := h
  refine kz_nz0 (x := x1) hxp1 ?_
  refine kz_gfp (M := kt_M42) (c := 15) (o := p1) kX9_pair_c0.2.2.1 wf_X9_145 (.inr (by exact hlp1)) ?_
  refine kz_aload_nv (M := kt_M42) (x := x1) kX9_pair_c0.2.2.2.1 rfl ?_
  refine kz_nz0 (x := x1) hxp1 ?_
  refine kz_gfi (M := kt_M42) (c := 15) (o := p1) kX9_pair_c0.2.2.2.2.1 wf_X9_119 (.inr (by exact hlp1)) ?_
  refine kz_cv0 (M := kt_M42) (c := 8) (o := 0) (As := [va_rf (w_p w 15 p1 20), .int (w_i w 15 p1 21)]) (rest := []) kX9_pair_c0.2.2.2.2.2.1 wl_X9_182 wMv_36 rfl (.inl rfl) rfl (Nat.le_trans (Nat.le_of_ble_eq_true rfl) hL) (by simp [lg_sl, w_cat, z_ci, z_cr, z_cl, z_cn, kt_M36]) (Nat.le_of_ble_eq_true rfl) h (fun w2 hle h => ?_) (fun _ _ _ h => kzx_no rfl h)
  have h := h hle
  have hlp1 := w_l_le hlp1 hle
  refine kz_aload_nv (M := kt_M42) (x := x1) kX9_pair_c0.2.2.2.2.2.2.1 rfl ?_
  refine kz_nz0 (x := x1) hxp1 ?_
  refine kz_gfi (M := kt_M42) (c := 15) (o := p1) kX9_pair_c0.2.2.2.2.2.2.2.1 wf_X9_333 (.inr (by exact hlp1)) ?_
  refine kz_if_ne (M := kt_M42) kX9_pair_c1.1 (t := 36) rfl h (fun h => ?_) (fun h => ?_)
  · skip
    exact kz_weak [(0, .ref (w_adr E.2.1 8 0))] ⟨rfl, trivial⟩ rfl (zt_X9_pair_p36 hL  h)
  · skip
    refine kz_aload_nv (M := kt_M42) (x := x1) kX9_pair_c1.2.1 rfl ?_
    refine kz_nz0 (x := x1) hxp1 ?_
    refine kz_gfi (M := kt_M42) (c := 15) (o := p1) kX9_pair_c1.2.2.1 wf_X9_336 (.inr (by exact hlp1)) ?_
    refine kz_if_ne (M := kt_M42) kX9_pair_c1.2.2.2.1 (t := 36) rfl h (fun h => ?_) (fun h => ?_)
    · skip
      exact kz_weak [(0, .ref (w_adr E.2.1 8 0))] ⟨rfl, trivial⟩ rfl (zt_X9_pair_p36 hL  h)
    · skip
      refine kz_aload_nv (M := kt_M42) (x := x1) kX9_pair_c1.2.2.2.2.1 rfl ?_
      refine kz_nz0 (x := x1) hxp1 ?_
      refine kz_gfp (M := kt_M42) (c := 15) (o := p1) kX9_pair_c1.2.2.2.2.2.1 wf_X9_245 (.inr (by exact hlp1)) ?_
      refine kz_getsE (M := kt_M42) (v := va_rf (some (E.1.1 55))) kX9_pair_c1.2.2.2.2.2.2.1 zs_X9_339 ?_
      refine kz_acmp_ne (M := kt_M42) (x := w_p w2 15 p1 0) (y := some (E.1.1 55)) kX9_pair_c1.2.2.2.2.2.2.2.1 (t := 44) rfl h (fun h => ?_) (fun h => ?_)
      · skip
        refine kz_aload_n (M := kt_M42) kX9_pair_c2.2.2.2.2.1 rfl ?_
        refine kz_ic (M := kt_M42) 4 kX9_pair_c2.2.2.2.2.2.1 rfl ?_
        refine kz_cv0 (M := kt_M42) (c := 8) (o := 0) (As := [.int 4]) (rest := []) kX9_pair_c2.2.2.2.2.2.2.1 wl_X9_137 wMv_24 rfl (.inl rfl) rfl (Nat.le_trans (Nat.le_of_ble_eq_true rfl) hL) (Nat.le_of_ble_eq_true rfl) (Nat.le_of_ble_eq_true rfl) h (fun w4 hle h => ?_) (fun _ _ _ h => kzx_no rfl h)
        have h := h hle
        have hlp1 := w_l_le hlp1 hle
        refine kz_aload_n (M := kt_M42) kX9_pair_c2.2.2.2.2.2.2.2.1 rfl ?_
        refine kz_ic (M := kt_M42) 2 kX9_pair_c3.1 rfl ?_
        refine kz_aload_nv (M := kt_M42) (x := x1) kX9_pair_c3.2.1 rfl ?_
        refine kz_nz0 (x := x1) hxp1 ?_
        refine kz_gfi (M := kt_M42) (c := 15) (o := p1) kX9_pair_c3.2.2.1 wf_X9_128 (.inr (by exact hlp1)) ?_
        refine kz_cv0 (M := kt_M42) (c := 8) (o := 0) (As := [.int 2, .int (w_i w4 15 p1 6)]) (rest := []) kX9_pair_c3.2.2.2.1 wl_X9_42 wMv_25 rfl (.inl rfl) rfl (Nat.le_trans (Nat.le_of_ble_eq_true rfl) hL) (Nat.le_of_ble_eq_true rfl) (Nat.le_of_ble_eq_true rfl) h (fun w6 hle h => ?_) (fun _ _ _ h => kzx_no rfl h)
        have h := h hle
        have hlp1 := w_l_le hlp1 hle
        exact kz_weak [(0, .ref (w_adr E.2.1 8 0))] ⟨rfl, trivial⟩ rfl (zt_X9_pair_p58 hL  h)
      · skip
        exact kz_weak [(0, .ref (w_adr E.2.1 8 0))] ⟨rfl, trivial⟩ rfl (zt_X9_pair_p36 hL  h)
def zL_X9_arguments_p16 (E : zE) (L : Nat) (Q : kx_Rs → wS → Prop) (x2 : Option Nat) (x3 : Option Nat) (w : wS) : Prop := kzE E L kt_M18 16 [(0, .ref (w_adr E.2.1 8 0)), (2, va_rf (x2)), (3, va_rf (x3))] [] w Q
def zb_X9_arguments_p79 (E : zE) (L : Nat) (Q : kx_Rs → wS → Prop) (x2 : Option Nat) (x3 : Option Nat) (w : wS) : Prop := (∃ p1, x2 = some p1 ∧ w_l w E.2.1 14 p1 ∧ (∃ p2, x3 = some p2 ∧ w_l w E.2.1 14 p2 ∧ zL_X9_arguments_p16 E L Q (w_p w 14 p1 7) (w_p w 14 p2 7) w))
theorem zt_X9_arguments_p79 {E : zE} {L : Nat} {Q : kx_Rs → wS → Prop} {x2 : Option Nat} {x3 : Option Nat} {w : wS} (hL : 23 ≤ L) (h : zb_X9_arguments_p79 E L Q x2 x3 w) : kzE E L kt_M18 79 [(0, .ref (w_adr E.2.1 8 0)), (2, va_rf (x2)), (3, va_rf (x3))] [] w Q := by
  unfold zb_X9_arguments_p79 at h
  refine kz_aload_nv (M := kt_M18) (x := x2) kX9_arguments_c4.2.2.2.2.2.2.1 rfl ?_
  obtain ⟨p1, hxp1, hlp1, h⟩ := h
  refine kz_nz0 (x := x2) hxp1 ?_
  refine kz_gfp (M := kt_M18) (c := 14) (o := p1) kX9_arguments_c4.2.2.2.2.2.2.2.1 wf_X9_129 (.inr (by exact hlp1)) ?_
  refine kz_stv_n (M := kt_M18) (x := w_p w 14 p1 7) [(0, .ref (w_adr E.2.1 8 0)), (3, va_rf (x3))] kX9_arguments_c5.1 (Nat.le_of_ble_eq_true rfl) ⟨⟨rfl, rfl, .inl rfl⟩, ⟨⟨rfl, rfl, .inl rfl⟩, trivial⟩⟩ rfl ?_
  refine kz_aload_nv (M := kt_M18) (x := x3) kX9_arguments_c5.2.1 rfl ?_
  obtain ⟨p2, hxp2, hlp2, h⟩ := h
  refine kz_nz0 (x := x3) hxp2 ?_
  refine kz_gfp (M := kt_M18) (c := 14) (o := p2) kX9_arguments_c5.2.2.1 wf_X9_129 (.inr (by exact hlp2)) ?_
  refine kz_stv_n (M := kt_M18) (x := w_p w 14 p2 7) [(0, .ref (w_adr E.2.1 8 0)), (2, va_rf (w_p w 14 p1 7))] kX9_arguments_c5.2.2.2.1 (Nat.le_of_ble_eq_true rfl) ⟨⟨rfl, rfl, .inl rfl⟩, ⟨⟨rfl, rfl, .inr (w_cat (w_p w 14 p1 7))⟩, trivial⟩⟩ rfl ?_
  refine kz_goto (M := kt_M18) kX9_arguments_c5.2.2.2.2.1 (t := 16) rfl ?_
  exact kz_weak [(0, .ref (w_adr E.2.1 8 0)), (2, va_rf (w_p w 14 p1 7)), (3, va_rf (w_p w 14 p2 7))] ⟨rfl, ⟨rfl, ⟨rfl, trivial⟩⟩⟩ rfl h
def zb_X9_arguments_p16 (E : zE) (L : Nat) (Q : kx_Rs → wS → Prop) (x2 : Option Nat) (x3 : Option Nat) (w : wS) : Prop := (if x3 = none then Q (.inl none) w else (∃ p1, x2 = some p1 ∧ w_l w E.2.1 14 p1 ∧ (if ¬ w_i w 14 p1 15 = 0 then (if w_i w 14 p1 13 = 0 then zw E (L - 23) kt_M27 [.ref (w_adr E.2.1 8 0), va_rf (x3)] w (wk0 (fun w2 => wle w w2 → zb_X9_arguments_p79 E L Q x2 x3 w2) (fun e w => Q (.inr e) w)) else zw E (L - 23) kt_M19 [.ref (w_adr E.2.1 8 0), va_rf (x3)] w (wk0 (fun w4 => wle w w4 → zw E (L - 21) kt_M24 [.ref (w_adr E.2.1 8 0), .int 27] w4 (wk0 (fun w6 => wle w4 w6 → zb_X9_arguments_p79 E L Q x2 x3 w6) (fun e w => Q (.inr e) w))) (fun e w => Q (.inr e) w))) else (if w_i w 14 p1 13 = 0 then zw E (L - 22) kt_M44 [.ref (w_adr E.2.1 8 0), va_rf (x3)] w (wk0 (fun w8 => wle w w8 → zb_X9_arguments_p79 E L Q x2 x3 w8) (fun e w => Q (.inr e) w)) else (∃ p10, x3 = some p10 ∧ w_l w E.2.1 14 p10 ∧ zw E (L - 21) kt_M42 [.ref (w_adr E.2.1 8 0), va_rf (w_p w 14 p10 16)] w (wk0 (fun w11 => wle w w11 → zb_X9_arguments_p79 E L Q x2 x3 w11) (fun e w => Q (.inr e) w)))))))
theorem zt_X9_arguments_p16 {E : zE} {L : Nat} {Q : kx_Rs → wS → Prop} {x2 : Option Nat} {x3 : Option Nat} {w : wS} (hL : 23 ≤ L) (h : zb_X9_arguments_p16 E L Q x2 x3 w) : kzE E L kt_M18 16 [(0, .ref (w_adr E.2.1 8 0)), (2, va_rf (x2)), (3, va_rf (x3))] [] w Q := by
  unfold zb_X9_arguments_p16 at h
  refine kz_aload_nv (M := kt_M18) (x := x3) kX9_arguments_c1.1 rfl ?_
  refine kz_ifnull (M := kt_M18) (x := x3) kX9_arguments_c1.2.1 (t := 92) rfl h (fun h => ?_) (fun h => ?_)
  · skip
    exact kz_ret (M := kt_M18) kX9_arguments_c5.2.2.2.2.2.1 rfl h
  · skip
    refine kz_aload_nv (M := kt_M18) (x := x2) kX9_arguments_c1.2.2.1 rfl ?_
    obtain ⟨p1, hxp1, hlp1, h⟩ := h
    refine kz_nz0 (x := x2) hxp1 ?_
    refine kz_gfi (M := kt_M18) (c := 14) (o := p1) kX9_arguments_c1.2.2.2.1 wf_X9_322 (.inr (by exact hlp1)) ?_
    refine kz_if_ne (M := kt_M18) kX9_arguments_c1.2.2.2.2.1 (t := 53) rfl h (fun h => ?_) (fun h => ?_)
    · skip
      refine kz_aload_nv (M := kt_M18) (x := x2) kX9_arguments_c3.2.1 rfl ?_
      refine kz_nz0 (x := x2) hxp1 ?_
      refine kz_gfi (M := kt_M18) (c := 14) (o := p1) kX9_arguments_c3.2.2.1 wf_X9_172 (.inr (by exact hlp1)) ?_
      refine kz_if_eq (M := kt_M18) kX9_arguments_c3.2.2.2.1 (t := 74) rfl h (fun h => ?_) (fun h => ?_)
      · skip
        refine kz_aload_n (M := kt_M18) kX9_arguments_c4.2.2.2.1 rfl ?_
        refine kz_aload_nv (M := kt_M18) (x := x3) kX9_arguments_c4.2.2.2.2.1 rfl ?_
        refine kz_cv0 (M := kt_M18) (c := 8) (o := 0) (As := [va_rf (x3)]) (rest := []) kX9_arguments_c4.2.2.2.2.2.1 wl_X9_200 wMv_27 rfl (.inl rfl) rfl (Nat.le_trans (Nat.le_of_ble_eq_true rfl) hL) (by simp [lg_sl, w_cat, z_ci, z_cr, z_cl, z_cn, kt_M27]) (Nat.le_of_ble_eq_true rfl) h (fun w2 hle h => ?_) (fun _ _ _ h => kzx_no rfl h)
        have h := h hle
        have hlp1 := w_l_le hlp1 hle
        exact kz_weak [(0, .ref (w_adr E.2.1 8 0)), (2, va_rf (x2)), (3, va_rf (x3))] ⟨rfl, ⟨rfl, ⟨rfl, trivial⟩⟩⟩ rfl (zt_X9_arguments_p79 hL  h)
      · skip
        refine kz_aload_n (M := kt_M18) kX9_arguments_c3.2.2.2.2.1 rfl ?_
        refine kz_aload_nv (M := kt_M18) (x := x3) kX9_arguments_c3.2.2.2.2.2.1 rfl ?_
        refine kz_cv0 (M := kt_M18) (c := 8) (o := 0) (As := [va_rf (x3)]) (rest := []) kX9_arguments_c3.2.2.2.2.2.2.1 wl_X9_198 wMv_19 rfl (.inl rfl) rfl (Nat.le_trans (Nat.le_of_ble_eq_true rfl) hL) (by simp [lg_sl, w_cat, z_ci, z_cr, z_cl, z_cn, kt_M19]) (Nat.le_of_ble_eq_true rfl) h (fun w4 hle h => ?_) (fun _ _ _ h => kzx_no rfl h)
        have h := h hle
        have hlp1 := w_l_le hlp1 hle
        refine kz_aload_n (M := kt_M18) kX9_arguments_c3.2.2.2.2.2.2.2.1 rfl ?_
        refine kz_bi (M := kt_M18) 27 kX9_arguments_c4.1 rfl ?_
        refine kz_cv0 (M := kt_M18) (c := 8) (o := 0) (As := [.int 27]) (rest := []) kX9_arguments_c4.2.1 wl_X9_137 wMv_24 rfl (.inl rfl) rfl (Nat.le_trans (Nat.le_of_ble_eq_true rfl) hL) (Nat.le_of_ble_eq_true rfl) (Nat.le_of_ble_eq_true rfl) h (fun w6 hle h => ?_) (fun _ _ _ h => kzx_no rfl h)
        have h := h hle
        have hlp1 := w_l_le hlp1 hle
        refine kz_goto (M := kt_M18) kX9_arguments_c4.2.2.1 (t := 79) rfl ?_
        exact kz_weak [(0, .ref (w_adr E.2.1 8 0)), (2, va_rf (x2)), (3, va_rf (x3))] ⟨rfl, ⟨rfl, ⟨rfl, trivial⟩⟩⟩ rfl (zt_X9_arguments_p79 hL  h)
    · skip
      refine kz_aload_nv (M := kt_M18) (x := x2) kX9_arguments_c1.2.2.2.2.2.1 rfl ?_
      refine kz_nz0 (x := x2) hxp1 ?_
      refine kz_gfi (M := kt_M18) (c := 14) (o := p1) kX9_arguments_c1.2.2.2.2.2.2.1 wf_X9_172 (.inr (by exact hlp1)) ?_
      refine kz_if_eq (M := kt_M18) kX9_arguments_c1.2.2.2.2.2.2.2.1 (t := 45) rfl h (fun h => ?_) (fun h => ?_)
      · skip
        refine kz_aload_n (M := kt_M18) kX9_arguments_c2.2.2.2.2.2.1 rfl ?_
        refine kz_aload_nv (M := kt_M18) (x := x3) kX9_arguments_c2.2.2.2.2.2.2.1 rfl ?_
        refine kz_cv0 (M := kt_M18) (c := 8) (o := 0) (As := [va_rf (x3)]) (rest := []) kX9_arguments_c2.2.2.2.2.2.2.2.1 wl_X9_179 wMv_44 rfl (.inl rfl) rfl (Nat.le_trans (Nat.le_of_ble_eq_true rfl) hL) (by simp [lg_sl, w_cat, z_ci, z_cr, z_cl, z_cn, kt_M44]) (Nat.le_of_ble_eq_true rfl) h (fun w8 hle h => ?_) (fun _ _ _ h => kzx_no rfl h)
        have h := h hle
        have hlp1 := w_l_le hlp1 hle
        refine kz_goto (M := kt_M18) kX9_arguments_c3.1 (t := 79) rfl ?_
        exact kz_weak [(0, .ref (w_adr E.2.1 8 0)), (2, va_rf (x2)), (3, va_rf (x3))] ⟨rfl, ⟨rfl, ⟨rfl, trivial⟩⟩⟩ rfl (zt_X9_arguments_p79 hL  h)
      · skip
        refine kz_aload_n (M := kt_M18) kX9_arguments_c2.1 rfl ?_
        refine kz_aload_nv (M := kt_M18) (x := x3) kX9_arguments_c2.2.1 rfl ?_
        obtain ⟨p10, hxp10, hlp10, h⟩ := h
        refine kz_nz0 (x := x3) hxp10 ?_
        refine kz_gfp (M := kt_M18) (c := 14) (o := p10) kX9_arguments_c2.2.2.1 wf_X9_115 (.inr (by exact hlp10)) ?_
        refine kz_cv0 (M := kt_M18) (c := 8) (o := 0) (As := [va_rf (w_p w 14 p10 16)]) (rest := []) kX9_arguments_c2.2.2.2.1 wl_X9_175 wMv_42 rfl (.inl rfl) rfl (Nat.le_trans (Nat.le_of_ble_eq_true rfl) hL) (by simp [lg_sl, w_cat, z_ci, z_cr, z_cl, z_cn, kt_M42]) (Nat.le_of_ble_eq_true rfl) h (fun w11 hle h => ?_) (fun _ _ _ h => kzx_no rfl h)
        have h := h hle
        have hlp1 := w_l_le hlp1 hle
        have hlp10 := w_l_le hlp10 hle
        refine kz_goto (M := kt_M18) kX9_arguments_c2.2.2.2.2.1 (t := 79) rfl ?_
        exact kz_weak [(0, .ref (w_adr E.2.1 8 0)), (2, va_rf (x2)), (3, va_rf (x3))] ⟨rfl, ⟨rfl, ⟨rfl, trivial⟩⟩⟩ rfl (zt_X9_arguments_p79 hL  h)
def zb_X9_arguments_p0 (E : zE) (L : Nat) (Q : kx_Rs → wS → Prop) (x1 : Option Nat) (w : wS) : Prop := (∃ p1, x1 = some p1 ∧ w_l w E.2.1 14 p1 ∧ (∃ p2, w_p w 14 p1 16 = some p2 ∧ w_l w E.2.1 15 p2 ∧ (∃ p3, w_p w 15 p2 19 = some p3 ∧ w_l w E.2.1 14 p3 ∧ zL_X9_arguments_p16 E L Q (w_p w 14 p3 3) (w_p w 14 p1 4) w)))
theorem zt_X9_arguments_p0 {E : zE} {L : Nat} {Q : kx_Rs → wS → Prop} {x1 : Option Nat} {w : wS} (hL : 23 ≤ L) (h : zb_X9_arguments_p0 E L Q x1 w) : kzE E L kt_M18 0 [(0, .ref (w_adr E.2.1 8 0)), (1, va_rf (x1))] [] w Q := by
  unfold zb_X9_arguments_p0 at h
  refine kz_aload_nv (M := kt_M18) (x := x1) kX9_arguments_c0.1 rfl ?_
  obtain ⟨p1, hxp1, hlp1, h⟩ := h
  refine kz_nz0 (x := x1) hxp1 ?_
  refine kz_gfp (M := kt_M18) (c := 14) (o := p1) kX9_arguments_c0.2.1 wf_X9_115 (.inr (by exact hlp1)) ?_
  obtain ⟨p2, hxp2, hlp2, h⟩ := h
  refine kz_nz0 (x := w_p w 14 p1 16) hxp2 ?_
  refine kz_gfp (M := kt_M18) (c := 15) (o := p2) kX9_arguments_c0.2.2.1 wf_X9_319 (.inr (by exact hlp2)) ?_
  obtain ⟨p3, hxp3, hlp3, h⟩ := h
  refine kz_nz0 (x := w_p w 15 p2 19) hxp3 ?_
  refine kz_gfp (M := kt_M18) (c := 14) (o := p3) kX9_arguments_c0.2.2.2.1 wf_X9_93 (.inr (by exact hlp3)) ?_
  refine kz_stv_n (M := kt_M18) (x := w_p w 14 p3 3) [(0, .ref (w_adr E.2.1 8 0)), (1, va_rf (x1))] kX9_arguments_c0.2.2.2.2.1 (Nat.le_of_ble_eq_true rfl) ⟨⟨rfl, rfl, .inl rfl⟩, ⟨⟨rfl, rfl, .inr (w_cat (x1))⟩, trivial⟩⟩ rfl ?_
  refine kz_aload_nv (M := kt_M18) (x := x1) kX9_arguments_c0.2.2.2.2.2.1 rfl ?_
  refine kz_nz0 (x := x1) hxp1 ?_
  refine kz_gfp (M := kt_M18) (c := 14) (o := p1) kX9_arguments_c0.2.2.2.2.2.2.1 wf_X9_112 (.inr (by exact hlp1)) ?_
  refine kz_stv_n (M := kt_M18) (x := w_p w 14 p1 4) [(0, .ref (w_adr E.2.1 8 0)), (2, va_rf (w_p w 14 p3 3))] kX9_arguments_c0.2.2.2.2.2.2.2.1 (Nat.le_of_ble_eq_true rfl) ⟨⟨rfl, rfl, .inl rfl⟩, ⟨⟨rfl, rfl, .inr (w_cat (w_p w 14 p3 3))⟩, trivial⟩⟩ rfl ?_
  exact kz_weak [(0, .ref (w_adr E.2.1 8 0)), (2, va_rf (w_p w 14 p3 3)), (3, va_rf (w_p w 14 p1 4))] ⟨rfl, ⟨rfl, ⟨rfl, trivial⟩⟩⟩ rfl h
def zb_X9_place_p127 (E : zE) (L : Nat) (Q : kx_Rs → wS → Prop) (w : wS) : Prop := Q (.inl none) w
theorem zt_X9_place_p127 {E : zE} {L : Nat} {Q : kx_Rs → wS → Prop} {w : wS} (hL : 23 ≤ L) (h : zb_X9_place_p127 E L Q  w) : kzE E L kt_M44 127 [(0, .ref (w_adr E.2.1 8 0))] [] w Q := by
  unfold zb_X9_place_p127 at h
  exact kz_ret (M := kt_M44) kX9_place_c7.2.2.2.2.1 rfl h
def zb_X9_place_p122 (E : zE) (L : Nat) (Q : kx_Rs → wS → Prop) (w : wS) : Prop := zw E (L - 21) kt_M24 [.ref (w_adr E.2.1 8 0), .int 4] w (wk0 (fun w1 => wle w w1 → zb_X9_place_p127 E L Q w1) (fun e w => Q (.inr e) w))
theorem zt_X9_place_p122 {E : zE} {L : Nat} {Q : kx_Rs → wS → Prop} {w : wS} (hL : 23 ≤ L) (h : zb_X9_place_p122 E L Q  w) : kzE E L kt_M44 122 [(0, .ref (w_adr E.2.1 8 0))] [] w Q := by
  unfold zb_X9_place_p122 at h
  refine kz_aload_n (M := kt_M44) kX9_place_c7.2.1 rfl ?_
  refine kz_ic (M := kt_M44) 4 kX9_place_c7.2.2.1 rfl ?_
  refine kz_cv0 (M := kt_M44) (c := 8) (o := 0) (As := [.int 4]) (rest := []) kX9_place_c7.2.2.2.1 wl_X9_137 wMv_24 rfl (.inl rfl) rfl (Nat.le_trans (Nat.le_of_ble_eq_true rfl) hL) (Nat.le_of_ble_eq_true rfl) (Nat.le_of_ble_eq_true rfl) h (fun w1 hle h => ?_) (fun _ _ _ h => kzx_no rfl h)
  have h := h hle
  exact kz_weak [(0, .ref (w_adr E.2.1 8 0))] ⟨rfl, trivial⟩ rfl (zt_X9_place_p127 hL  h)
def zb_X9_place_p90 (E : zE) (L : Nat) (Q : kx_Rs → wS → Prop) (y0 : Int32) (w : wS) : Prop := zw E (L - 21) kt_M24 [.ref (w_adr E.2.1 8 0), .int y0] w (wk0 (fun w1 => wle w w1 → zb_X9_place_p127 E L Q w1) (fun e w => Q (.inr e) w))
theorem zt_X9_place_p90 {E : zE} {L : Nat} {Q : kx_Rs → wS → Prop} {y0 : Int32} {w : wS} (hL : 23 ≤ L) (h : zb_X9_place_p90 E L Q y0 w) : kzE E L kt_M44 90 [(0, .ref (w_adr E.2.1 8 0))] [.int y0, .ref (w_adr E.2.1 8 0)] w Q := by
  unfold zb_X9_place_p90 at h
  refine kz_cv0 (M := kt_M44) (c := 8) (o := 0) (As := [.int y0]) (rest := []) kX9_place_c5.2.2.2.1 wl_X9_137 wMv_24 rfl (.inl rfl) rfl (Nat.le_trans (Nat.le_of_ble_eq_true rfl) hL) (Nat.le_of_ble_eq_true rfl) (Nat.le_of_ble_eq_true rfl) h (fun w1 hle h => ?_) (fun _ _ _ h => kzx_no rfl h)
  have h := h hle
  refine kz_goto (M := kt_M44) kX9_place_c5.2.2.2.2.1 (t := 127) rfl ?_
  exact kz_weak [(0, .ref (w_adr E.2.1 8 0))] ⟨rfl, trivial⟩ rfl (zt_X9_place_p127 hL  h)
def zb_X9_place_p46 (E : zE) (L : Nat) (Q : kx_Rs → wS → Prop) (y0 : Int32) (y1 : Int32) (w : wS) : Prop := zw E (L - 22) kt_M25 [.ref (w_adr E.2.1 8 0), .int y1, .int y0] w (wk0 (fun w1 => wle w w1 → zb_X9_place_p127 E L Q w1) (fun e w => Q (.inr e) w))
theorem zt_X9_place_p46 {E : zE} {L : Nat} {Q : kx_Rs → wS → Prop} {y0 : Int32} {y1 : Int32} {w : wS} (hL : 23 ≤ L) (h : zb_X9_place_p46 E L Q y0 y1 w) : kzE E L kt_M44 46 [(0, .ref (w_adr E.2.1 8 0))] [.int y0, .int y1, .ref (w_adr E.2.1 8 0)] w Q := by
  unfold zb_X9_place_p46 at h
  refine kz_cv0 (M := kt_M44) (c := 8) (o := 0) (As := [.int y1, .int y0]) (rest := []) kX9_place_c2.2.2.2.2.2.2.2.1 wl_X9_42 wMv_25 rfl (.inl rfl) rfl (Nat.le_trans (Nat.le_of_ble_eq_true rfl) hL) (Nat.le_of_ble_eq_true rfl) (Nat.le_of_ble_eq_true rfl) h (fun w1 hle h => ?_) (fun _ _ _ h => kzx_no rfl h)
  have h := h hle
  refine kz_goto (M := kt_M44) kX9_place_c3.1 (t := 127) rfl ?_
  exact kz_weak [(0, .ref (w_adr E.2.1 8 0))] ⟨rfl, trivial⟩ rfl (zt_X9_place_p127 hL  h)
def zb_X9_place_p27 (E : zE) (L : Nat) (Q : kx_Rs → wS → Prop) (x2 : Option Nat) (w : wS) : Prop := (w_p w 8 0 8 = some (w_adr E.2.1 5 0) ∧ (if ¬ x2 = w_p w 5 0 5 then zb_X9_place_p46 E L Q (-2) 2 w else zb_X9_place_p46 E L Q (-1) 2 w))
theorem zt_X9_place_p27 {E : zE} {L : Nat} {Q : kx_Rs → wS → Prop} {x2 : Option Nat} {w : wS} (hL : 23 ≤ L) (h : zb_X9_place_p27 E L Q x2 w) : kzE E L kt_M44 27 [(0, .ref (w_adr E.2.1 8 0)), (2, va_rf (x2))] [] w Q := by
  unfold zb_X9_place_p27 at h
  refine kz_aload_n (M := kt_M44) kX9_place_c1.2.2.2.2.2.1 rfl ?_
  refine kz_ic (M := kt_M44) 2 kX9_place_c1.2.2.2.2.2.2.1 rfl ?_
  refine kz_aload_nv (M := kt_M44) (x := x2) kX9_place_c1.2.2.2.2.2.2.2.1 rfl ?_
  refine kz_aload_n (M := kt_M44) kX9_place_c2.1 rfl ?_
  refine kz_gfp (M := kt_M44) (c := 8) (o := 0) kX9_place_c2.2.1 wf_X9_75 (.inl rfl) ?_
  obtain ⟨hf1, h⟩ := h
  refine kz_nz0 (x := w_p w 8 0 8) hf1 ?_
  refine kz_gfp (M := kt_M44) (c := 5) (o := 0) kX9_place_c2.2.2.1 wf_X9_325 (.inl rfl) ?_
  refine kz_acmp_ne (M := kt_M44) (x := x2) (y := w_p w 5 0 5) kX9_place_c2.2.2.2.1 (t := 44) rfl h (fun h => ?_) (fun h => ?_)
  · skip
    refine kz_bi (M := kt_M44) (-2) kX9_place_c2.2.2.2.2.2.2.1 rfl ?_
    exact kz_weak [(0, .ref (w_adr E.2.1 8 0))] ⟨rfl, trivial⟩ rfl (zt_X9_place_p46 hL  h)
  · skip
    refine kz_ic (M := kt_M44) (-1) kX9_place_c2.2.2.2.2.1 rfl ?_
    refine kz_goto (M := kt_M44) kX9_place_c2.2.2.2.2.2.1 (t := 46) rfl ?_
    exact kz_weak [(0, .ref (w_adr E.2.1 8 0))] ⟨rfl, trivial⟩ rfl (zt_X9_place_p46 hL  h)
def zb_X9_place_p0 (E : zE) (L : Nat) (Q : kx_Rs → wS → Prop) (x1 : Option Nat) (w : wS) : Prop := (∃ p1, x1 = some p1 ∧ w_l w E.2.1 14 p1 ∧ (w_p w 8 0 8 = some (w_adr E.2.1 5 0) ∧ (if w_p w 14 p1 16 = w_p w 5 0 5 then zb_X9_place_p27 E L Q (w_p w 14 p1 16) w else (if ¬ w_p w 14 p1 16 = w_p w 5 0 6 then (if (w_p w 14 p1 3) = none then (∃ p3, w_p w 14 p1 16 = some p3 ∧ w_l w E.2.1 15 p3 ∧ zw E (L - 22) kt_M36 [.ref (w_adr E.2.1 8 0), va_rf (w_p w 15 p3 20), .int (w_i w 15 p3 21)] w (wk0 (fun w4 => wle w w4 → (if ¬ w_i w4 15 p3 11 = 0 then zb_X9_place_p122 E L Q w4 else (if w_i w4 15 p3 14 = 0 then zb_X9_place_p127 E L Q w4 else zb_X9_place_p122 E L Q w4))) (fun e w => Q (.inr e) w))) else zw E (L - 21) kt_M42 [.ref (w_adr E.2.1 8 0), va_rf (w_p w 14 p1 16)] w (wk0 (fun w6 => wle w w6 → zw E (L - 23) kt_M27 [.ref (w_adr E.2.1 8 0), va_rf (w_p w6 14 p1 3)] w6 (wk0 (fun w8 => wle w6 w8 → (∃ p10, w_p w 14 p1 16 = some p10 ∧ w_l w8 E.2.1 15 p10 ∧ (if ¬ w_p w8 15 p10 0 = some (E.1.1 53) then zb_X9_place_p90 E L Q 6 w8 else zb_X9_place_p90 E L Q 7 w8))) (fun e w => Q (.inr e) w))) (fun e w => Q (.inr e) w))) else zb_X9_place_p27 E L Q (w_p w 14 p1 16) w))))
theorem zt_X9_place_p0 {E : zE} {L : Nat} {Q : kx_Rs → wS → Prop} {x1 : Option Nat} {w : wS} (hL : 23 ≤ L) (h : zb_X9_place_p0 E L Q x1 w) : kzE E L kt_M44 0 [(0, .ref (w_adr E.2.1 8 0)), (1, va_rf (x1))] [] w Q := by
  unfold zb_X9_place_p0 at h
  refine kz_aload_nv (M := kt_M44) (x := x1) kX9_place_c0.1 rfl ?_
  obtain ⟨p1, hxp1, hlp1, h⟩ := h
  refine kz_nz0 (x := x1) hxp1 ?_
  refine kz_gfp (M := kt_M44) (c := 14) (o := p1) kX9_place_c0.2.1 wf_X9_115 (.inr (by exact hlp1)) ?_
  refine kz_stv_n (M := kt_M44) (x := w_p w 14 p1 16) [(0, .ref (w_adr E.2.1 8 0)), (1, va_rf (x1))] kX9_place_c0.2.2.1 (Nat.le_of_ble_eq_true rfl) ⟨⟨rfl, rfl, .inl rfl⟩, ⟨⟨rfl, rfl, .inr (w_cat (x1))⟩, trivial⟩⟩ rfl ?_
  refine kz_aload_nv (M := kt_M44) (x := w_p w 14 p1 16) kX9_place_c0.2.2.2.1 rfl ?_
  refine kz_aload_n (M := kt_M44) kX9_place_c0.2.2.2.2.1 rfl ?_
  refine kz_gfp (M := kt_M44) (c := 8) (o := 0) kX9_place_c0.2.2.2.2.2.1 wf_X9_75 (.inl rfl) ?_
  obtain ⟨hf2, h⟩ := h
  refine kz_nz0 (x := w_p w 8 0 8) hf2 ?_
  refine kz_gfp (M := kt_M44) (c := 5) (o := 0) kX9_place_c0.2.2.2.2.2.2.1 wf_X9_325 (.inl rfl) ?_
  refine kz_acmp_eq (M := kt_M44) (x := w_p w 14 p1 16) (y := w_p w 5 0 5) kX9_place_c0.2.2.2.2.2.2.2.1 (t := 27) rfl h (fun h => ?_) (fun h => ?_)
  · skip
    exact kz_weak [(0, .ref (w_adr E.2.1 8 0)), (2, va_rf (w_p w 14 p1 16))] ⟨rfl, ⟨rfl, trivial⟩⟩ rfl (zt_X9_place_p27 hL  h)
  · skip
    refine kz_aload_nv (M := kt_M44) (x := w_p w 14 p1 16) kX9_place_c1.1 rfl ?_
    refine kz_aload_n (M := kt_M44) kX9_place_c1.2.1 rfl ?_
    refine kz_gfp (M := kt_M44) (c := 8) (o := 0) kX9_place_c1.2.2.1 wf_X9_75 (.inl rfl) ?_
    refine kz_nz0 (x := w_p w 8 0 8) hf2 ?_
    refine kz_gfp (M := kt_M44) (c := 5) (o := 0) kX9_place_c1.2.2.2.1 wf_X9_330 (.inl rfl) ?_
    refine kz_acmp_ne (M := kt_M44) (x := w_p w 14 p1 16) (y := w_p w 5 0 6) kX9_place_c1.2.2.2.2.1 (t := 52) rfl h (fun h => ?_) (fun h => ?_)
    · skip
      refine kz_aload_nv (M := kt_M44) (x := x1) kX9_place_c3.2.1 rfl ?_
      refine kz_nz0 (x := x1) hxp1 ?_
      refine kz_gfp (M := kt_M44) (c := 14) (o := p1) kX9_place_c3.2.2.1 wf_X9_93 (.inr (by exact hlp1)) ?_
      refine kz_ifnull (M := kt_M44) (x := w_p w 14 p1 3) kX9_place_c3.2.2.2.1 (t := 96) rfl h (fun h => ?_) (fun h => ?_)
      · skip
        refine kz_aload_n (M := kt_M44) kX9_place_c5.2.2.2.2.2.1 rfl ?_
        refine kz_aload_nv (M := kt_M44) (x := w_p w 14 p1 16) kX9_place_c5.2.2.2.2.2.2.1 rfl ?_
        obtain ⟨p3, hxp3, hlp3, h⟩ := h
        refine kz_nz0 (x := w_p w 14 p1 16) hxp3 ?_
        refine kz_gfp (M := kt_M44) (c := 15) (o := p3) kX9_place_c5.2.2.2.2.2.2.2.1 wf_X9_145 (.inr (by exact hlp3)) ?_
        refine kz_aload_nv (M := kt_M44) (x := w_p w 14 p1 16) kX9_place_c6.1 rfl ?_
        refine kz_nz0 (x := w_p w 14 p1 16) hxp3 ?_
        refine kz_gfi (M := kt_M44) (c := 15) (o := p3) kX9_place_c6.2.1 wf_X9_119 (.inr (by exact hlp3)) ?_
        refine kz_cv0 (M := kt_M44) (c := 8) (o := 0) (As := [va_rf (w_p w 15 p3 20), .int (w_i w 15 p3 21)]) (rest := []) kX9_place_c6.2.2.1 wl_X9_182 wMv_36 rfl (.inl rfl) rfl (Nat.le_trans (Nat.le_of_ble_eq_true rfl) hL) (by simp [lg_sl, w_cat, z_ci, z_cr, z_cl, z_cn, kt_M36]) (Nat.le_of_ble_eq_true rfl) h (fun w4 hle h => ?_) (fun _ _ _ h => kzx_no rfl h)
        have h := h hle
        have hlp1 := w_l_le hlp1 hle
        have hlp3 := w_l_le hlp3 hle
        refine kz_aload_nv (M := kt_M44) (x := w_p w 14 p1 16) kX9_place_c6.2.2.2.1 rfl ?_
        refine kz_nz0 (x := w_p w 14 p1 16) hxp3 ?_
        refine kz_gfi (M := kt_M44) (c := 15) (o := p3) kX9_place_c6.2.2.2.2.1 wf_X9_333 (.inr (by exact hlp3)) ?_
        refine kz_if_ne (M := kt_M44) kX9_place_c6.2.2.2.2.2.1 (t := 122) rfl h (fun h => ?_) (fun h => ?_)
        · skip
          exact kz_weak [(0, .ref (w_adr E.2.1 8 0))] ⟨rfl, trivial⟩ rfl (zt_X9_place_p122 hL  h)
        · skip
          refine kz_aload_nv (M := kt_M44) (x := w_p w 14 p1 16) kX9_place_c6.2.2.2.2.2.2.1 rfl ?_
          refine kz_nz0 (x := w_p w 14 p1 16) hxp3 ?_
          refine kz_gfi (M := kt_M44) (c := 15) (o := p3) kX9_place_c6.2.2.2.2.2.2.2.1 wf_X9_336 (.inr (by exact hlp3)) ?_
          refine kz_if_eq (M := kt_M44) kX9_place_c7.1 (t := 127) rfl h (fun h => ?_) (fun h => ?_)
          · skip
            exact kz_weak [(0, .ref (w_adr E.2.1 8 0))] ⟨rfl, trivial⟩ rfl (zt_X9_place_p127 hL  h)
          · skip
            exact kz_weak [(0, .ref (w_adr E.2.1 8 0))] ⟨rfl, trivial⟩ rfl (zt_X9_place_p122 hL  h)
      · skip
        refine kz_aload_n (M := kt_M44) kX9_place_c3.2.2.2.2.1 rfl ?_
        refine kz_aload_nv (M := kt_M44) (x := w_p w 14 p1 16) kX9_place_c3.2.2.2.2.2.1 rfl ?_
        refine kz_cv0 (M := kt_M44) (c := 8) (o := 0) (As := [va_rf (w_p w 14 p1 16)]) (rest := []) kX9_place_c3.2.2.2.2.2.2.1 wl_X9_175 wMv_42 rfl (.inl rfl) rfl (Nat.le_trans (Nat.le_of_ble_eq_true rfl) hL) (by simp [lg_sl, w_cat, z_ci, z_cr, z_cl, z_cn, kt_M42]) (Nat.le_of_ble_eq_true rfl) h (fun w6 hle h => ?_) (fun _ _ _ h => kzx_no rfl h)
        have h := h hle
        have hlp1 := w_l_le hlp1 hle
        refine kz_aload_n (M := kt_M44) kX9_place_c3.2.2.2.2.2.2.2.1 rfl ?_
        refine kz_aload_nv (M := kt_M44) (x := x1) kX9_place_c4.1 rfl ?_
        refine kz_nz0 (x := x1) hxp1 ?_
        refine kz_gfp (M := kt_M44) (c := 14) (o := p1) kX9_place_c4.2.1 wf_X9_93 (.inr (by exact hlp1)) ?_
        refine kz_cv0 (M := kt_M44) (c := 8) (o := 0) (As := [va_rf (w_p w6 14 p1 3)]) (rest := []) kX9_place_c4.2.2.1 wl_X9_200 wMv_27 rfl (.inl rfl) rfl (Nat.le_trans (Nat.le_of_ble_eq_true rfl) hL) (by simp [lg_sl, w_cat, z_ci, z_cr, z_cl, z_cn, kt_M27]) (Nat.le_of_ble_eq_true rfl) h (fun w8 hle h => ?_) (fun _ _ _ h => kzx_no rfl h)
        have h := h hle
        have hlp1 := w_l_le hlp1 hle
        refine kz_aload_n (M := kt_M44) kX9_place_c4.2.2.2.1 rfl ?_
        refine kz_aload_nv (M := kt_M44) (x := w_p w 14 p1 16) kX9_place_c4.2.2.2.2.1 rfl ?_
        obtain ⟨p10, hxp10, hlp10, h⟩ := h
        refine kz_nz0 (x := w_p w 14 p1 16) hxp10 ?_
        refine kz_gfp (M := kt_M44) (c := 15) (o := p10) kX9_place_c4.2.2.2.2.2.1 wf_X9_245 (.inr (by exact hlp10)) ?_
        refine kz_getsE (M := kt_M44) (v := va_rf (some (E.1.1 53))) kX9_place_c4.2.2.2.2.2.2.1 zs_X9_249 ?_
        refine kz_acmp_ne (M := kt_M44) (x := w_p w8 15 p10 0) (y := some (E.1.1 53)) kX9_place_c4.2.2.2.2.2.2.2.1 (t := 88) rfl h (fun h => ?_) (fun h => ?_)
        · skip
          refine kz_bi (M := kt_M44) 6 kX9_place_c5.2.2.1 rfl ?_
          exact kz_weak [(0, .ref (w_adr E.2.1 8 0))] ⟨rfl, trivial⟩ rfl (zt_X9_place_p90 hL  h)
        · skip
          refine kz_bi (M := kt_M44) 7 kX9_place_c5.1 rfl ?_
          refine kz_goto (M := kt_M44) kX9_place_c5.2.1 (t := 90) rfl ?_
          exact kz_weak [(0, .ref (w_adr E.2.1 8 0))] ⟨rfl, trivial⟩ rfl (zt_X9_place_p90 hL  h)
    · skip
      exact kz_weak [(0, .ref (w_adr E.2.1 8 0)), (2, va_rf (w_p w 14 p1 16))] ⟨rfl, ⟨rfl, trivial⟩⟩ rfl (zt_X9_place_p27 hL  h)
def zL_X9_routine_p320 (E : zE) (L : Nat) (Q : kx_Rs → wS → Prop) (x2 : Option Nat) (x3 : Int32) (x4 : Int32) (x6 : Option Nat) (w : wS) : Prop := kzE E L kt_M47 320 [(0, .ref (w_adr E.2.1 8 0)), (2, va_rf (x2)), (3, .int x3), (4, .int x4), (6, va_rf (x6))] [] w Q
def zL_X9_routine_p258 (E : zE) (L : Nat) (Q : kx_Rs → wS → Prop) (x1 : Option Nat) (x2 : Option Nat) (x3 : Int32) (x4 : Int32) (x5 : Int32) (x6 : Option Nat) (w : wS) : Prop := kzE E L kt_M47 258 [(0, .ref (w_adr E.2.1 8 0)), (1, va_rf (x1)), (2, va_rf (x2)), (3, .int x3), (4, .int x4), (5, .int x5), (6, va_rf (x6))] [] w Q
def zL_X9_routine_p182 (E : zE) (L : Nat) (Q : kx_Rs → wS → Prop) (x1 : Option Nat) (x2 : Option Nat) (x3 : Int32) (x4 : Option Nat) (w : wS) : Prop := kzE E L kt_M47 182 [(0, .ref (w_adr E.2.1 8 0)), (1, va_rf (x1)), (2, va_rf (x2)), (3, .int x3), (4, va_rf (x4))] [] w Q
def zL_X9_routine_p49 (E : zE) (L : Nat) (Q : kx_Rs → wS → Prop) (x1 : Option Nat) (x2 : Option Nat) (x3 : Int32) (x4 : Option Nat) (w : wS) : Prop := kzE E L kt_M47 49 [(0, .ref (w_adr E.2.1 8 0)), (1, va_rf (x1)), (2, va_rf (x2)), (3, .int x3), (4, va_rf (x4))] [] w Q
def zb_X9_routine_p362 (E : zE) (L : Nat) (Q : kx_Rs → wS → Prop) (x2 : Option Nat) (x3 : Int32) (x4 : Int32) (x6 : Option Nat) (w : wS) : Prop := (∃ p1, x6 = some p1 ∧ w_l w E.2.1 14 p1 ∧ zL_X9_routine_p320 E L Q x2 x3 x4 (w_p w 14 p1 7) w)
theorem zt_X9_routine_p362 {E : zE} {L : Nat} {Q : kx_Rs → wS → Prop} {x2 : Option Nat} {x3 : Int32} {x4 : Int32} {x6 : Option Nat} {w : wS} (hL : 25 ≤ L) (h : zb_X9_routine_p362 E L Q x2 x3 x4 x6 w) : kzE E L kt_M47 362 [(0, .ref (w_adr E.2.1 8 0)), (2, va_rf (x2)), (3, .int x3), (4, .int x4), (6, va_rf (x6))] [] w Q := by
  unfold zb_X9_routine_p362 at h
  refine kz_aloadv (M := kt_M47) (x := x6) kX9_routine_c20.2.2.2.1 rfl ?_
  obtain ⟨p1, hxp1, hlp1, h⟩ := h
  refine kz_nz0 (x := x6) hxp1 ?_
  refine kz_gfp (M := kt_M47) (c := 14) (o := p1) kX9_routine_c20.2.2.2.2.1 wf_X9_129 (.inr (by exact hlp1)) ?_
  refine kz_stv (M := kt_M47) (x := w_p w 14 p1 7) [(0, .ref (w_adr E.2.1 8 0)), (2, va_rf (x2)), (3, .int x3), (4, .int x4)] kX9_routine_c20.2.2.2.2.2.1 (Nat.le_of_ble_eq_true rfl) ⟨⟨rfl, rfl, .inl rfl⟩, ⟨⟨rfl, rfl, .inl rfl⟩, ⟨⟨rfl, rfl, .inl rfl⟩, ⟨⟨rfl, rfl, .inl rfl⟩, trivial⟩⟩⟩⟩ rfl ?_
  refine kz_goto (M := kt_M47) kX9_routine_c20.2.2.2.2.2.2.1 (t := 320) rfl ?_
  exact kz_weak [(0, .ref (w_adr E.2.1 8 0)), (2, va_rf (x2)), (3, .int x3), (4, .int x4), (6, va_rf (w_p w 14 p1 7))] ⟨rfl, ⟨rfl, ⟨rfl, ⟨rfl, ⟨rfl, trivial⟩⟩⟩⟩⟩ rfl h
def zb_X9_routine_p320 (E : zE) (L : Nat) (Q : kx_Rs → wS → Prop) (x2 : Option Nat) (x3 : Int32) (x4 : Int32) (x6 : Option Nat) (w : wS) : Prop := (if x6 = none then (∃ p1, w_p w 8 0 7 = some p1 ∧ w_l w E.2.1 16 p1 ∧ zw E (L - 21) kt_M33 [.ref (w_adr E.2.1 8 0), .int x3] (ws_p (ws_i w 16 p1 6 x4) 8 0 7 x2) (wk0 (fun w2 => wle (ws_p (ws_i w 16 p1 6 x4) 8 0 7 x2) w2 → Q (.inl none) w2) (fun e w => Q (.inr e) w))) else (∃ p4, x6 = some p4 ∧ w_l w E.2.1 14 p4 ∧ (∃ p5, w_p w 14 p4 16 = some p5 ∧ w_l w E.2.1 15 p5 ∧ (if w_i w 15 p5 12 = 0 then zb_X9_routine_p362 E L Q x2 x3 x4 x6 w else (if w_i w 15 p5 9 = 0 then zb_X9_routine_p362 E L Q x2 x3 x4 x6 w else zw E (L - 22) kt_M219 [.ref (w_adr E.2.1 9 0), .int (w_i w 15 p5 21)] w (wk0 (fun w6 => wle w w6 → zb_X9_routine_p362 E L Q x2 x3 x4 x6 w6) (fun e w => Q (.inr e) w)))))))
theorem zt_X9_routine_p320 {E : zE} {L : Nat} {Q : kx_Rs → wS → Prop} {x2 : Option Nat} {x3 : Int32} {x4 : Int32} {x6 : Option Nat} {w : wS} (hL : 25 ≤ L) (h : zb_X9_routine_p320 E L Q x2 x3 x4 x6 w) : kzE E L kt_M47 320 [(0, .ref (w_adr E.2.1 8 0)), (2, va_rf (x2)), (3, .int x3), (4, .int x4), (6, va_rf (x6))] [] w Q := by
  unfold zb_X9_routine_p320 at h
  refine kz_aloadv (M := kt_M47) (x := x6) kX9_routine_c18.2.2.2.1 rfl ?_
  refine kz_ifnull (M := kt_M47) (x := x6) kX9_routine_c18.2.2.2.2.1 (t := 372) rfl h (fun h => ?_) (fun h => ?_)
  · skip
    refine kz_aload_n (M := kt_M47) kX9_routine_c20.2.2.2.2.2.2.2.1 rfl ?_
    refine kz_gfp (M := kt_M47) (c := 8) (o := 0) kX9_routine_c21.1 wf_X9_88 (.inl rfl) ?_
    refine kz_iload (M := kt_M47) kX9_routine_c21.2.1 rfl ?_
    obtain ⟨p1, hxp1, hlp1, h⟩ := h
    refine kz_nz1 (x := w_p w 8 0 7) hxp1 ?_
    refine kz_pfi (M := kt_M47) (c := 16) (o := p1) kX9_routine_c21.2.2.1 wq_X9_233 (.inr (by exact hlp1)) ?_
    refine kz_aload_n (M := kt_M47) kX9_routine_c21.2.2.2.1 rfl ?_
    refine kz_aload_nv (M := kt_M47) (x := x2) kX9_routine_c21.2.2.2.2.1 rfl ?_
    refine kz_pfp (M := kt_M47) (n := x2) (c := 8) (o := 0) kX9_routine_c21.2.2.2.2.2.1 wq_X9_88 (.inl rfl) ?_
    refine kz_aload_n (M := kt_M47) kX9_routine_c21.2.2.2.2.2.2.1 rfl ?_
    refine kz_iload_n (M := kt_M47) kX9_routine_c21.2.2.2.2.2.2.2.1 rfl ?_
    refine kz_cv0 (M := kt_M47) (c := 8) (o := 0) (As := [.int x3]) (rest := []) kX9_routine_c22.1 wl_X9_236 wMv_33 rfl (.inl rfl) rfl (Nat.le_trans (Nat.le_of_ble_eq_true rfl) hL) (Nat.le_of_ble_eq_true rfl) (Nat.le_of_ble_eq_true rfl) h (fun w2 hle h => ?_) (fun _ _ _ h => kzx_no rfl h)
    have h := h hle
    have hlp1 := w_l_le hlp1 hle
    exact kz_ret (M := kt_M47) kX9_routine_c22.2.1 rfl h
  · skip
    refine kz_aloadv (M := kt_M47) (x := x6) kX9_routine_c18.2.2.2.2.2.1 rfl ?_
    obtain ⟨p4, hxp4, hlp4, h⟩ := h
    refine kz_nz0 (x := x6) hxp4 ?_
    refine kz_gfp (M := kt_M47) (c := 14) (o := p4) kX9_routine_c18.2.2.2.2.2.2.1 wf_X9_115 (.inr (by exact hlp4)) ?_
    obtain ⟨p5, hxp5, hlp5, h⟩ := h
    refine kz_nz0 (x := w_p w 14 p4 16) hxp5 ?_
    refine kz_gfi (M := kt_M47) (c := 15) (o := p5) kX9_routine_c18.2.2.2.2.2.2.2.1 wf_X9_230 (.inr (by exact hlp5)) ?_
    refine kz_if_eq (M := kt_M47) kX9_routine_c19.1 (t := 362) rfl h (fun h => ?_) (fun h => ?_)
    · skip
      exact kz_weak [(0, .ref (w_adr E.2.1 8 0)), (2, va_rf (x2)), (3, .int x3), (4, .int x4), (6, va_rf (x6))] ⟨rfl, ⟨rfl, ⟨rfl, ⟨rfl, ⟨rfl, trivial⟩⟩⟩⟩⟩ rfl (zt_X9_routine_p362 hL  h)
    · skip
      refine kz_aloadv (M := kt_M47) (x := x6) kX9_routine_c19.2.1 rfl ?_
      refine kz_nz0 (x := x6) hxp4 ?_
      refine kz_gfp (M := kt_M47) (c := 14) (o := p4) kX9_routine_c19.2.2.1 wf_X9_115 (.inr (by exact hlp4)) ?_
      refine kz_nz0 (x := w_p w 14 p4 16) hxp5 ?_
      refine kz_gfi (M := kt_M47) (c := 15) (o := p5) kX9_routine_c19.2.2.2.1 wf_X9_124 (.inr (by exact hlp5)) ?_
      refine kz_if_eq (M := kt_M47) kX9_routine_c19.2.2.2.2.1 (t := 362) rfl h (fun h => ?_) (fun h => ?_)
      · skip
        exact kz_weak [(0, .ref (w_adr E.2.1 8 0)), (2, va_rf (x2)), (3, .int x3), (4, .int x4), (6, va_rf (x6))] ⟨rfl, ⟨rfl, ⟨rfl, ⟨rfl, ⟨rfl, trivial⟩⟩⟩⟩⟩ rfl (zt_X9_routine_p362 hL  h)
      · skip
        refine kz_aload_n (M := kt_M47) kX9_routine_c19.2.2.2.2.2.1 rfl ?_
        refine kz_gfc (M := kt_M47) (x := 36) (c := 8) (o := 0) kX9_routine_c19.2.2.2.2.2.2.1 wf_X9_12 (.inl rfl) ?_
        refine kz_aloadv (M := kt_M47) (x := x6) kX9_routine_c19.2.2.2.2.2.2.2.1 rfl ?_
        refine kz_nz0 (x := x6) hxp4 ?_
        refine kz_gfp (M := kt_M47) (c := 14) (o := p4) kX9_routine_c20.1 wf_X9_115 (.inr (by exact hlp4)) ?_
        refine kz_nz0 (x := w_p w 14 p4 16) hxp5 ?_
        refine kz_gfi (M := kt_M47) (c := 15) (o := p5) kX9_routine_c20.2.1 wf_X9_119 (.inr (by exact hlp5)) ?_
        refine kz_cv0 (M := kt_M47) (c := 9) (o := 0) (As := [.int (w_i w 15 p5 21)]) (rest := []) kX9_routine_c20.2.2.1 wl_X9_38 wMv_219 rfl (.inl rfl) rfl (Nat.le_trans (Nat.le_of_ble_eq_true rfl) hL) (Nat.le_of_ble_eq_true rfl) (Nat.le_of_ble_eq_true rfl) h (fun w6 hle h => ?_) (fun _ _ _ h => kzx_no rfl h)
        have h := h hle
        have hlp4 := w_l_le hlp4 hle
        have hlp5 := w_l_le hlp5 hle
        exact kz_weak [(0, .ref (w_adr E.2.1 8 0)), (2, va_rf (x2)), (3, .int x3), (4, .int x4), (6, va_rf (x6))] ⟨rfl, ⟨rfl, ⟨rfl, ⟨rfl, ⟨rfl, trivial⟩⟩⟩⟩⟩ rfl (zt_X9_routine_p362 hL  h)
def zb_X9_routine_p292 (E : zE) (L : Nat) (Q : kx_Rs → wS → Prop) (x1 : Option Nat) (x2 : Option Nat) (x3 : Int32) (x4 : Int32) (x6 : Option Nat) (y0 : Int32) (y1 : Int32) (w : wS) : Prop := (∃ p1, x6 = some p1 ∧ w_l w E.2.1 14 p1 ∧ zL_X9_routine_p258 E L Q x1 x2 x3 x4 (y1 + y0) (w_p w 14 p1 7) w)
theorem zt_X9_routine_p292 {E : zE} {L : Nat} {Q : kx_Rs → wS → Prop} {x1 : Option Nat} {x2 : Option Nat} {x3 : Int32} {x4 : Int32} {x6 : Option Nat} {y0 : Int32} {y1 : Int32} {w : wS} (hL : 25 ≤ L) (h : zb_X9_routine_p292 E L Q x1 x2 x3 x4 x6 y0 y1 w) : kzE E L kt_M47 292 [(0, .ref (w_adr E.2.1 8 0)), (1, va_rf (x1)), (2, va_rf (x2)), (3, .int x3), (4, .int x4), (6, va_rf (x6))] [.int y0, .int y1] w Q := by
  unfold zb_X9_routine_p292 at h
  refine kz_iadd (M := kt_M47) kX9_routine_c16.2.2.2.2.2.2.1 ?_
  refine kz_sti (M := kt_M47) [(0, .ref (w_adr E.2.1 8 0)), (1, va_rf (x1)), (2, va_rf (x2)), (3, .int x3), (4, .int x4), (6, va_rf (x6))] kX9_routine_c16.2.2.2.2.2.2.2.1 (Nat.le_of_ble_eq_true rfl) ⟨⟨rfl, rfl, .inl rfl⟩, ⟨⟨rfl, rfl, .inl rfl⟩, ⟨⟨rfl, rfl, .inl rfl⟩, ⟨⟨rfl, rfl, .inl rfl⟩, ⟨⟨rfl, rfl, .inr rfl⟩, ⟨⟨rfl, rfl, .inl rfl⟩, trivial⟩⟩⟩⟩⟩⟩ rfl ?_
  refine kz_aloadv (M := kt_M47) (x := x6) kX9_routine_c17.1 rfl ?_
  obtain ⟨p1, hxp1, hlp1, h⟩ := h
  refine kz_nz0 (x := x6) hxp1 ?_
  refine kz_gfp (M := kt_M47) (c := 14) (o := p1) kX9_routine_c17.2.1 wf_X9_129 (.inr (by exact hlp1)) ?_
  refine kz_stv (M := kt_M47) (x := w_p w 14 p1 7) [(0, .ref (w_adr E.2.1 8 0)), (1, va_rf (x1)), (2, va_rf (x2)), (3, .int x3), (4, .int x4), (5, .int (y1 + y0))] kX9_routine_c17.2.2.1 (Nat.le_of_ble_eq_true rfl) ⟨⟨rfl, rfl, .inl rfl⟩, ⟨⟨rfl, rfl, .inl rfl⟩, ⟨⟨rfl, rfl, .inl rfl⟩, ⟨⟨rfl, rfl, .inl rfl⟩, ⟨⟨rfl, rfl, .inl rfl⟩, ⟨⟨rfl, rfl, .inr rfl⟩, trivial⟩⟩⟩⟩⟩⟩ rfl ?_
  refine kz_goto (M := kt_M47) kX9_routine_c17.2.2.2.1 (t := 258) rfl ?_
  exact kz_weak [(0, .ref (w_adr E.2.1 8 0)), (1, va_rf (x1)), (2, va_rf (x2)), (3, .int x3), (4, .int x4), (5, .int (y1 + y0)), (6, va_rf (w_p w 14 p1 7))] ⟨rfl, ⟨rfl, ⟨rfl, ⟨rfl, ⟨rfl, ⟨rfl, ⟨rfl, trivial⟩⟩⟩⟩⟩⟩⟩ rfl h
def zb_X9_routine_p291 (E : zE) (L : Nat) (Q : kx_Rs → wS → Prop) (x1 : Option Nat) (x2 : Option Nat) (x3 : Int32) (x4 : Int32) (x6 : Option Nat) (y0 : Int32) (w : wS) : Prop := zb_X9_routine_p292 E L Q x1 x2 x3 x4 x6 0 y0 w
theorem zt_X9_routine_p291 {E : zE} {L : Nat} {Q : kx_Rs → wS → Prop} {x1 : Option Nat} {x2 : Option Nat} {x3 : Int32} {x4 : Int32} {x6 : Option Nat} {y0 : Int32} {w : wS} (hL : 25 ≤ L) (h : zb_X9_routine_p291 E L Q x1 x2 x3 x4 x6 y0 w) : kzE E L kt_M47 291 [(0, .ref (w_adr E.2.1 8 0)), (1, va_rf (x1)), (2, va_rf (x2)), (3, .int x3), (4, .int x4), (6, va_rf (x6))] [.int y0] w Q := by
  unfold zb_X9_routine_p291 at h
  refine kz_ic (M := kt_M47) 0 kX9_routine_c16.2.2.2.2.2.1 rfl ?_
  exact kz_weak [(0, .ref (w_adr E.2.1 8 0)), (1, va_rf (x1)), (2, va_rf (x2)), (3, .int x3), (4, .int x4), (6, va_rf (x6))] ⟨rfl, ⟨rfl, ⟨rfl, ⟨rfl, ⟨rfl, ⟨rfl, trivial⟩⟩⟩⟩⟩⟩ rfl (zt_X9_routine_p292 hL  h)
def zb_X9_routine_p258 (E : zE) (L : Nat) (Q : kx_Rs → wS → Prop) (x1 : Option Nat) (x2 : Option Nat) (x3 : Int32) (x4 : Int32) (x5 : Int32) (x6 : Option Nat) (w : wS) : Prop := (if x6 = none then zw E (L - 22) kt_M219 [.ref (w_adr E.2.1 9 0), .int x5] w (wk0 (fun w1 => wle w w1 → (∃ p3, x1 = some p3 ∧ w_l w1 E.2.1 14 p3 ∧ zL_X9_routine_p320 E L Q x2 x3 x4 (w_p w1 14 p3 3) w1)) (fun e w => Q (.inr e) w)) else (∃ p4, x6 = some p4 ∧ w_l w E.2.1 14 p4 ∧ (∃ p5, w_p w 14 p4 16 = some p5 ∧ w_l w E.2.1 15 p5 ∧ (if w_i w 15 p5 12 = 0 then zb_X9_routine_p291 E L Q x1 x2 x3 x4 x6 x5 w else (if w_i w 15 p5 9 = 0 then zb_X9_routine_p291 E L Q x1 x2 x3 x4 x6 x5 w else zb_X9_routine_p292 E L Q x1 x2 x3 x4 x6 1 x5 w)))))
theorem zt_X9_routine_p258 {E : zE} {L : Nat} {Q : kx_Rs → wS → Prop} {x1 : Option Nat} {x2 : Option Nat} {x3 : Int32} {x4 : Int32} {x5 : Int32} {x6 : Option Nat} {w : wS} (hL : 25 ≤ L) (h : zb_X9_routine_p258 E L Q x1 x2 x3 x4 x5 x6 w) : kzE E L kt_M47 258 [(0, .ref (w_adr E.2.1 8 0)), (1, va_rf (x1)), (2, va_rf (x2)), (3, .int x3), (4, .int x4), (5, .int x5), (6, va_rf (x6))] [] w Q := by
  unfold zb_X9_routine_p258 at h
  refine kz_aloadv (M := kt_M47) (x := x6) kX9_routine_c15.1 rfl ?_
  refine kz_ifnull (M := kt_M47) (x := x6) kX9_routine_c15.2.1 (t := 305) rfl h (fun h => ?_) (fun h => ?_)
  · skip
    refine kz_aload_n (M := kt_M47) kX9_routine_c17.2.2.2.2.1 rfl ?_
    refine kz_gfc (M := kt_M47) (x := 36) (c := 8) (o := 0) kX9_routine_c17.2.2.2.2.2.1 wf_X9_12 (.inl rfl) ?_
    refine kz_iload (M := kt_M47) kX9_routine_c17.2.2.2.2.2.2.1 rfl ?_
    refine kz_cv0 (M := kt_M47) (c := 9) (o := 0) (As := [.int x5]) (rest := []) kX9_routine_c17.2.2.2.2.2.2.2.1 wl_X9_38 wMv_219 rfl (.inl rfl) rfl (Nat.le_trans (Nat.le_of_ble_eq_true rfl) hL) (Nat.le_of_ble_eq_true rfl) (Nat.le_of_ble_eq_true rfl) h (fun w1 hle h => ?_) (fun _ _ _ h => kzx_no rfl h)
    have h := h hle
    refine kz_aload_nv (M := kt_M47) (x := x1) kX9_routine_c18.1 rfl ?_
    obtain ⟨p3, hxp3, hlp3, h⟩ := h
    refine kz_nz0 (x := x1) hxp3 ?_
    refine kz_gfp (M := kt_M47) (c := 14) (o := p3) kX9_routine_c18.2.1 wf_X9_93 (.inr (by exact hlp3)) ?_
    refine kz_stv (M := kt_M47) (x := w_p w1 14 p3 3) [(0, .ref (w_adr E.2.1 8 0)), (2, va_rf (x2)), (3, .int x3), (4, .int x4)] kX9_routine_c18.2.2.1 (Nat.le_of_ble_eq_true rfl) ⟨⟨rfl, rfl, .inl rfl⟩, ⟨⟨rfl, rfl, .inl rfl⟩, ⟨⟨rfl, rfl, .inl rfl⟩, ⟨⟨rfl, rfl, .inl rfl⟩, trivial⟩⟩⟩⟩ rfl ?_
    exact kz_weak [(0, .ref (w_adr E.2.1 8 0)), (2, va_rf (x2)), (3, .int x3), (4, .int x4), (6, va_rf (w_p w1 14 p3 3))] ⟨rfl, ⟨rfl, ⟨rfl, ⟨rfl, ⟨rfl, trivial⟩⟩⟩⟩⟩ rfl h
  · skip
    refine kz_iload (M := kt_M47) kX9_routine_c15.2.2.1 rfl ?_
    refine kz_aloadv (M := kt_M47) (x := x6) kX9_routine_c15.2.2.2.1 rfl ?_
    obtain ⟨p4, hxp4, hlp4, h⟩ := h
    refine kz_nz0 (x := x6) hxp4 ?_
    refine kz_gfp (M := kt_M47) (c := 14) (o := p4) kX9_routine_c15.2.2.2.2.1 wf_X9_115 (.inr (by exact hlp4)) ?_
    obtain ⟨p5, hxp5, hlp5, h⟩ := h
    refine kz_nz0 (x := w_p w 14 p4 16) hxp5 ?_
    refine kz_gfi (M := kt_M47) (c := 15) (o := p5) kX9_routine_c15.2.2.2.2.2.1 wf_X9_230 (.inr (by exact hlp5)) ?_
    refine kz_if_eq (M := kt_M47) kX9_routine_c15.2.2.2.2.2.2.1 (t := 291) rfl h (fun h => ?_) (fun h => ?_)
    · skip
      exact kz_weak [(0, .ref (w_adr E.2.1 8 0)), (1, va_rf (x1)), (2, va_rf (x2)), (3, .int x3), (4, .int x4), (6, va_rf (x6))] ⟨rfl, ⟨rfl, ⟨rfl, ⟨rfl, ⟨rfl, ⟨rfl, trivial⟩⟩⟩⟩⟩⟩ rfl (zt_X9_routine_p291 hL  h)
    · skip
      refine kz_aloadv (M := kt_M47) (x := x6) kX9_routine_c15.2.2.2.2.2.2.2.1 rfl ?_
      refine kz_nz0 (x := x6) hxp4 ?_
      refine kz_gfp (M := kt_M47) (c := 14) (o := p4) kX9_routine_c16.1 wf_X9_115 (.inr (by exact hlp4)) ?_
      refine kz_nz0 (x := w_p w 14 p4 16) hxp5 ?_
      refine kz_gfi (M := kt_M47) (c := 15) (o := p5) kX9_routine_c16.2.1 wf_X9_124 (.inr (by exact hlp5)) ?_
      refine kz_if_eq (M := kt_M47) kX9_routine_c16.2.2.1 (t := 291) rfl h (fun h => ?_) (fun h => ?_)
      · skip
        exact kz_weak [(0, .ref (w_adr E.2.1 8 0)), (1, va_rf (x1)), (2, va_rf (x2)), (3, .int x3), (4, .int x4), (6, va_rf (x6))] ⟨rfl, ⟨rfl, ⟨rfl, ⟨rfl, ⟨rfl, ⟨rfl, trivial⟩⟩⟩⟩⟩⟩ rfl (zt_X9_routine_p291 hL  h)
      · skip
        refine kz_ic (M := kt_M47) 1 kX9_routine_c16.2.2.2.1 rfl ?_
        refine kz_goto (M := kt_M47) kX9_routine_c16.2.2.2.2.1 (t := 292) rfl ?_
        exact kz_weak [(0, .ref (w_adr E.2.1 8 0)), (1, va_rf (x1)), (2, va_rf (x2)), (3, .int x3), (4, .int x4), (6, va_rf (x6))] ⟨rfl, ⟨rfl, ⟨rfl, ⟨rfl, ⟨rfl, ⟨rfl, trivial⟩⟩⟩⟩⟩⟩ rfl (zt_X9_routine_p292 hL  h)
def zb_X9_routine_p243 (E : zE) (L : Nat) (Q : kx_Rs → wS → Prop) (x1 : Option Nat) (x2 : Option Nat) (x3 : Int32) (w : wS) : Prop := zw E (L - 20) kt_M29 [.ref (w_adr E.2.1 8 0)] w (wk1 (fun v2 w1 => wle w w1 → (∃ p3, x1 = some p3 ∧ w_l w1 E.2.1 14 p3 ∧ zL_X9_routine_p258 E L Q x1 x2 x3 v2 0 (w_p w1 14 p3 3) w1)) (fun e w => Q (.inr e) w))
theorem zt_X9_routine_p243 {E : zE} {L : Nat} {Q : kx_Rs → wS → Prop} {x1 : Option Nat} {x2 : Option Nat} {x3 : Int32} {w : wS} (hL : 25 ≤ L) (h : zb_X9_routine_p243 E L Q x1 x2 x3 w) : kzE E L kt_M47 243 [(0, .ref (w_adr E.2.1 8 0)), (1, va_rf (x1)), (2, va_rf (x2)), (3, .int x3)] [] w Q := by
  unfold zb_X9_routine_p243 at h
  refine kz_aload_n (M := kt_M47) kX9_routine_c14.1 rfl ?_
  refine kz_cv1 (M := kt_M47) (c := 8) (o := 0) (As := []) (rest := []) kX9_routine_c14.2.1 wl_X9_46 wMv_29 rfl (.inl rfl) rfl (Nat.le_trans (Nat.le_of_ble_eq_true rfl) hL) (Nat.le_of_ble_eq_true rfl) (Nat.le_of_ble_eq_true rfl) h (fun v2 w1 hle h => ?_) (fun _ _ _ h => kzx_no rfl h)
  have h := h hle
  refine kz_sti (M := kt_M47) [(0, .ref (w_adr E.2.1 8 0)), (1, va_rf (x1)), (2, va_rf (x2)), (3, .int x3)] kX9_routine_c14.2.2.1 (Nat.le_of_ble_eq_true rfl) ⟨⟨rfl, rfl, .inl rfl⟩, ⟨⟨rfl, rfl, .inl rfl⟩, ⟨⟨rfl, rfl, .inl rfl⟩, ⟨⟨rfl, rfl, .inr rfl⟩, trivial⟩⟩⟩⟩ rfl ?_
  refine kz_ic (M := kt_M47) 0 kX9_routine_c14.2.2.2.1 rfl ?_
  refine kz_sti (M := kt_M47) [(0, .ref (w_adr E.2.1 8 0)), (1, va_rf (x1)), (2, va_rf (x2)), (3, .int x3), (4, .int v2)] kX9_routine_c14.2.2.2.2.1 (Nat.le_of_ble_eq_true rfl) ⟨⟨rfl, rfl, .inl rfl⟩, ⟨⟨rfl, rfl, .inl rfl⟩, ⟨⟨rfl, rfl, .inl rfl⟩, ⟨⟨rfl, rfl, .inl rfl⟩, ⟨⟨rfl, rfl, .inr rfl⟩, trivial⟩⟩⟩⟩⟩ rfl ?_
  refine kz_aload_nv (M := kt_M47) (x := x1) kX9_routine_c14.2.2.2.2.2.1 rfl ?_
  obtain ⟨p3, hxp3, hlp3, h⟩ := h
  refine kz_nz0 (x := x1) hxp3 ?_
  refine kz_gfp (M := kt_M47) (c := 14) (o := p3) kX9_routine_c14.2.2.2.2.2.2.1 wf_X9_93 (.inr (by exact hlp3)) ?_
  refine kz_stv (M := kt_M47) (x := w_p w1 14 p3 3) [(0, .ref (w_adr E.2.1 8 0)), (1, va_rf (x1)), (2, va_rf (x2)), (3, .int x3), (4, .int v2), (5, .int 0)] kX9_routine_c14.2.2.2.2.2.2.2.1 (Nat.le_of_ble_eq_true rfl) ⟨⟨rfl, rfl, .inl rfl⟩, ⟨⟨rfl, rfl, .inl rfl⟩, ⟨⟨rfl, rfl, .inl rfl⟩, ⟨⟨rfl, rfl, .inl rfl⟩, ⟨⟨rfl, rfl, .inl rfl⟩, ⟨⟨rfl, rfl, .inr rfl⟩, trivial⟩⟩⟩⟩⟩⟩ rfl ?_
  exact kz_weak [(0, .ref (w_adr E.2.1 8 0)), (1, va_rf (x1)), (2, va_rf (x2)), (3, .int x3), (4, .int v2), (5, .int 0), (6, va_rf (w_p w1 14 p3 3))] ⟨rfl, ⟨rfl, ⟨rfl, ⟨rfl, ⟨rfl, ⟨rfl, ⟨rfl, trivial⟩⟩⟩⟩⟩⟩⟩ rfl h
def zb_X9_routine_p182 (E : zE) (L : Nat) (Q : kx_Rs → wS → Prop) (x1 : Option Nat) (x2 : Option Nat) (x3 : Int32) (x4 : Option Nat) (w : wS) : Prop := (if x4 = none then (∃ p1, x1 = some p1 ∧ w_l w E.2.1 14 p1 ∧ zw E (L - 22) kt_M46 [.ref (w_adr E.2.1 8 0), va_rf (w_p w 14 p1 4)] w (wk0 (fun w2 => wle w w2 → zw E (L - 23) kt_M27 [.ref (w_adr E.2.1 8 0), va_rf (w_p w2 14 p1 6)] w2 (wk0 (fun w4 => wle w2 w4 → zw E (L - 25) kt_M35 [.ref (w_adr E.2.1 8 0), va_rf (w_p w4 14 p1 5)] w4 (wk0 (fun w6 => wle w4 w6 → (∃ p8, w_p w6 14 p1 16 = some p8 ∧ w_l w6 E.2.1 15 p8 ∧ (∃ p9, w_p w6 15 p8 20 = some p9 ∧ w_l w6 E.2.1 16 p9 ∧ zw E (L - 22) kt_M25 [.ref (w_adr E.2.1 8 0), .int 46, .int (w_i w6 16 p9 4)] w6 (wk0 (fun w10 => wle w6 w10 → zb_X9_routine_p243 E L Q x1 x2 x3 w10) (fun e w => Q (.inr e) w))))) (fun e w => Q (.inr e) w))) (fun e w => Q (.inr e) w))) (fun e w => Q (.inr e) w))) else zw E (L - 21) kt_M23 [.ref (w_adr E.2.1 8 0), va_rf (x4)] w (wk0 (fun w12 => wle w w12 → (∃ p14, x4 = some p14 ∧ w_l w12 E.2.1 14 p14 ∧ zL_X9_routine_p182 E L Q x1 x2 x3 (w_p w12 14 p14 7) w12)) (fun e w => Q (.inr e) w)))
theorem zt_X9_routine_p182 {E : zE} {L : Nat} {Q : kx_Rs → wS → Prop} {x1 : Option Nat} {x2 : Option Nat} {x3 : Int32} {x4 : Option Nat} {w : wS} (hL : 25 ≤ L) (h : zb_X9_routine_p182 E L Q x1 x2 x3 x4 w) : kzE E L kt_M47 182 [(0, .ref (w_adr E.2.1 8 0)), (1, va_rf (x1)), (2, va_rf (x2)), (3, .int x3), (4, va_rf (x4))] [] w Q := by
  unfold zb_X9_routine_p182 at h
  refine kz_aloadv (M := kt_M47) (x := x4) kX9_routine_c10.2.2.2.2.1 rfl ?_
  refine kz_ifnull (M := kt_M47) (x := x4) kX9_routine_c10.2.2.2.2.2.1 (t := 203) rfl h (fun h => ?_) (fun h => ?_)
  · skip
    refine kz_aload_n (M := kt_M47) kX9_routine_c11.2.2.2.2.2.1 rfl ?_
    refine kz_aload_nv (M := kt_M47) (x := x1) kX9_routine_c11.2.2.2.2.2.2.1 rfl ?_
    obtain ⟨p1, hxp1, hlp1, h⟩ := h
    refine kz_nz0 (x := x1) hxp1 ?_
    refine kz_gfp (M := kt_M47) (c := 14) (o := p1) kX9_routine_c11.2.2.2.2.2.2.2.1 wf_X9_112 (.inr (by exact hlp1)) ?_
    refine kz_cv0 (M := kt_M47) (c := 8) (o := 0) (As := [va_rf (w_p w 14 p1 4)]) (rest := []) kX9_routine_c12.1 wl_X9_218 wMv_46 rfl (.inl rfl) rfl (Nat.le_trans (Nat.le_of_ble_eq_true rfl) hL) (by simp [lg_sl, w_cat, z_ci, z_cr, z_cl, z_cn, kt_M46]) (Nat.le_of_ble_eq_true rfl) h (fun w2 hle h => ?_) (fun _ _ _ h => kzx_no rfl h)
    have h := h hle
    have hlp1 := w_l_le hlp1 hle
    refine kz_aload_n (M := kt_M47) kX9_routine_c12.2.1 rfl ?_
    refine kz_aload_nv (M := kt_M47) (x := x1) kX9_routine_c12.2.2.1 rfl ?_
    refine kz_nz0 (x := x1) hxp1 ?_
    refine kz_gfp (M := kt_M47) (c := 14) (o := p1) kX9_routine_c12.2.2.2.1 wf_X9_227 (.inr (by exact hlp1)) ?_
    refine kz_cv0 (M := kt_M47) (c := 8) (o := 0) (As := [va_rf (w_p w2 14 p1 6)]) (rest := []) kX9_routine_c12.2.2.2.2.1 wl_X9_200 wMv_27 rfl (.inl rfl) rfl (Nat.le_trans (Nat.le_of_ble_eq_true rfl) hL) (by simp [lg_sl, w_cat, z_ci, z_cr, z_cl, z_cn, kt_M27]) (Nat.le_of_ble_eq_true rfl) h (fun w4 hle h => ?_) (fun _ _ _ h => kzx_no rfl h)
    have h := h hle
    have hlp1 := w_l_le hlp1 hle
    refine kz_aload_n (M := kt_M47) kX9_routine_c12.2.2.2.2.2.1 rfl ?_
    refine kz_aload_nv (M := kt_M47) (x := x1) kX9_routine_c12.2.2.2.2.2.2.1 rfl ?_
    refine kz_nz0 (x := x1) hxp1 ?_
    refine kz_gfp (M := kt_M47) (c := 14) (o := p1) kX9_routine_c12.2.2.2.2.2.2.2.1 wf_X9_224 (.inr (by exact hlp1)) ?_
    refine kz_cv0 (M := kt_M47) (c := 8) (o := 0) (As := [va_rf (w_p w4 14 p1 5)]) (rest := []) kX9_routine_c13.1 wl_X9_139 wMv_35 rfl (.inl rfl) rfl (Nat.le_trans (Nat.le_of_ble_eq_true rfl) hL) (by simp [lg_sl, w_cat, z_ci, z_cr, z_cl, z_cn, kt_M35]) (Nat.le_of_ble_eq_true rfl) h (fun w6 hle h => ?_) (fun _ _ _ h => kzx_no rfl h)
    have h := h hle
    have hlp1 := w_l_le hlp1 hle
    refine kz_aload_n (M := kt_M47) kX9_routine_c13.2.1 rfl ?_
    refine kz_bi (M := kt_M47) 46 kX9_routine_c13.2.2.1 rfl ?_
    refine kz_aload_nv (M := kt_M47) (x := x1) kX9_routine_c13.2.2.2.1 rfl ?_
    refine kz_nz0 (x := x1) hxp1 ?_
    refine kz_gfp (M := kt_M47) (c := 14) (o := p1) kX9_routine_c13.2.2.2.2.1 wf_X9_115 (.inr (by exact hlp1)) ?_
    obtain ⟨p8, hxp8, hlp8, h⟩ := h
    refine kz_nz0 (x := w_p w6 14 p1 16) hxp8 ?_
    refine kz_gfp (M := kt_M47) (c := 15) (o := p8) kX9_routine_c13.2.2.2.2.2.1 wf_X9_145 (.inr (by exact hlp8)) ?_
    obtain ⟨p9, hxp9, hlp9, h⟩ := h
    refine kz_nz0 (x := w_p w6 15 p8 20) hxp9 ?_
    refine kz_gfi (M := kt_M47) (c := 16) (o := p9) kX9_routine_c13.2.2.2.2.2.2.1 wf_X9_63 (.inr (by exact hlp9)) ?_
    refine kz_cv0 (M := kt_M47) (c := 8) (o := 0) (As := [.int 46, .int (w_i w6 16 p9 4)]) (rest := []) kX9_routine_c13.2.2.2.2.2.2.2.1 wl_X9_42 wMv_25 rfl (.inl rfl) rfl (Nat.le_trans (Nat.le_of_ble_eq_true rfl) hL) (Nat.le_of_ble_eq_true rfl) (Nat.le_of_ble_eq_true rfl) h (fun w10 hle h => ?_) (fun _ _ _ h => kzx_no rfl h)
    have h := h hle
    have hlp1 := w_l_le hlp1 hle
    have hlp8 := w_l_le hlp8 hle
    have hlp9 := w_l_le hlp9 hle
    exact kz_weak [(0, .ref (w_adr E.2.1 8 0)), (1, va_rf (x1)), (2, va_rf (x2)), (3, .int x3)] ⟨rfl, ⟨rfl, ⟨rfl, ⟨rfl, trivial⟩⟩⟩⟩ rfl (zt_X9_routine_p243 hL  h)
  · skip
    refine kz_aload_n (M := kt_M47) kX9_routine_c10.2.2.2.2.2.2.1 rfl ?_
    refine kz_aloadv (M := kt_M47) (x := x4) kX9_routine_c10.2.2.2.2.2.2.2.1 rfl ?_
    refine kz_cv0 (M := kt_M47) (c := 8) (o := 0) (As := [va_rf (x4)]) (rest := []) kX9_routine_c11.1 wl_X9_99 wMv_23 rfl (.inl rfl) rfl (Nat.le_trans (Nat.le_of_ble_eq_true rfl) hL) (by simp [lg_sl, w_cat, z_ci, z_cr, z_cl, z_cn, kt_M23]) (Nat.le_of_ble_eq_true rfl) h (fun w12 hle h => ?_) (fun _ _ _ h => kzx_no rfl h)
    have h := h hle
    refine kz_aloadv (M := kt_M47) (x := x4) kX9_routine_c11.2.1 rfl ?_
    obtain ⟨p14, hxp14, hlp14, h⟩ := h
    refine kz_nz0 (x := x4) hxp14 ?_
    refine kz_gfp (M := kt_M47) (c := 14) (o := p14) kX9_routine_c11.2.2.1 wf_X9_129 (.inr (by exact hlp14)) ?_
    refine kz_stv (M := kt_M47) (x := w_p w12 14 p14 7) [(0, .ref (w_adr E.2.1 8 0)), (1, va_rf (x1)), (2, va_rf (x2)), (3, .int x3)] kX9_routine_c11.2.2.2.1 (Nat.le_of_ble_eq_true rfl) ⟨⟨rfl, rfl, .inl rfl⟩, ⟨⟨rfl, rfl, .inl rfl⟩, ⟨⟨rfl, rfl, .inl rfl⟩, ⟨⟨rfl, rfl, .inr rfl⟩, trivial⟩⟩⟩⟩ rfl ?_
    refine kz_goto (M := kt_M47) kX9_routine_c11.2.2.2.2.1 (t := 182) rfl ?_
    exact kz_weak [(0, .ref (w_adr E.2.1 8 0)), (1, va_rf (x1)), (2, va_rf (x2)), (3, .int x3), (4, va_rf (w_p w12 14 p14 7))] ⟨rfl, ⟨rfl, ⟨rfl, ⟨rfl, ⟨rfl, trivial⟩⟩⟩⟩⟩ rfl h
def zb_X9_routine_p76 (E : zE) (L : Nat) (Q : kx_Rs → wS → Prop) (x1 : Option Nat) (x2 : Option Nat) (x3 : Int32) (x4 : Option Nat) (y0 : Int32) (y1 : Option Nat) (w : wS) : Prop := zw E (L - 22) kt_M30 [.ref (w_adr E.2.1 8 0), va_rf (y1), .int y0] w (wk0 (fun w1 => wle w w1 → (∃ p3, x4 = some p3 ∧ w_l w1 E.2.1 14 p3 ∧ zL_X9_routine_p49 E L Q x1 x2 x3 (w_p w1 14 p3 7) w1)) (fun e w => Q (.inr e) w))
theorem zt_X9_routine_p76 {E : zE} {L : Nat} {Q : kx_Rs → wS → Prop} {x1 : Option Nat} {x2 : Option Nat} {x3 : Int32} {x4 : Option Nat} {y0 : Int32} {y1 : Option Nat} {w : wS} (hL : 25 ≤ L) (h : zb_X9_routine_p76 E L Q x1 x2 x3 x4 y0 y1 w) : kzE E L kt_M47 76 [(0, .ref (w_adr E.2.1 8 0)), (1, va_rf (x1)), (2, va_rf (x2)), (3, .int x3), (4, va_rf (x4))] [.int y0, va_rf (y1), .ref (w_adr E.2.1 8 0)] w Q := by
  unfold zb_X9_routine_p76 at h
  refine kz_cv0 (M := kt_M47) (c := 8) (o := 0) (As := [va_rf (y1), .int y0]) (rest := []) kX9_routine_c4.2.2.2.2.2.1 wl_X9_169 wMv_30 rfl (.inl rfl) rfl (Nat.le_trans (Nat.le_of_ble_eq_true rfl) hL) (by simp [lg_sl, w_cat, z_ci, z_cr, z_cl, z_cn, kt_M30]) (Nat.le_of_ble_eq_true rfl) h (fun w1 hle h => ?_) (fun _ _ _ h => kzx_no rfl h)
  have h := h hle
  refine kz_aloadv (M := kt_M47) (x := x4) kX9_routine_c4.2.2.2.2.2.2.1 rfl ?_
  obtain ⟨p3, hxp3, hlp3, h⟩ := h
  refine kz_nz0 (x := x4) hxp3 ?_
  refine kz_gfp (M := kt_M47) (c := 14) (o := p3) kX9_routine_c4.2.2.2.2.2.2.2.1 wf_X9_129 (.inr (by exact hlp3)) ?_
  refine kz_stv (M := kt_M47) (x := w_p w1 14 p3 7) [(0, .ref (w_adr E.2.1 8 0)), (1, va_rf (x1)), (2, va_rf (x2)), (3, .int x3)] kX9_routine_c5.1 (Nat.le_of_ble_eq_true rfl) ⟨⟨rfl, rfl, .inl rfl⟩, ⟨⟨rfl, rfl, .inl rfl⟩, ⟨⟨rfl, rfl, .inl rfl⟩, ⟨⟨rfl, rfl, .inr rfl⟩, trivial⟩⟩⟩⟩ rfl ?_
  refine kz_goto (M := kt_M47) kX9_routine_c5.2.1 (t := 49) rfl ?_
  exact kz_weak [(0, .ref (w_adr E.2.1 8 0)), (1, va_rf (x1)), (2, va_rf (x2)), (3, .int x3), (4, va_rf (w_p w1 14 p3 7))] ⟨rfl, ⟨rfl, ⟨rfl, ⟨rfl, ⟨rfl, trivial⟩⟩⟩⟩⟩ rfl h
def zb_X9_routine_p49 (E : zE) (L : Nat) (Q : kx_Rs → wS → Prop) (x1 : Option Nat) (x2 : Option Nat) (x3 : Int32) (x4 : Option Nat) (w : wS) : Prop := (if x4 = none then (∃ p1, w_p w 8 0 7 = some p1 ∧ w_l w E.2.1 16 p1 ∧ (∃ p2, x1 = some p2 ∧ w_l (ws_i w 16 p1 5 ((w_i w 16 p1 2) - 4)) E.2.1 14 p2 ∧ (if ¬ w_p w 14 p2 0 = some (E.1.1 33) then (if w_i w 14 p2 11 = 0 then zL_X9_routine_p182 E L Q x1 x2 x3 (w_p w 14 p2 5) (ws_i w 16 p1 5 ((w_i w 16 p1 2) - 4)) else zw E (L - 23) kt_M27 [.ref (w_adr E.2.1 8 0), va_rf (w_p w 14 p2 4)] (ws_i w 16 p1 5 ((w_i w 16 p1 2) - 4)) (wk0 (fun w3 => wle (ws_i w 16 p1 5 ((w_i w 16 p1 2) - 4)) w3 → (∃ p5, w_p w3 14 p2 16 = some p5 ∧ w_l w3 E.2.1 15 p5 ∧ (∃ p6, w_p w3 15 p5 20 = some p6 ∧ w_l w3 E.2.1 16 p6 ∧ zw E (L - 22) kt_M25 [.ref (w_adr E.2.1 8 0), .int 46, .int (w_i w3 16 p6 4)] w3 (wk0 (fun w7 => wle w3 w7 → zb_X9_routine_p243 E L Q x1 x2 x3 w7) (fun e w => Q (.inr e) w))))) (fun e w => Q (.inr e) w))) else zw E (L - 22) kt_M46 [.ref (w_adr E.2.1 8 0), va_rf (w_p w 14 p2 4)] (ws_i w 16 p1 5 ((w_i w 16 p1 2) - 4)) (wk0 (fun w9 => wle (ws_i w 16 p1 5 ((w_i w 16 p1 2) - 4)) w9 → (∃ p11, w_p w9 14 p2 16 = some p11 ∧ w_l w9 E.2.1 15 p11 ∧ (∃ p12, w_p w9 15 p11 20 = some p12 ∧ w_l w9 E.2.1 16 p12 ∧ zw E (L - 22) kt_M25 [.ref (w_adr E.2.1 8 0), .int 44, .int (w_i w9 16 p12 4)] w9 (wk0 (fun w13 => wle w9 w13 → zb_X9_routine_p243 E L Q x1 x2 x3 w13) (fun e w => Q (.inr e) w))))) (fun e w => Q (.inr e) w))))) else (∃ p15, x4 = some p15 ∧ w_l w E.2.1 14 p15 ∧ (∃ p16, w_p w 14 p15 16 = some p16 ∧ w_l w E.2.1 15 p16 ∧ (if w_i w 15 p16 9 = 0 then zb_X9_routine_p76 E L Q x1 x2 x3 x4 1 (w_p w 14 p15 16) w else zb_X9_routine_p76 E L Q x1 x2 x3 x4 2 (w_p w 14 p15 16) w))))
theorem zt_X9_routine_p49 {E : zE} {L : Nat} {Q : kx_Rs → wS → Prop} {x1 : Option Nat} {x2 : Option Nat} {x3 : Int32} {x4 : Option Nat} {w : wS} (hL : 25 ≤ L) (h : zb_X9_routine_p49 E L Q x1 x2 x3 x4 w) : kzE E L kt_M47 49 [(0, .ref (w_adr E.2.1 8 0)), (1, va_rf (x1)), (2, va_rf (x2)), (3, .int x3), (4, va_rf (x4))] [] w Q := by
  unfold zb_X9_routine_p49 at h
  refine kz_aloadv (M := kt_M47) (x := x4) kX9_routine_c3.2.1 rfl ?_
  refine kz_ifnull (M := kt_M47) (x := x4) kX9_routine_c3.2.2.1 (t := 89) rfl h (fun h => ?_) (fun h => ?_)
  · skip
    refine kz_aload_n (M := kt_M47) kX9_routine_c5.2.2.1 rfl ?_
    refine kz_gfp (M := kt_M47) (c := 8) (o := 0) kX9_routine_c5.2.2.2.1 wf_X9_88 (.inl rfl) ?_
    refine kz_aload_n (M := kt_M47) kX9_routine_c5.2.2.2.2.1 rfl ?_
    refine kz_gfp (M := kt_M47) (c := 8) (o := 0) kX9_routine_c5.2.2.2.2.2.1 wf_X9_88 (.inl rfl) ?_
    obtain ⟨p1, hxp1, hlp1, h⟩ := h
    refine kz_nz0 (x := w_p w 8 0 7) hxp1 ?_
    refine kz_gfi (M := kt_M47) (c := 16) (o := p1) kX9_routine_c5.2.2.2.2.2.2.1 wf_X9_142 (.inr (by exact hlp1)) ?_
    refine kz_ic (M := kt_M47) 4 kX9_routine_c5.2.2.2.2.2.2.2.1 rfl ?_
    refine kz_isub (M := kt_M47) kX9_routine_c6.1 ?_
    refine kz_nz1 (x := w_p w 8 0 7) hxp1 ?_
    refine kz_pfi (M := kt_M47) (c := 16) (o := p1) kX9_routine_c6.2.1 wq_X9_212 (.inr (by exact hlp1)) ?_
    refine kz_aload_nv (M := kt_M47) (x := x1) kX9_routine_c6.2.2.1 rfl ?_
    obtain ⟨p2, hxp2, hlp2, h⟩ := h
    refine kz_nz0 (x := x1) hxp2 ?_
    refine kz_gfpR (M := kt_M47) (c := 14) (o := p2) (w_p w 14 p2 0) kX9_routine_c6.2.2.2.1 wf_X9_103 (.inr (by exact hlp2)) rd_p_i ?_
    refine kz_getsE (M := kt_M47) (v := va_rf (some (E.1.1 33))) kX9_routine_c6.2.2.2.2.1 zs_X9_215 ?_
    refine kz_acmp_ne (M := kt_M47) (x := w_p w 14 p2 0) (y := some (E.1.1 33)) kX9_routine_c6.2.2.2.2.2.1 (t := 142) rfl h (fun h => ?_) (fun h => ?_)
    · skip
      refine kz_aload_nv (M := kt_M47) (x := x1) kX9_routine_c8.2.2.1 rfl ?_
      refine kz_nz0 (x := x1) hxp2 ?_
      refine kz_gfiR (M := kt_M47) (c := 14) (o := p2) (w_i w 14 p2 11) kX9_routine_c8.2.2.2.1 wf_X9_221 (.inr (by exact hlp2)) (rd_i_i rfl) ?_
      refine kz_if_eq (M := kt_M47) kX9_routine_c8.2.2.2.2.1 (t := 176) rfl h (fun h => ?_) (fun h => ?_)
      · skip
        refine kz_aload_nv (M := kt_M47) (x := x1) kX9_routine_c10.2.1 rfl ?_
        refine kz_nz0 (x := x1) hxp2 ?_
        refine kz_gfpR (M := kt_M47) (c := 14) (o := p2) (w_p w 14 p2 5) kX9_routine_c10.2.2.1 wf_X9_224 (.inr (by exact hlp2)) rd_p_i ?_
        refine kz_stv (M := kt_M47) (x := w_p w 14 p2 5) [(0, .ref (w_adr E.2.1 8 0)), (1, va_rf (x1)), (2, va_rf (x2)), (3, .int x3)] kX9_routine_c10.2.2.2.1 (Nat.le_of_ble_eq_true rfl) ⟨⟨rfl, rfl, .inl rfl⟩, ⟨⟨rfl, rfl, .inl rfl⟩, ⟨⟨rfl, rfl, .inl rfl⟩, ⟨⟨rfl, rfl, .inr rfl⟩, trivial⟩⟩⟩⟩ rfl ?_
        exact kz_weak [(0, .ref (w_adr E.2.1 8 0)), (1, va_rf (x1)), (2, va_rf (x2)), (3, .int x3), (4, va_rf (w_p w 14 p2 5))] ⟨rfl, ⟨rfl, ⟨rfl, ⟨rfl, ⟨rfl, trivial⟩⟩⟩⟩⟩ rfl h
      · skip
        refine kz_aload_n (M := kt_M47) kX9_routine_c8.2.2.2.2.2.1 rfl ?_
        refine kz_aload_nv (M := kt_M47) (x := x1) kX9_routine_c8.2.2.2.2.2.2.1 rfl ?_
        refine kz_nz0 (x := x1) hxp2 ?_
        refine kz_gfpR (M := kt_M47) (c := 14) (o := p2) (w_p w 14 p2 4) kX9_routine_c8.2.2.2.2.2.2.2.1 wf_X9_112 (.inr (by exact hlp2)) rd_p_i ?_
        refine kz_cv0 (M := kt_M47) (c := 8) (o := 0) (As := [va_rf (w_p w 14 p2 4)]) (rest := []) kX9_routine_c9.1 wl_X9_200 wMv_27 rfl (.inl rfl) rfl (Nat.le_trans (Nat.le_of_ble_eq_true rfl) hL) (by simp [lg_sl, w_cat, z_ci, z_cr, z_cl, z_cn, kt_M27]) (Nat.le_of_ble_eq_true rfl) h (fun w3 hle h => ?_) (fun _ _ _ h => kzx_no rfl h)
        have h := h hle
        have hlp1 := w_l_le hlp1 hle
        have hlp2 := w_l_le hlp2 hle
        refine kz_aload_n (M := kt_M47) kX9_routine_c9.2.1 rfl ?_
        refine kz_bi (M := kt_M47) 46 kX9_routine_c9.2.2.1 rfl ?_
        refine kz_aload_nv (M := kt_M47) (x := x1) kX9_routine_c9.2.2.2.1 rfl ?_
        refine kz_nz0 (x := x1) hxp2 ?_
        refine kz_gfp (M := kt_M47) (c := 14) (o := p2) kX9_routine_c9.2.2.2.2.1 wf_X9_115 (.inr (by exact hlp2)) ?_
        obtain ⟨p5, hxp5, hlp5, h⟩ := h
        refine kz_nz0 (x := w_p w3 14 p2 16) hxp5 ?_
        refine kz_gfp (M := kt_M47) (c := 15) (o := p5) kX9_routine_c9.2.2.2.2.2.1 wf_X9_145 (.inr (by exact hlp5)) ?_
        obtain ⟨p6, hxp6, hlp6, h⟩ := h
        refine kz_nz0 (x := w_p w3 15 p5 20) hxp6 ?_
        refine kz_gfi (M := kt_M47) (c := 16) (o := p6) kX9_routine_c9.2.2.2.2.2.2.1 wf_X9_63 (.inr (by exact hlp6)) ?_
        refine kz_cv0 (M := kt_M47) (c := 8) (o := 0) (As := [.int 46, .int (w_i w3 16 p6 4)]) (rest := []) kX9_routine_c9.2.2.2.2.2.2.2.1 wl_X9_42 wMv_25 rfl (.inl rfl) rfl (Nat.le_trans (Nat.le_of_ble_eq_true rfl) hL) (Nat.le_of_ble_eq_true rfl) (Nat.le_of_ble_eq_true rfl) h (fun w7 hle h => ?_) (fun _ _ _ h => kzx_no rfl h)
        have h := h hle
        have hlp1 := w_l_le hlp1 hle
        have hlp2 := w_l_le hlp2 hle
        have hlp5 := w_l_le hlp5 hle
        have hlp6 := w_l_le hlp6 hle
        refine kz_goto (M := kt_M47) kX9_routine_c10.1 (t := 243) rfl ?_
        exact kz_weak [(0, .ref (w_adr E.2.1 8 0)), (1, va_rf (x1)), (2, va_rf (x2)), (3, .int x3)] ⟨rfl, ⟨rfl, ⟨rfl, ⟨rfl, trivial⟩⟩⟩⟩ rfl (zt_X9_routine_p243 hL  h)
    · skip
      refine kz_aload_n (M := kt_M47) kX9_routine_c6.2.2.2.2.2.2.1 rfl ?_
      refine kz_aload_nv (M := kt_M47) (x := x1) kX9_routine_c6.2.2.2.2.2.2.2.1 rfl ?_
      refine kz_nz0 (x := x1) hxp2 ?_
      refine kz_gfpR (M := kt_M47) (c := 14) (o := p2) (w_p w 14 p2 4) kX9_routine_c7.1 wf_X9_112 (.inr (by exact hlp2)) rd_p_i ?_
      refine kz_cv0 (M := kt_M47) (c := 8) (o := 0) (As := [va_rf (w_p w 14 p2 4)]) (rest := []) kX9_routine_c7.2.1 wl_X9_218 wMv_46 rfl (.inl rfl) rfl (Nat.le_trans (Nat.le_of_ble_eq_true rfl) hL) (by simp [lg_sl, w_cat, z_ci, z_cr, z_cl, z_cn, kt_M46]) (Nat.le_of_ble_eq_true rfl) h (fun w9 hle h => ?_) (fun _ _ _ h => kzx_no rfl h)
      have h := h hle
      have hlp1 := w_l_le hlp1 hle
      have hlp2 := w_l_le hlp2 hle
      refine kz_aload_n (M := kt_M47) kX9_routine_c7.2.2.1 rfl ?_
      refine kz_bi (M := kt_M47) 44 kX9_routine_c7.2.2.2.1 rfl ?_
      refine kz_aload_nv (M := kt_M47) (x := x1) kX9_routine_c7.2.2.2.2.1 rfl ?_
      refine kz_nz0 (x := x1) hxp2 ?_
      refine kz_gfp (M := kt_M47) (c := 14) (o := p2) kX9_routine_c7.2.2.2.2.2.1 wf_X9_115 (.inr (by exact hlp2)) ?_
      obtain ⟨p11, hxp11, hlp11, h⟩ := h
      refine kz_nz0 (x := w_p w9 14 p2 16) hxp11 ?_
      refine kz_gfp (M := kt_M47) (c := 15) (o := p11) kX9_routine_c7.2.2.2.2.2.2.1 wf_X9_145 (.inr (by exact hlp11)) ?_
      obtain ⟨p12, hxp12, hlp12, h⟩ := h
      refine kz_nz0 (x := w_p w9 15 p11 20) hxp12 ?_
      refine kz_gfi (M := kt_M47) (c := 16) (o := p12) kX9_routine_c7.2.2.2.2.2.2.2.1 wf_X9_63 (.inr (by exact hlp12)) ?_
      refine kz_cv0 (M := kt_M47) (c := 8) (o := 0) (As := [.int 44, .int (w_i w9 16 p12 4)]) (rest := []) kX9_routine_c8.1 wl_X9_42 wMv_25 rfl (.inl rfl) rfl (Nat.le_trans (Nat.le_of_ble_eq_true rfl) hL) (Nat.le_of_ble_eq_true rfl) (Nat.le_of_ble_eq_true rfl) h (fun w13 hle h => ?_) (fun _ _ _ h => kzx_no rfl h)
      have h := h hle
      have hlp1 := w_l_le hlp1 hle
      have hlp11 := w_l_le hlp11 hle
      have hlp12 := w_l_le hlp12 hle
      have hlp2 := w_l_le hlp2 hle
      refine kz_goto (M := kt_M47) kX9_routine_c8.2.1 (t := 243) rfl ?_
      exact kz_weak [(0, .ref (w_adr E.2.1 8 0)), (1, va_rf (x1)), (2, va_rf (x2)), (3, .int x3)] ⟨rfl, ⟨rfl, ⟨rfl, ⟨rfl, trivial⟩⟩⟩⟩ rfl (zt_X9_routine_p243 hL  h)
  · skip
    refine kz_aload_n (M := kt_M47) kX9_routine_c3.2.2.2.1 rfl ?_
    refine kz_aloadv (M := kt_M47) (x := x4) kX9_routine_c3.2.2.2.2.1 rfl ?_
    obtain ⟨p15, hxp15, hlp15, h⟩ := h
    refine kz_nz0 (x := x4) hxp15 ?_
    refine kz_gfp (M := kt_M47) (c := 14) (o := p15) kX9_routine_c3.2.2.2.2.2.1 wf_X9_115 (.inr (by exact hlp15)) ?_
    refine kz_aloadv (M := kt_M47) (x := x4) kX9_routine_c3.2.2.2.2.2.2.1 rfl ?_
    refine kz_nz0 (x := x4) hxp15 ?_
    refine kz_gfp (M := kt_M47) (c := 14) (o := p15) kX9_routine_c3.2.2.2.2.2.2.2.1 wf_X9_115 (.inr (by exact hlp15)) ?_
    obtain ⟨p16, hxp16, hlp16, h⟩ := h
    refine kz_nz0 (x := w_p w 14 p15 16) hxp16 ?_
    refine kz_gfi (M := kt_M47) (c := 15) (o := p16) kX9_routine_c4.1 wf_X9_124 (.inr (by exact hlp16)) ?_
    refine kz_if_eq (M := kt_M47) kX9_routine_c4.2.1 (t := 75) rfl h (fun h => ?_) (fun h => ?_)
    · skip
      refine kz_ic (M := kt_M47) 1 kX9_routine_c4.2.2.2.2.1 rfl ?_
      exact kz_weak [(0, .ref (w_adr E.2.1 8 0)), (1, va_rf (x1)), (2, va_rf (x2)), (3, .int x3), (4, va_rf (x4))] ⟨rfl, ⟨rfl, ⟨rfl, ⟨rfl, ⟨rfl, trivial⟩⟩⟩⟩⟩ rfl (zt_X9_routine_p76 hL  h)
    · skip
      refine kz_ic (M := kt_M47) 2 kX9_routine_c4.2.2.1 rfl ?_
      refine kz_goto (M := kt_M47) kX9_routine_c4.2.2.2.1 (t := 76) rfl ?_
      exact kz_weak [(0, .ref (w_adr E.2.1 8 0)), (1, va_rf (x1)), (2, va_rf (x2)), (3, .int x3), (4, va_rf (x4))] ⟨rfl, ⟨rfl, ⟨rfl, ⟨rfl, ⟨rfl, trivial⟩⟩⟩⟩⟩ rfl (zt_X9_routine_p76 hL  h)
def zb_X9_routine_p0 (E : zE) (L : Nat) (Q : kx_Rs → wS → Prop) (x1 : Option Nat) (w : wS) : Prop := zw E (L - 21) kt_M32 [.ref (w_adr E.2.1 8 0), .int 15] w (wk1 (fun v2 w1 => wle w w1 → zw E (L - 23) kt_M38 [.ref (w_adr E.2.1 8 0), va_rf (w_p w 8 0 7)] w1 (wkr (fun v4 w3 => wle w1 w3 → zw E (L - 20) kt_M29 [.ref (w_adr E.2.1 8 0)] (ws_p w3 8 0 7 v4) (wk1 (fun v6 w5 => wle (ws_p w3 8 0 7 v4) w5 → (∃ p7, v4 = some p7 ∧ w_l w5 E.2.1 16 p7 ∧ (∃ p8, x1 = some p8 ∧ w_l (ws_i w5 16 p7 3 v6) E.2.1 14 p8 ∧ (∃ p9, w_p w5 14 p8 16 = some p9 ∧ w_l (ws_i w5 16 p7 3 v6) E.2.1 15 p9 ∧ zL_X9_routine_p49 E L Q x1 (w_p w 8 0 7) v2 (w_p w5 14 p8 3) (ws_p (ws_i w5 16 p7 3 v6) 15 p9 20 (w_p w5 8 0 7)))))) (fun e w => Q (.inr e) w))) (fun e w => Q (.inr e) w))) (fun e w => Q (.inr e) w))
theorem zt_X9_routine_p0 {E : zE} {L : Nat} {Q : kx_Rs → wS → Prop} {x1 : Option Nat} {w : wS} (hL : 25 ≤ L) (h : zb_X9_routine_p0 E L Q x1 w) : kzE E L kt_M47 0 [(0, .ref (w_adr E.2.1 8 0)), (1, va_rf (x1))] [] w Q := by
  unfold zb_X9_routine_p0 at h
  refine kz_aload_n (M := kt_M47) kX9_routine_c0.1 rfl ?_
  refine kz_gfp (M := kt_M47) (c := 8) (o := 0) kX9_routine_c0.2.1 wf_X9_88 (.inl rfl) ?_
  refine kz_stv_n (M := kt_M47) (x := w_p w 8 0 7) [(0, .ref (w_adr E.2.1 8 0)), (1, va_rf (x1))] kX9_routine_c0.2.2.1 (Nat.le_of_ble_eq_true rfl) ⟨⟨rfl, rfl, .inl rfl⟩, ⟨⟨rfl, rfl, .inr (w_cat (x1))⟩, trivial⟩⟩ rfl ?_
  refine kz_aload_n (M := kt_M47) kX9_routine_c0.2.2.2.1 rfl ?_
  refine kz_bi (M := kt_M47) 15 kX9_routine_c0.2.2.2.2.1 rfl ?_
  refine kz_cv1 (M := kt_M47) (c := 8) (o := 0) (As := [.int 15]) (rest := []) kX9_routine_c0.2.2.2.2.2.1 wl_X9_209 wMv_32 rfl (.inl rfl) rfl (Nat.le_trans (Nat.le_of_ble_eq_true rfl) hL) (Nat.le_of_ble_eq_true rfl) (Nat.le_of_ble_eq_true rfl) h (fun v2 w1 hle h => ?_) (fun _ _ _ h => kzx_no rfl h)
  have h := h hle
  refine kz_sti_n (M := kt_M47) [(0, .ref (w_adr E.2.1 8 0)), (1, va_rf (x1)), (2, va_rf (w_p w 8 0 7))] kX9_routine_c0.2.2.2.2.2.2.1 (Nat.le_of_ble_eq_true rfl) ⟨⟨rfl, rfl, .inl rfl⟩, ⟨⟨rfl, rfl, .inl rfl⟩, ⟨⟨rfl, rfl, .inr (w_cat (w_p w 8 0 7))⟩, trivial⟩⟩⟩ rfl ?_
  refine kz_aload_n (M := kt_M47) kX9_routine_c0.2.2.2.2.2.2.2.1 rfl ?_
  refine kz_aload_n (M := kt_M47) kX9_routine_c1.1 rfl ?_
  refine kz_aload_nv (M := kt_M47) (x := w_p w 8 0 7) kX9_routine_c1.2.1 rfl ?_
  refine kz_cvr (M := kt_M47) (c := 8) (o := 0) (As := [va_rf (w_p w 8 0 7)]) (rest := [.ref (w_adr E.2.1 8 0)]) kX9_routine_c1.2.2.1 wl_X9_85 wMv_38 rfl (.inl rfl) rfl (Nat.le_trans (Nat.le_of_ble_eq_true rfl) hL) (by simp [lg_sl, w_cat, z_ci, z_cr, z_cl, z_cn, kt_M38]) (Nat.le_of_ble_eq_true rfl) h (fun v4 w3 hle h => ?_) (fun _ _ _ h => kzx_no rfl h)
  have h := h hle
  refine kz_pfp (M := kt_M47) (n := v4) (c := 8) (o := 0) kX9_routine_c1.2.2.2.1 wq_X9_88 (.inl rfl) ?_
  refine kz_aload_n (M := kt_M47) kX9_routine_c1.2.2.2.2.1 rfl ?_
  refine kz_gfpR (M := kt_M47) (c := 8) (o := 0) v4 kX9_routine_c1.2.2.2.2.2.1 wf_X9_88 (.inl rfl) rd_p_e ?_
  refine kz_aload_n (M := kt_M47) kX9_routine_c1.2.2.2.2.2.2.1 rfl ?_
  refine kz_cv1 (M := kt_M47) (c := 8) (o := 0) (As := []) (rest := [va_rf (v4)]) kX9_routine_c1.2.2.2.2.2.2.2.1 wl_X9_46 wMv_29 rfl (.inl rfl) rfl (Nat.le_trans (Nat.le_of_ble_eq_true rfl) hL) (Nat.le_of_ble_eq_true rfl) (by simp [kx_cat, w_cat, z_ci, z_cr, z_cl, z_cn]) h (fun v6 w5 hle h => ?_) (fun _ _ _ h => kzx_no rfl h)
  have h := h hle
  obtain ⟨p7, hxp7, hlp7, h⟩ := h
  refine kz_nz1 (x := v4) hxp7 ?_
  refine kz_pfi (M := kt_M47) (c := 16) (o := p7) kX9_routine_c2.1 wq_X9_91 (.inr (by exact hlp7)) ?_
  refine kz_aload_nv (M := kt_M47) (x := x1) kX9_routine_c2.2.1 rfl ?_
  obtain ⟨p8, hxp8, hlp8, h⟩ := h
  refine kz_nz0 (x := x1) hxp8 ?_
  refine kz_gfpR (M := kt_M47) (c := 14) (o := p8) (w_p w5 14 p8 16) kX9_routine_c2.2.2.1 wf_X9_115 (.inr (by exact hlp8)) rd_p_i ?_
  refine kz_aload_n (M := kt_M47) kX9_routine_c2.2.2.2.1 rfl ?_
  refine kz_gfpR (M := kt_M47) (c := 8) (o := 0) (w_p w5 8 0 7) kX9_routine_c2.2.2.2.2.1 wf_X9_88 (.inl rfl) rd_p_i ?_
  obtain ⟨p9, hxp9, hlp9, h⟩ := h
  refine kz_nz1 (x := w_p w5 14 p8 16) hxp9 ?_
  refine kz_pfp (M := kt_M47) (n := w_p w5 8 0 7) (c := 15) (o := p9) kX9_routine_c2.2.2.2.2.2.1 wq_X9_145 (.inr (by exact hlp9)) ?_
  refine kz_aload_nv (M := kt_M47) (x := x1) kX9_routine_c2.2.2.2.2.2.2.1 rfl ?_
  refine kz_nz0 (x := x1) hxp8 ?_
  refine kz_gfpR (M := kt_M47) (c := 14) (o := p8) (w_p w5 14 p8 3) kX9_routine_c2.2.2.2.2.2.2.2.1 wf_X9_93 (.inr (by exact hlp8)) ((rd_p_p rfl).trans rd_p_i) ?_
  refine kz_stv (M := kt_M47) (x := w_p w5 14 p8 3) [(0, .ref (w_adr E.2.1 8 0)), (1, va_rf (x1)), (2, va_rf (w_p w 8 0 7)), (3, .int v2)] kX9_routine_c3.1 (Nat.le_of_ble_eq_true rfl) ⟨⟨rfl, rfl, .inl rfl⟩, ⟨⟨rfl, rfl, .inl rfl⟩, ⟨⟨rfl, rfl, .inl rfl⟩, ⟨⟨rfl, rfl, .inr rfl⟩, trivial⟩⟩⟩⟩ rfl ?_
  exact kz_weak [(0, .ref (w_adr E.2.1 8 0)), (1, va_rf (x1)), (2, va_rf (w_p w 8 0 7)), (3, .int v2), (4, va_rf (w_p w5 14 p8 3))] ⟨rfl, ⟨rfl, ⟨rfl, ⟨rfl, ⟨rfl, trivial⟩⟩⟩⟩⟩ rfl h
def zb_X9_jump_p0 (E : zE) (L : Nat) (Q : kx_Rs → wS → Prop) (x1 : Int32) (w : wS) : Prop := zw E (L - 22) kt_M25 [.ref (w_adr E.2.1 8 0), .int x1, .int 0] w (wk0 (fun w1 => wle w w1 → zw E (L - 20) kt_M29 [.ref (w_adr E.2.1 8 0)] w1 (wk1 (fun v4 w3 => wle w1 w3 → Q (.inl (some (.int (v4 - 1)))) w3) (fun e w => Q (.inr e) w))) (fun e w => Q (.inr e) w))
theorem zt_X9_jump_p0 {E : zE} {L : Nat} {Q : kx_Rs → wS → Prop} {x1 : Int32} {w : wS} (hL : 22 ≤ L) (h : zb_X9_jump_p0 E L Q x1 w) : kzE E L kt_M32 0 [(0, .ref (w_adr E.2.1 8 0)), (1, .int x1)] [] w Q := by
  unfold zb_X9_jump_p0 at h
  refine kz_aload_n (M := kt_M32) kX9_jump_c0.1 rfl ?_
  refine kz_iload_n (M := kt_M32) kX9_jump_c0.2.1 rfl ?_
  refine kz_ic (M := kt_M32) 0 kX9_jump_c0.2.2.1 rfl ?_
  refine kz_cv0 (M := kt_M32) (c := 8) (o := 0) (As := [.int x1, .int 0]) (rest := []) kX9_jump_c0.2.2.2.1 wl_X9_42 wMv_25 rfl (.inl rfl) rfl (Nat.le_trans (Nat.le_of_ble_eq_true rfl) hL) (Nat.le_of_ble_eq_true rfl) (Nat.le_of_ble_eq_true rfl) h (fun w1 hle h => ?_) (fun _ _ _ h => kzx_no rfl h)
  have h := h hle
  refine kz_aload_n (M := kt_M32) kX9_jump_c0.2.2.2.2.1 rfl ?_
  refine kz_cv1 (M := kt_M32) (c := 8) (o := 0) (As := []) (rest := []) kX9_jump_c0.2.2.2.2.2.1 wl_X9_46 wMv_29 rfl (.inl rfl) rfl (Nat.le_trans (Nat.le_of_ble_eq_true rfl) hL) (Nat.le_of_ble_eq_true rfl) (Nat.le_of_ble_eq_true rfl) h (fun v4 w3 hle h => ?_) (fun _ _ _ h => kzx_no rfl h)
  have h := h hle
  refine kz_ic (M := kt_M32) 1 kX9_jump_c0.2.2.2.2.2.2.1 rfl ?_
  refine kz_isub (M := kt_M32) kX9_jump_c0.2.2.2.2.2.2.2.1 ?_
  exact kz_iret (M := kt_M32) kX9_jump_c1.1 rfl rfl h
def zL_X9_process_p5 (E : zE) (L : Nat) (Q : kx_Rs → wS → Prop) (x1 : Option Nat) (x2 : Option Nat) (w : wS) : Prop := kzE E L kt_M46 5 [(0, .ref (w_adr E.2.1 8 0)), (1, va_rf (x1)), (2, va_rf (x2))] [] w Q
def zb_X9_process_p5 (E : zE) (L : Nat) (Q : kx_Rs → wS → Prop) (x1 : Option Nat) (x2 : Option Nat) (w : wS) : Prop := (if x2 = none then (∃ p1, x1 = some p1 ∧ w_l w E.2.1 14 p1 ∧ zw E (L - 23) kt_M16 [.ref (w_adr E.2.1 8 0), va_rf (w_p w 14 p1 4)] w (wk0 (fun w2 => wle w w2 → zw E (L - 25) kt_M35 [.ref (w_adr E.2.1 8 0), va_rf (w_p w2 14 p1 3)] w2 (wk0 (fun w4 => wle w2 w4 → Q (.inl none) w4) (fun e w => Q (.inr e) w))) (fun e w => Q (.inr e) w))) else zw E (L - 21) kt_M23 [.ref (w_adr E.2.1 8 0), va_rf (x2)] w (wk0 (fun w6 => wle w w6 → (∃ p8, x2 = some p8 ∧ w_l w6 E.2.1 14 p8 ∧ zL_X9_process_p5 E L Q x1 (w_p w6 14 p8 7) w6)) (fun e w => Q (.inr e) w)))
theorem zt_X9_process_p5 {E : zE} {L : Nat} {Q : kx_Rs → wS → Prop} {x1 : Option Nat} {x2 : Option Nat} {w : wS} (hL : 25 ≤ L) (h : zb_X9_process_p5 E L Q x1 x2 w) : kzE E L kt_M46 5 [(0, .ref (w_adr E.2.1 8 0)), (1, va_rf (x1)), (2, va_rf (x2))] [] w Q := by
  unfold zb_X9_process_p5 at h
  refine kz_aload_nv (M := kt_M46) (x := x2) kX9_process_c0.2.2.2.1 rfl ?_
  refine kz_ifnull (M := kt_M46) (x := x2) kX9_process_c0.2.2.2.2.1 (t := 22) rfl h (fun h => ?_) (fun h => ?_)
  · skip
    refine kz_aload_n (M := kt_M46) kX9_process_c1.2.2.2.2.1 rfl ?_
    refine kz_aload_nv (M := kt_M46) (x := x1) kX9_process_c1.2.2.2.2.2.1 rfl ?_
    obtain ⟨p1, hxp1, hlp1, h⟩ := h
    refine kz_nz0 (x := x1) hxp1 ?_
    refine kz_gfp (M := kt_M46) (c := 14) (o := p1) kX9_process_c1.2.2.2.2.2.2.1 wf_X9_112 (.inr (by exact hlp1)) ?_
    refine kz_cv0 (M := kt_M46) (c := 8) (o := 0) (As := [va_rf (w_p w 14 p1 4)]) (rest := []) kX9_process_c1.2.2.2.2.2.2.2.1 wl_X9_132 wMv_16 rfl (.inl rfl) rfl (Nat.le_trans (Nat.le_of_ble_eq_true rfl) hL) (by simp [lg_sl, w_cat, z_ci, z_cr, z_cl, z_cn, kt_M16]) (Nat.le_of_ble_eq_true rfl) h (fun w2 hle h => ?_) (fun _ _ _ h => kzx_no rfl h)
    have h := h hle
    have hlp1 := w_l_le hlp1 hle
    refine kz_aload_n (M := kt_M46) kX9_process_c2.1 rfl ?_
    refine kz_aload_nv (M := kt_M46) (x := x1) kX9_process_c2.2.1 rfl ?_
    refine kz_nz0 (x := x1) hxp1 ?_
    refine kz_gfp (M := kt_M46) (c := 14) (o := p1) kX9_process_c2.2.2.1 wf_X9_93 (.inr (by exact hlp1)) ?_
    refine kz_cv0 (M := kt_M46) (c := 8) (o := 0) (As := [va_rf (w_p w2 14 p1 3)]) (rest := []) kX9_process_c2.2.2.2.1 wl_X9_139 wMv_35 rfl (.inl rfl) rfl (Nat.le_trans (Nat.le_of_ble_eq_true rfl) hL) (by simp [lg_sl, w_cat, z_ci, z_cr, z_cl, z_cn, kt_M35]) (Nat.le_of_ble_eq_true rfl) h (fun w4 hle h => ?_) (fun _ _ _ h => kzx_no rfl h)
    have h := h hle
    have hlp1 := w_l_le hlp1 hle
    exact kz_ret (M := kt_M46) kX9_process_c2.2.2.2.2.1 rfl h
  · skip
    refine kz_aload_n (M := kt_M46) kX9_process_c0.2.2.2.2.2.1 rfl ?_
    refine kz_aload_nv (M := kt_M46) (x := x2) kX9_process_c0.2.2.2.2.2.2.1 rfl ?_
    refine kz_cv0 (M := kt_M46) (c := 8) (o := 0) (As := [va_rf (x2)]) (rest := []) kX9_process_c0.2.2.2.2.2.2.2.1 wl_X9_99 wMv_23 rfl (.inl rfl) rfl (Nat.le_trans (Nat.le_of_ble_eq_true rfl) hL) (by simp [lg_sl, w_cat, z_ci, z_cr, z_cl, z_cn, kt_M23]) (Nat.le_of_ble_eq_true rfl) h (fun w6 hle h => ?_) (fun _ _ _ h => kzx_no rfl h)
    have h := h hle
    refine kz_aload_nv (M := kt_M46) (x := x2) kX9_process_c1.1 rfl ?_
    obtain ⟨p8, hxp8, hlp8, h⟩ := h
    refine kz_nz0 (x := x2) hxp8 ?_
    refine kz_gfp (M := kt_M46) (c := 14) (o := p8) kX9_process_c1.2.1 wf_X9_129 (.inr (by exact hlp8)) ?_
    refine kz_stv_n (M := kt_M46) (x := w_p w6 14 p8 7) [(0, .ref (w_adr E.2.1 8 0)), (1, va_rf (x1))] kX9_process_c1.2.2.1 (Nat.le_of_ble_eq_true rfl) ⟨⟨rfl, rfl, .inl rfl⟩, ⟨⟨rfl, rfl, .inr (w_cat (x1))⟩, trivial⟩⟩ rfl ?_
    refine kz_goto (M := kt_M46) kX9_process_c1.2.2.2.1 (t := 5) rfl ?_
    exact kz_weak [(0, .ref (w_adr E.2.1 8 0)), (1, va_rf (x1)), (2, va_rf (w_p w6 14 p8 7))] ⟨rfl, ⟨rfl, ⟨rfl, trivial⟩⟩⟩ rfl h
def zb_X9_process_p0 (E : zE) (L : Nat) (Q : kx_Rs → wS → Prop) (x1 : Option Nat) (w : wS) : Prop := (∃ p1, x1 = some p1 ∧ w_l w E.2.1 14 p1 ∧ zL_X9_process_p5 E L Q x1 (w_p w 14 p1 3) w)
theorem zt_X9_process_p0 {E : zE} {L : Nat} {Q : kx_Rs → wS → Prop} {x1 : Option Nat} {w : wS} (hL : 25 ≤ L) (h : zb_X9_process_p0 E L Q x1 w) : kzE E L kt_M46 0 [(0, .ref (w_adr E.2.1 8 0)), (1, va_rf (x1))] [] w Q := by
  unfold zb_X9_process_p0 at h
  refine kz_aload_nv (M := kt_M46) (x := x1) kX9_process_c0.1 rfl ?_
  obtain ⟨p1, hxp1, hlp1, h⟩ := h
  refine kz_nz0 (x := x1) hxp1 ?_
  refine kz_gfp (M := kt_M46) (c := 14) (o := p1) kX9_process_c0.2.1 wf_X9_93 (.inr (by exact hlp1)) ?_
  refine kz_stv_n (M := kt_M46) (x := w_p w 14 p1 3) [(0, .ref (w_adr E.2.1 8 0)), (1, va_rf (x1))] kX9_process_c0.2.2.1 (Nat.le_of_ble_eq_true rfl) ⟨⟨rfl, rfl, .inl rfl⟩, ⟨⟨rfl, rfl, .inr (w_cat (x1))⟩, trivial⟩⟩ rfl ?_
  exact kz_weak [(0, .ref (w_adr E.2.1 8 0)), (1, va_rf (x1)), (2, va_rf (w_p w 14 p1 3))] ⟨rfl, ⟨rfl, ⟨rfl, trivial⟩⟩⟩ rfl h
def zb_X9_action_p336 (E : zE) (L : Nat) (Q : kx_Rs → wS → Prop) (w : wS) : Prop := Q (.inl none) w
theorem zt_X9_action_p336 {E : zE} {L : Nat} {Q : kx_Rs → wS → Prop} {w : wS} (hL : 27 ≤ L) (h : zb_X9_action_p336 E L Q  w) : kzE E L kt_M16 336 [(0, .ref (w_adr E.2.1 8 0))] [] w Q := by
  unfold zb_X9_action_p336 at h
  exact kz_ret (M := kt_M16) kX9_action_c16.2.2.2.2.2.1 rfl h
def zb_X9_action_p140 (E : zE) (L : Nat) (Q : kx_Rs → wS → Prop) (x1 : Option Nat) (w : wS) : Prop := zw E (L - 22) kt_M31 [.ref (w_adr E.2.1 8 0), va_rf (x1)] w (wk0 (fun w1 => wle w w1 → zb_X9_action_p336 E L Q w1) (fun e w => Q (.inr e) w))
theorem zt_X9_action_p140 {E : zE} {L : Nat} {Q : kx_Rs → wS → Prop} {x1 : Option Nat} {w : wS} (hL : 27 ≤ L) (h : zb_X9_action_p140 E L Q x1 w) : kzE E L kt_M16 140 [(0, .ref (w_adr E.2.1 8 0)), (1, va_rf (x1))] [] w Q := by
  unfold zb_X9_action_p140 at h
  refine kz_aload_n (M := kt_M16) kX9_action_c4.2.1 rfl ?_
  refine kz_aload_nv (M := kt_M16) (x := x1) kX9_action_c4.2.2.1 rfl ?_
  refine kz_cv0 (M := kt_M16) (c := 8) (o := 0) (As := [va_rf (x1)]) (rest := []) kX9_action_c4.2.2.2.1 wl_X9_254 wMv_31 rfl (.inl rfl) rfl (Nat.le_trans (Nat.le_of_ble_eq_true rfl) hL) (by simp [lg_sl, w_cat, z_ci, z_cr, z_cl, z_cn, kt_M31]) (Nat.le_of_ble_eq_true rfl) h (fun w1 hle h => ?_) (fun _ _ _ h => kzx_no rfl h)
  have h := h hle
  refine kz_goto (M := kt_M16) kX9_action_c4.2.2.2.2.1 (t := 336) rfl ?_
  exact kz_weak [(0, .ref (w_adr E.2.1 8 0))] ⟨rfl, trivial⟩ rfl (zt_X9_action_p336 hL  h)
def zb_X9_action_p0 (E : zE) (L : Nat) (Q : kx_Rs → wS → Prop) (x1 : Option Nat) (w : wS) : Prop := (∃ p1, x1 = some p1 ∧ w_l w E.2.1 14 p1 ∧ (∃ i2, zO E "MeetingHouse$Kind" (w_p w 14 p1 0) i2 ∧ (if (kw_on i2) = 14 then zw E (L - 21) kt_M15 [.ref (w_adr E.2.1 8 0), va_rf (x1)] w (wk0 (fun w3 => wle w w3 → zb_X9_action_p336 E L Q w3) (fun e w => Q (.inr e) w)) else (if (kw_on i2) = 15 then zw E (L - 21) kt_M15 [.ref (w_adr E.2.1 8 0), va_rf (x1)] w (wk0 (fun w5 => wle w w5 → zw E (L - 22) kt_M25 [.ref (w_adr E.2.1 8 0), .int 33, .int 0] w5 (wk0 (fun w7 => wle w5 w7 → zb_X9_action_p336 E L Q w7) (fun e w => Q (.inr e) w))) (fun e w => Q (.inr e) w)) else (if (kw_on i2) = 16 then zw E (L - 23) kt_M20 [.ref (w_adr E.2.1 8 0), va_rf (x1)] w (wk0 (fun w9 => wle w w9 → zb_X9_action_p336 E L Q w9) (fun e w => Q (.inr e) w)) else (if (kw_on i2) = 17 then zw E (L - 21) kt_M15 [.ref (w_adr E.2.1 8 0), va_rf (x1)] w (wk0 (fun w11 => wle w w11 → (∃ p13, w_p w11 14 p1 3 = some p13 ∧ w_l w11 E.2.1 14 p13 ∧ (∃ p14, w_p w11 14 p13 16 = some p14 ∧ w_l w11 E.2.1 15 p14 ∧ (if ¬ w_p w11 15 p14 0 = some (E.1.1 53) then zb_X9_action_p140 E L Q x1 w11 else zw E (L - 22) kt_M44 [.ref (w_adr E.2.1 8 0), va_rf (w_p w11 14 p1 3)] w11 (wk0 (fun w15 => wle w11 w15 → zb_X9_action_p140 E L Q x1 w15) (fun e w => Q (.inr e) w)))))) (fun e w => Q (.inr e) w)) else (if (kw_on i2) = 18 then zw E (L - 25) kt_M41 [.ref (w_adr E.2.1 8 0), va_rf (x1)] w (wk0 (fun w17 => wle w w17 → zb_X9_action_p336 E L Q w17) (fun e w => Q (.inr e) w)) else (if (kw_on i2) = 19 then zw E (L - 21) kt_M15 [.ref (w_adr E.2.1 8 0), va_rf (x1)] w (wk0 (fun w19 => wle w w19 → zw E (L - 23) kt_M27 [.ref (w_adr E.2.1 8 0), va_rf (w_p w19 14 p1 4)] w19 (wk0 (fun w21 => wle w19 w21 → zw E (L - 21) kt_M24 [.ref (w_adr E.2.1 8 0), .int 39] w21 (wk0 (fun w23 => wle w21 w23 → zb_X9_action_p336 E L Q w23) (fun e w => Q (.inr e) w))) (fun e w => Q (.inr e) w))) (fun e w => Q (.inr e) w)) else (if (kw_on i2) = 20 then zw E (L - 21) kt_M15 [.ref (w_adr E.2.1 8 0), va_rf (x1)] w (wk0 (fun w25 => wle w w25 → zw E (L - 22) kt_M44 [.ref (w_adr E.2.1 8 0), va_rf (w_p w25 14 p1 3)] w25 (wk0 (fun w27 => wle w25 w27 → zw E (L - 25) kt_M52 [.ref (w_adr E.2.1 8 0), va_rf (w_p w27 14 p1 4)] w27 (wk0 (fun w29 => wle w27 w29 → zb_X9_action_p336 E L Q w29) (fun e w => Q (.inr e) w))) (fun e w => Q (.inr e) w))) (fun e w => Q (.inr e) w)) else (if (kw_on i2) = 21 then zw E (L - 21) kt_M15 [.ref (w_adr E.2.1 8 0), va_rf (x1)] w (wk0 (fun w31 => wle w w31 → zw E (L - 23) kt_M18 [.ref (w_adr E.2.1 8 0), va_rf (x1)] w31 (wk0 (fun w33 => wle w31 w33 → (∃ p35, w_p w33 14 p1 16 = some p35 ∧ w_l w33 E.2.1 15 p35 ∧ (∃ p36, w_p w33 15 p35 20 = some p36 ∧ w_l w33 E.2.1 16 p36 ∧ (∃ p37, w_p w33 8 0 7 = some p37 ∧ w_l w33 E.2.1 16 p37 ∧ zw E (L - 23) kt_M26 [.ref (w_adr E.2.1 8 0), .int 43, .int (w_i w33 16 p36 4), .int (((w_i w33 16 p37 1) - (w_i w33 16 p36 1)) + 1)] w33 (wk0 (fun w38 => wle w33 w38 → zb_X9_action_p336 E L Q w38) (fun e w => Q (.inr e) w)))))) (fun e w => Q (.inr e) w))) (fun e w => Q (.inr e) w)) else (if (kw_on i2) = 22 then zw E (L - 25) kt_M48 [.ref (w_adr E.2.1 8 0), va_rf (x1)] w (wk0 (fun w40 => wle w w40 → zb_X9_action_p336 E L Q w40) (fun e w => Q (.inr e) w)) else (if (kw_on i2) = 23 then zw E (L - 27) kt_M43 [.ref (w_adr E.2.1 8 0), va_rf (x1)] w (wk0 (fun w42 => wle w w42 → zb_X9_action_p336 E L Q w42) (fun e w => Q (.inr e) w)) else (if (kw_on i2) = 24 then zw E (L - 24) kt_M21 [.ref (w_adr E.2.1 8 0), va_rf (x1)] w (wk0 (fun w44 => wle w w44 → zb_X9_action_p336 E L Q w44) (fun e w => Q (.inr e) w)) else (if (kw_on i2) = 26 then zw E (L - 23) kt_M40 [.ref (w_adr E.2.1 8 0), va_rf (x1)] w (wk0 (fun w46 => wle w w46 → zb_X9_action_p336 E L Q w46) (fun e w => Q (.inr e) w)) else (if (kw_on i2) = 28 then zw E (L - 20) kt_M29 [.ref (w_adr E.2.1 8 0)] w (wk1 (fun v49 w48 => wle w w48 → zw E (L - 21) kt_M15 [.ref (w_adr E.2.1 8 0), va_rf (x1)] w48 (wk0 (fun w50 => wle w48 w50 → zw E (L - 23) kt_M27 [.ref (w_adr E.2.1 8 0), va_rf (w_p w50 14 p1 3)] w50 (wk0 (fun w52 => wle w50 w52 → zw E (L - 21) kt_M32 [.ref (w_adr E.2.1 8 0), .int 16] w52 (wk1 (fun v55 w54 => wle w52 w54 → zw E (L - 22) kt_M46 [.ref (w_adr E.2.1 8 0), va_rf (w_p w54 14 p1 4)] w54 (wk0 (fun w56 => wle w54 w56 → zw E (L - 22) kt_M25 [.ref (w_adr E.2.1 8 0), .int 15, .int v49] w56 (wk0 (fun w58 => wle w56 w58 → zw E (L - 21) kt_M33 [.ref (w_adr E.2.1 8 0), .int v55] w58 (wk0 (fun w60 => wle w58 w60 → zb_X9_action_p336 E L Q w60) (fun e w => Q (.inr e) w))) (fun e w => Q (.inr e) w))) (fun e w => Q (.inr e) w))) (fun e w => Q (.inr e) w))) (fun e w => Q (.inr e) w))) (fun e w => Q (.inr e) w))) (fun e w => Q (.inr e) w)) else zw E (L - 26) kt_M17 [.ref (w_adr E.2.1 8 0), va_rf (x1)] w (wk0 (fun w62 => wle w w62 → zb_X9_action_p336 E L Q w62) (fun e w => Q (.inr e) w)))))))))))))))))
theorem zt_X9_action_p0 {E : zE} {L : Nat} {Q : kx_Rs → wS → Prop} {x1 : Option Nat} {w : wS} (hL : 27 ≤ L) (h : zb_X9_action_p0 E L Q x1 w) : kzE E L kt_M16 0 [(0, .ref (w_adr E.2.1 8 0)), (1, va_rf (x1))] [] w Q := by
  unfold zb_X9_action_p0 at h
  refine kz_aload_nv (M := kt_M16) (x := x1) kX9_action_c0.1 rfl ?_
  obtain ⟨p1, hxp1, hlp1, h⟩ := h
  refine kz_nz0 (x := x1) hxp1 ?_
  refine kz_gfp (M := kt_M16) (c := 14) (o := p1) kX9_action_c0.2.1 wf_X9_103 (.inr (by exact hlp1)) ?_
  obtain ⟨i2, ho, h⟩ := h
  refine kz_ord (M := kt_M16) (x := w_p w 14 p1 0) (i := i2) (C := "MeetingHouse$Kind") kX9_action_c0.2.2.1 zo_l_X9 zo_m_X9 zo_s_Kind zo_u_X9 (Nat.le_trans (Nat.le_of_ble_eq_true rfl) hL) (Nat.le_of_ble_eq_true rfl) ho ?_
  refine kz_tsw (M := kt_M16) [(14, 80), (15, 88), (16, 103), (17, 111), (18, 194), (19, 148), (20, 170), (21, 202), (22, 251), (23, 259), (24, 267), (26, 275), (28, 283)] [_, _, _, _, _, _, _, _, _, _, _, _, _] 331 dX9_action_p7 (by decide +kernel) h ⟨fun h => ?_, fun h => ?_, fun h => ?_, fun h => ?_, fun h => ?_, fun h => ?_, fun h => ?_, fun h => ?_, fun h => ?_, fun h => ?_, fun h => ?_, fun h => ?_, fun h => ?_, trivial⟩ (fun h => ?_)
  · skip
    refine kz_aload_n (M := kt_M16) kX9_action_c0.2.2.2.2.1 rfl ?_
    refine kz_aload_nv (M := kt_M16) (x := x1) kX9_action_c0.2.2.2.2.2.1 rfl ?_
    refine kz_cv0 (M := kt_M16) (c := 8) (o := 0) (As := [va_rf (x1)]) (rest := []) kX9_action_c0.2.2.2.2.2.2.1 wl_X9_239 wMv_15 rfl (.inl rfl) rfl (Nat.le_trans (Nat.le_of_ble_eq_true rfl) hL) (by simp [lg_sl, w_cat, z_ci, z_cr, z_cl, z_cn, kt_M15]) (Nat.le_of_ble_eq_true rfl) h (fun w3 hle h => ?_) (fun _ _ _ h => kzx_no rfl h)
    have h := h hle
    have hlp1 := w_l_le hlp1 hle
    refine kz_goto (M := kt_M16) kX9_action_c0.2.2.2.2.2.2.2.1 (t := 336) rfl ?_
    exact kz_weak [(0, .ref (w_adr E.2.1 8 0))] ⟨rfl, trivial⟩ rfl (zt_X9_action_p336 hL  h)
  · skip
    refine kz_aload_n (M := kt_M16) kX9_action_c1.1 rfl ?_
    refine kz_aload_nv (M := kt_M16) (x := x1) kX9_action_c1.2.1 rfl ?_
    refine kz_cv0 (M := kt_M16) (c := 8) (o := 0) (As := [va_rf (x1)]) (rest := []) kX9_action_c1.2.2.1 wl_X9_239 wMv_15 rfl (.inl rfl) rfl (Nat.le_trans (Nat.le_of_ble_eq_true rfl) hL) (by simp [lg_sl, w_cat, z_ci, z_cr, z_cl, z_cn, kt_M15]) (Nat.le_of_ble_eq_true rfl) h (fun w5 hle h => ?_) (fun _ _ _ h => kzx_no rfl h)
    have h := h hle
    have hlp1 := w_l_le hlp1 hle
    refine kz_aload_n (M := kt_M16) kX9_action_c1.2.2.2.1 rfl ?_
    refine kz_bi (M := kt_M16) 33 kX9_action_c1.2.2.2.2.1 rfl ?_
    refine kz_ic (M := kt_M16) 0 kX9_action_c1.2.2.2.2.2.1 rfl ?_
    refine kz_cv0 (M := kt_M16) (c := 8) (o := 0) (As := [.int 33, .int 0]) (rest := []) kX9_action_c1.2.2.2.2.2.2.1 wl_X9_42 wMv_25 rfl (.inl rfl) rfl (Nat.le_trans (Nat.le_of_ble_eq_true rfl) hL) (Nat.le_of_ble_eq_true rfl) (Nat.le_of_ble_eq_true rfl) h (fun w7 hle h => ?_) (fun _ _ _ h => kzx_no rfl h)
    have h := h hle
    have hlp1 := w_l_le hlp1 hle
    refine kz_goto (M := kt_M16) kX9_action_c1.2.2.2.2.2.2.2.1 (t := 336) rfl ?_
    exact kz_weak [(0, .ref (w_adr E.2.1 8 0))] ⟨rfl, trivial⟩ rfl (zt_X9_action_p336 hL  h)
  · skip
    refine kz_aload_n (M := kt_M16) kX9_action_c2.1 rfl ?_
    refine kz_aload_nv (M := kt_M16) (x := x1) kX9_action_c2.2.1 rfl ?_
    refine kz_cv0 (M := kt_M16) (c := 8) (o := 0) (As := [va_rf (x1)]) (rest := []) kX9_action_c2.2.2.1 wl_X9_242 wMv_20 rfl (.inl rfl) rfl (Nat.le_trans (Nat.le_of_ble_eq_true rfl) hL) (by simp [lg_sl, w_cat, z_ci, z_cr, z_cl, z_cn, kt_M20]) (Nat.le_of_ble_eq_true rfl) h (fun w9 hle h => ?_) (fun _ _ _ h => kzx_no rfl h)
    have h := h hle
    have hlp1 := w_l_le hlp1 hle
    refine kz_goto (M := kt_M16) kX9_action_c2.2.2.2.1 (t := 336) rfl ?_
    exact kz_weak [(0, .ref (w_adr E.2.1 8 0))] ⟨rfl, trivial⟩ rfl (zt_X9_action_p336 hL  h)
  · skip
    refine kz_aload_n (M := kt_M16) kX9_action_c2.2.2.2.2.1 rfl ?_
    refine kz_aload_nv (M := kt_M16) (x := x1) kX9_action_c2.2.2.2.2.2.1 rfl ?_
    refine kz_cv0 (M := kt_M16) (c := 8) (o := 0) (As := [va_rf (x1)]) (rest := []) kX9_action_c2.2.2.2.2.2.2.1 wl_X9_239 wMv_15 rfl (.inl rfl) rfl (Nat.le_trans (Nat.le_of_ble_eq_true rfl) hL) (by simp [lg_sl, w_cat, z_ci, z_cr, z_cl, z_cn, kt_M15]) (Nat.le_of_ble_eq_true rfl) h (fun w11 hle h => ?_) (fun _ _ _ h => kzx_no rfl h)
    have h := h hle
    have hlp1 := w_l_le hlp1 hle
    refine kz_aload_nv (M := kt_M16) (x := x1) kX9_action_c2.2.2.2.2.2.2.2.1 rfl ?_
    refine kz_nz0 (x := x1) hxp1 ?_
    refine kz_gfp (M := kt_M16) (c := 14) (o := p1) kX9_action_c3.1 wf_X9_93 (.inr (by exact hlp1)) ?_
    obtain ⟨p13, hxp13, hlp13, h⟩ := h
    refine kz_nz0 (x := w_p w11 14 p1 3) hxp13 ?_
    refine kz_gfp (M := kt_M16) (c := 14) (o := p13) kX9_action_c3.2.1 wf_X9_115 (.inr (by exact hlp13)) ?_
    obtain ⟨p14, hxp14, hlp14, h⟩ := h
    refine kz_nz0 (x := w_p w11 14 p13 16) hxp14 ?_
    refine kz_gfp (M := kt_M16) (c := 15) (o := p14) kX9_action_c3.2.2.1 wf_X9_245 (.inr (by exact hlp14)) ?_
    refine kz_getsE (M := kt_M16) (v := va_rf (some (E.1.1 53))) kX9_action_c3.2.2.2.1 zs_X9_249 ?_
    refine kz_acmp_ne (M := kt_M16) (x := w_p w11 15 p14 0) (y := some (E.1.1 53)) kX9_action_c3.2.2.2.2.1 (t := 140) rfl h (fun h => ?_) (fun h => ?_)
    · skip
      exact kz_weak [(0, .ref (w_adr E.2.1 8 0)), (1, va_rf (x1))] ⟨rfl, ⟨rfl, trivial⟩⟩ rfl (zt_X9_action_p140 hL  h)
    · skip
      refine kz_aload_n (M := kt_M16) kX9_action_c3.2.2.2.2.2.1 rfl ?_
      refine kz_aload_nv (M := kt_M16) (x := x1) kX9_action_c3.2.2.2.2.2.2.1 rfl ?_
      refine kz_nz0 (x := x1) hxp1 ?_
      refine kz_gfp (M := kt_M16) (c := 14) (o := p1) kX9_action_c3.2.2.2.2.2.2.2.1 wf_X9_93 (.inr (by exact hlp1)) ?_
      refine kz_cv0 (M := kt_M16) (c := 8) (o := 0) (As := [va_rf (w_p w11 14 p1 3)]) (rest := []) kX9_action_c4.1 wl_X9_179 wMv_44 rfl (.inl rfl) rfl (Nat.le_trans (Nat.le_of_ble_eq_true rfl) hL) (by simp [lg_sl, w_cat, z_ci, z_cr, z_cl, z_cn, kt_M44]) (Nat.le_of_ble_eq_true rfl) h (fun w15 hle h => ?_) (fun _ _ _ h => kzx_no rfl h)
      have h := h hle
      have hlp1 := w_l_le hlp1 hle
      have hlp13 := w_l_le hlp13 hle
      have hlp14 := w_l_le hlp14 hle
      exact kz_weak [(0, .ref (w_adr E.2.1 8 0)), (1, va_rf (x1))] ⟨rfl, ⟨rfl, trivial⟩⟩ rfl (zt_X9_action_p140 hL  h)
  · skip
    refine kz_aload_n (M := kt_M16) kX9_action_c7.2.2.2.2.1 rfl ?_
    refine kz_aload_nv (M := kt_M16) (x := x1) kX9_action_c7.2.2.2.2.2.1 rfl ?_
    refine kz_cv0 (M := kt_M16) (c := 8) (o := 0) (As := [va_rf (x1)]) (rest := []) kX9_action_c7.2.2.2.2.2.2.1 wl_X9_260 wMv_41 rfl (.inl rfl) rfl (Nat.le_trans (Nat.le_of_ble_eq_true rfl) hL) (by simp [lg_sl, w_cat, z_ci, z_cr, z_cl, z_cn, kt_M41]) (Nat.le_of_ble_eq_true rfl) h (fun w17 hle h => ?_) (fun _ _ _ h => kzx_no rfl h)
    have h := h hle
    have hlp1 := w_l_le hlp1 hle
    refine kz_goto (M := kt_M16) kX9_action_c7.2.2.2.2.2.2.2.1 (t := 336) rfl ?_
    exact kz_weak [(0, .ref (w_adr E.2.1 8 0))] ⟨rfl, trivial⟩ rfl (zt_X9_action_p336 hL  h)
  · skip
    refine kz_aload_n (M := kt_M16) kX9_action_c4.2.2.2.2.2.1 rfl ?_
    refine kz_aload_nv (M := kt_M16) (x := x1) kX9_action_c4.2.2.2.2.2.2.1 rfl ?_
    refine kz_cv0 (M := kt_M16) (c := 8) (o := 0) (As := [va_rf (x1)]) (rest := []) kX9_action_c4.2.2.2.2.2.2.2.1 wl_X9_239 wMv_15 rfl (.inl rfl) rfl (Nat.le_trans (Nat.le_of_ble_eq_true rfl) hL) (by simp [lg_sl, w_cat, z_ci, z_cr, z_cl, z_cn, kt_M15]) (Nat.le_of_ble_eq_true rfl) h (fun w19 hle h => ?_) (fun _ _ _ h => kzx_no rfl h)
    have h := h hle
    have hlp1 := w_l_le hlp1 hle
    refine kz_aload_n (M := kt_M16) kX9_action_c5.1 rfl ?_
    refine kz_aload_nv (M := kt_M16) (x := x1) kX9_action_c5.2.1 rfl ?_
    refine kz_nz0 (x := x1) hxp1 ?_
    refine kz_gfp (M := kt_M16) (c := 14) (o := p1) kX9_action_c5.2.2.1 wf_X9_112 (.inr (by exact hlp1)) ?_
    refine kz_cv0 (M := kt_M16) (c := 8) (o := 0) (As := [va_rf (w_p w19 14 p1 4)]) (rest := []) kX9_action_c5.2.2.2.1 wl_X9_200 wMv_27 rfl (.inl rfl) rfl (Nat.le_trans (Nat.le_of_ble_eq_true rfl) hL) (by simp [lg_sl, w_cat, z_ci, z_cr, z_cl, z_cn, kt_M27]) (Nat.le_of_ble_eq_true rfl) h (fun w21 hle h => ?_) (fun _ _ _ h => kzx_no rfl h)
    have h := h hle
    have hlp1 := w_l_le hlp1 hle
    refine kz_aload_n (M := kt_M16) kX9_action_c5.2.2.2.2.1 rfl ?_
    refine kz_bi (M := kt_M16) 39 kX9_action_c5.2.2.2.2.2.1 rfl ?_
    refine kz_cv0 (M := kt_M16) (c := 8) (o := 0) (As := [.int 39]) (rest := []) kX9_action_c5.2.2.2.2.2.2.1 wl_X9_137 wMv_24 rfl (.inl rfl) rfl (Nat.le_trans (Nat.le_of_ble_eq_true rfl) hL) (Nat.le_of_ble_eq_true rfl) (Nat.le_of_ble_eq_true rfl) h (fun w23 hle h => ?_) (fun _ _ _ h => kzx_no rfl h)
    have h := h hle
    have hlp1 := w_l_le hlp1 hle
    refine kz_goto (M := kt_M16) kX9_action_c5.2.2.2.2.2.2.2.1 (t := 336) rfl ?_
    exact kz_weak [(0, .ref (w_adr E.2.1 8 0))] ⟨rfl, trivial⟩ rfl (zt_X9_action_p336 hL  h)
  · skip
    refine kz_aload_n (M := kt_M16) kX9_action_c6.1 rfl ?_
    refine kz_aload_nv (M := kt_M16) (x := x1) kX9_action_c6.2.1 rfl ?_
    refine kz_cv0 (M := kt_M16) (c := 8) (o := 0) (As := [va_rf (x1)]) (rest := []) kX9_action_c6.2.2.1 wl_X9_239 wMv_15 rfl (.inl rfl) rfl (Nat.le_trans (Nat.le_of_ble_eq_true rfl) hL) (by simp [lg_sl, w_cat, z_ci, z_cr, z_cl, z_cn, kt_M15]) (Nat.le_of_ble_eq_true rfl) h (fun w25 hle h => ?_) (fun _ _ _ h => kzx_no rfl h)
    have h := h hle
    have hlp1 := w_l_le hlp1 hle
    refine kz_aload_n (M := kt_M16) kX9_action_c6.2.2.2.1 rfl ?_
    refine kz_aload_nv (M := kt_M16) (x := x1) kX9_action_c6.2.2.2.2.1 rfl ?_
    refine kz_nz0 (x := x1) hxp1 ?_
    refine kz_gfp (M := kt_M16) (c := 14) (o := p1) kX9_action_c6.2.2.2.2.2.1 wf_X9_93 (.inr (by exact hlp1)) ?_
    refine kz_cv0 (M := kt_M16) (c := 8) (o := 0) (As := [va_rf (w_p w25 14 p1 3)]) (rest := []) kX9_action_c6.2.2.2.2.2.2.1 wl_X9_179 wMv_44 rfl (.inl rfl) rfl (Nat.le_trans (Nat.le_of_ble_eq_true rfl) hL) (by simp [lg_sl, w_cat, z_ci, z_cr, z_cl, z_cn, kt_M44]) (Nat.le_of_ble_eq_true rfl) h (fun w27 hle h => ?_) (fun _ _ _ h => kzx_no rfl h)
    have h := h hle
    have hlp1 := w_l_le hlp1 hle
    refine kz_aload_n (M := kt_M16) kX9_action_c6.2.2.2.2.2.2.2.1 rfl ?_
    refine kz_aload_nv (M := kt_M16) (x := x1) kX9_action_c7.1 rfl ?_
    refine kz_nz0 (x := x1) hxp1 ?_
    refine kz_gfp (M := kt_M16) (c := 14) (o := p1) kX9_action_c7.2.1 wf_X9_112 (.inr (by exact hlp1)) ?_
    refine kz_cv0 (M := kt_M16) (c := 8) (o := 0) (As := [va_rf (w_p w27 14 p1 4)]) (rest := []) kX9_action_c7.2.2.1 wl_X9_257 wMv_52 rfl (.inl rfl) rfl (Nat.le_trans (Nat.le_of_ble_eq_true rfl) hL) (by simp [lg_sl, w_cat, z_ci, z_cr, z_cl, z_cn, kt_M52]) (Nat.le_of_ble_eq_true rfl) h (fun w29 hle h => ?_) (fun _ _ _ h => kzx_no rfl h)
    have h := h hle
    have hlp1 := w_l_le hlp1 hle
    refine kz_goto (M := kt_M16) kX9_action_c7.2.2.2.1 (t := 336) rfl ?_
    exact kz_weak [(0, .ref (w_adr E.2.1 8 0))] ⟨rfl, trivial⟩ rfl (zt_X9_action_p336 hL  h)
  · skip
    refine kz_aload_n (M := kt_M16) kX9_action_c8.1 rfl ?_
    refine kz_aload_nv (M := kt_M16) (x := x1) kX9_action_c8.2.1 rfl ?_
    refine kz_cv0 (M := kt_M16) (c := 8) (o := 0) (As := [va_rf (x1)]) (rest := []) kX9_action_c8.2.2.1 wl_X9_239 wMv_15 rfl (.inl rfl) rfl (Nat.le_trans (Nat.le_of_ble_eq_true rfl) hL) (by simp [lg_sl, w_cat, z_ci, z_cr, z_cl, z_cn, kt_M15]) (Nat.le_of_ble_eq_true rfl) h (fun w31 hle h => ?_) (fun _ _ _ h => kzx_no rfl h)
    have h := h hle
    have hlp1 := w_l_le hlp1 hle
    refine kz_aload_n (M := kt_M16) kX9_action_c8.2.2.2.1 rfl ?_
    refine kz_aload_nv (M := kt_M16) (x := x1) kX9_action_c8.2.2.2.2.1 rfl ?_
    refine kz_cv0 (M := kt_M16) (c := 8) (o := 0) (As := [va_rf (x1)]) (rest := []) kX9_action_c8.2.2.2.2.2.1 wl_X9_263 wMv_18 rfl (.inl rfl) rfl (Nat.le_trans (Nat.le_of_ble_eq_true rfl) hL) (by simp [lg_sl, w_cat, z_ci, z_cr, z_cl, z_cn, kt_M18]) (Nat.le_of_ble_eq_true rfl) h (fun w33 hle h => ?_) (fun _ _ _ h => kzx_no rfl h)
    have h := h hle
    have hlp1 := w_l_le hlp1 hle
    refine kz_aload_n (M := kt_M16) kX9_action_c8.2.2.2.2.2.2.1 rfl ?_
    refine kz_bi (M := kt_M16) 43 kX9_action_c8.2.2.2.2.2.2.2.1 rfl ?_
    refine kz_aload_nv (M := kt_M16) (x := x1) kX9_action_c9.1 rfl ?_
    refine kz_nz0 (x := x1) hxp1 ?_
    refine kz_gfp (M := kt_M16) (c := 14) (o := p1) kX9_action_c9.2.1 wf_X9_115 (.inr (by exact hlp1)) ?_
    obtain ⟨p35, hxp35, hlp35, h⟩ := h
    refine kz_nz0 (x := w_p w33 14 p1 16) hxp35 ?_
    refine kz_gfp (M := kt_M16) (c := 15) (o := p35) kX9_action_c9.2.2.1 wf_X9_145 (.inr (by exact hlp35)) ?_
    obtain ⟨p36, hxp36, hlp36, h⟩ := h
    refine kz_nz0 (x := w_p w33 15 p35 20) hxp36 ?_
    refine kz_gfi (M := kt_M16) (c := 16) (o := p36) kX9_action_c9.2.2.2.1 wf_X9_63 (.inr (by exact hlp36)) ?_
    refine kz_aload_n (M := kt_M16) kX9_action_c9.2.2.2.2.1 rfl ?_
    refine kz_gfp (M := kt_M16) (c := 8) (o := 0) kX9_action_c9.2.2.2.2.2.1 wf_X9_88 (.inl rfl) ?_
    obtain ⟨p37, hxp37, hlp37, h⟩ := h
    refine kz_nz0 (x := w_p w33 8 0 7) hxp37 ?_
    refine kz_gfi (M := kt_M16) (c := 16) (o := p37) kX9_action_c9.2.2.2.2.2.2.1 wf_X9_151 (.inr (by exact hlp37)) ?_
    refine kz_aload_nv (M := kt_M16) (x := x1) kX9_action_c9.2.2.2.2.2.2.2.1 rfl ?_
    refine kz_nz0 (x := x1) hxp1 ?_
    refine kz_gfp (M := kt_M16) (c := 14) (o := p1) kX9_action_c10.1 wf_X9_115 (.inr (by exact hlp1)) ?_
    refine kz_nz0 (x := w_p w33 14 p1 16) hxp35 ?_
    refine kz_gfp (M := kt_M16) (c := 15) (o := p35) kX9_action_c10.2.1 wf_X9_145 (.inr (by exact hlp35)) ?_
    refine kz_nz0 (x := w_p w33 15 p35 20) hxp36 ?_
    refine kz_gfi (M := kt_M16) (c := 16) (o := p36) kX9_action_c10.2.2.1 wf_X9_151 (.inr (by exact hlp36)) ?_
    refine kz_isub (M := kt_M16) kX9_action_c10.2.2.2.1 ?_
    refine kz_ic (M := kt_M16) 1 kX9_action_c10.2.2.2.2.1 rfl ?_
    refine kz_iadd (M := kt_M16) kX9_action_c10.2.2.2.2.2.1 ?_
    refine kz_cv0 (M := kt_M16) (c := 8) (o := 0) (As := [.int 43, .int (w_i w33 16 p36 4), .int (((w_i w33 16 p37 1) - (w_i w33 16 p36 1)) + 1)]) (rest := []) kX9_action_c10.2.2.2.2.2.2.1 wl_X9_154 wMv_26 rfl (.inl rfl) rfl (Nat.le_trans (Nat.le_of_ble_eq_true rfl) hL) (Nat.le_of_ble_eq_true rfl) (Nat.le_of_ble_eq_true rfl) h (fun w38 hle h => ?_) (fun _ _ _ h => kzx_no rfl h)
    have h := h hle
    have hlp1 := w_l_le hlp1 hle
    have hlp35 := w_l_le hlp35 hle
    have hlp36 := w_l_le hlp36 hle
    have hlp37 := w_l_le hlp37 hle
    refine kz_goto (M := kt_M16) kX9_action_c10.2.2.2.2.2.2.2.1 (t := 336) rfl ?_
    exact kz_weak [(0, .ref (w_adr E.2.1 8 0))] ⟨rfl, trivial⟩ rfl (zt_X9_action_p336 hL  h)
  · skip
    refine kz_aload_n (M := kt_M16) kX9_action_c11.1 rfl ?_
    refine kz_aload_nv (M := kt_M16) (x := x1) kX9_action_c11.2.1 rfl ?_
    refine kz_cv0 (M := kt_M16) (c := 8) (o := 0) (As := [va_rf (x1)]) (rest := []) kX9_action_c11.2.2.1 wl_X9_266 wMv_48 rfl (.inl rfl) rfl (Nat.le_trans (Nat.le_of_ble_eq_true rfl) hL) (by simp [lg_sl, w_cat, z_ci, z_cr, z_cl, z_cn, kt_M48]) (Nat.le_of_ble_eq_true rfl) h (fun w40 hle h => ?_) (fun _ _ _ h => kzx_no rfl h)
    have h := h hle
    have hlp1 := w_l_le hlp1 hle
    refine kz_goto (M := kt_M16) kX9_action_c11.2.2.2.1 (t := 336) rfl ?_
    exact kz_weak [(0, .ref (w_adr E.2.1 8 0))] ⟨rfl, trivial⟩ rfl (zt_X9_action_p336 hL  h)
  · skip
    refine kz_aload_n (M := kt_M16) kX9_action_c11.2.2.2.2.1 rfl ?_
    refine kz_aload_nv (M := kt_M16) (x := x1) kX9_action_c11.2.2.2.2.2.1 rfl ?_
    refine kz_cv0 (M := kt_M16) (c := 8) (o := 0) (As := [va_rf (x1)]) (rest := []) kX9_action_c11.2.2.2.2.2.2.1 wl_X9_269 wMv_43 rfl (.inl rfl) rfl (Nat.le_trans (Nat.le_of_ble_eq_true rfl) hL) (by simp [lg_sl, w_cat, z_ci, z_cr, z_cl, z_cn, kt_M43]) (Nat.le_of_ble_eq_true rfl) h (fun w42 hle h => ?_) (fun _ _ _ h => kzx_no rfl h)
    have h := h hle
    have hlp1 := w_l_le hlp1 hle
    refine kz_goto (M := kt_M16) kX9_action_c11.2.2.2.2.2.2.2.1 (t := 336) rfl ?_
    exact kz_weak [(0, .ref (w_adr E.2.1 8 0))] ⟨rfl, trivial⟩ rfl (zt_X9_action_p336 hL  h)
  · skip
    refine kz_aload_n (M := kt_M16) kX9_action_c12.1 rfl ?_
    refine kz_aload_nv (M := kt_M16) (x := x1) kX9_action_c12.2.1 rfl ?_
    refine kz_cv0 (M := kt_M16) (c := 8) (o := 0) (As := [va_rf (x1)]) (rest := []) kX9_action_c12.2.2.1 wl_X9_272 wMv_21 rfl (.inl rfl) rfl (Nat.le_trans (Nat.le_of_ble_eq_true rfl) hL) (by simp [lg_sl, w_cat, z_ci, z_cr, z_cl, z_cn, kt_M21]) (Nat.le_of_ble_eq_true rfl) h (fun w44 hle h => ?_) (fun _ _ _ h => kzx_no rfl h)
    have h := h hle
    have hlp1 := w_l_le hlp1 hle
    refine kz_goto (M := kt_M16) kX9_action_c12.2.2.2.1 (t := 336) rfl ?_
    exact kz_weak [(0, .ref (w_adr E.2.1 8 0))] ⟨rfl, trivial⟩ rfl (zt_X9_action_p336 hL  h)
  · skip
    refine kz_aload_n (M := kt_M16) kX9_action_c12.2.2.2.2.1 rfl ?_
    refine kz_aload_nv (M := kt_M16) (x := x1) kX9_action_c12.2.2.2.2.2.1 rfl ?_
    refine kz_cv0 (M := kt_M16) (c := 8) (o := 0) (As := [va_rf (x1)]) (rest := []) kX9_action_c12.2.2.2.2.2.2.1 wl_X9_275 wMv_40 rfl (.inl rfl) rfl (Nat.le_trans (Nat.le_of_ble_eq_true rfl) hL) (by simp [lg_sl, w_cat, z_ci, z_cr, z_cl, z_cn, kt_M40]) (Nat.le_of_ble_eq_true rfl) h (fun w46 hle h => ?_) (fun _ _ _ h => kzx_no rfl h)
    have h := h hle
    have hlp1 := w_l_le hlp1 hle
    refine kz_goto (M := kt_M16) kX9_action_c12.2.2.2.2.2.2.2.1 (t := 336) rfl ?_
    exact kz_weak [(0, .ref (w_adr E.2.1 8 0))] ⟨rfl, trivial⟩ rfl (zt_X9_action_p336 hL  h)
  · skip
    refine kz_aload_n (M := kt_M16) kX9_action_c13.1 rfl ?_
    refine kz_cv1 (M := kt_M16) (c := 8) (o := 0) (As := []) (rest := []) kX9_action_c13.2.1 wl_X9_46 wMv_29 rfl (.inl rfl) rfl (Nat.le_trans (Nat.le_of_ble_eq_true rfl) hL) (Nat.le_of_ble_eq_true rfl) (Nat.le_of_ble_eq_true rfl) h (fun v49 w48 hle h => ?_) (fun _ _ _ h => kzx_no rfl h)
    have h := h hle
    have hlp1 := w_l_le hlp1 hle
    refine kz_sti_n (M := kt_M16) [(0, .ref (w_adr E.2.1 8 0)), (1, va_rf (x1))] kX9_action_c13.2.2.1 (Nat.le_of_ble_eq_true rfl) ⟨⟨rfl, rfl, .inl rfl⟩, ⟨⟨rfl, rfl, .inr (w_cat (x1))⟩, trivial⟩⟩ rfl ?_
    refine kz_aload_n (M := kt_M16) kX9_action_c13.2.2.2.1 rfl ?_
    refine kz_aload_nv (M := kt_M16) (x := x1) kX9_action_c13.2.2.2.2.1 rfl ?_
    refine kz_cv0 (M := kt_M16) (c := 8) (o := 0) (As := [va_rf (x1)]) (rest := []) kX9_action_c13.2.2.2.2.2.1 wl_X9_239 wMv_15 rfl (.inl rfl) rfl (Nat.le_trans (Nat.le_of_ble_eq_true rfl) hL) (by simp [lg_sl, w_cat, z_ci, z_cr, z_cl, z_cn, kt_M15]) (Nat.le_of_ble_eq_true rfl) h (fun w50 hle h => ?_) (fun _ _ _ h => kzx_no rfl h)
    have h := h hle
    have hlp1 := w_l_le hlp1 hle
    refine kz_aload_n (M := kt_M16) kX9_action_c13.2.2.2.2.2.2.1 rfl ?_
    refine kz_aload_nv (M := kt_M16) (x := x1) kX9_action_c13.2.2.2.2.2.2.2.1 rfl ?_
    refine kz_nz0 (x := x1) hxp1 ?_
    refine kz_gfp (M := kt_M16) (c := 14) (o := p1) kX9_action_c14.1 wf_X9_93 (.inr (by exact hlp1)) ?_
    refine kz_cv0 (M := kt_M16) (c := 8) (o := 0) (As := [va_rf (w_p w50 14 p1 3)]) (rest := []) kX9_action_c14.2.1 wl_X9_200 wMv_27 rfl (.inl rfl) rfl (Nat.le_trans (Nat.le_of_ble_eq_true rfl) hL) (by simp [lg_sl, w_cat, z_ci, z_cr, z_cl, z_cn, kt_M27]) (Nat.le_of_ble_eq_true rfl) h (fun w52 hle h => ?_) (fun _ _ _ h => kzx_no rfl h)
    have h := h hle
    have hlp1 := w_l_le hlp1 hle
    refine kz_aload_n (M := kt_M16) kX9_action_c14.2.2.1 rfl ?_
    refine kz_bi (M := kt_M16) 16 kX9_action_c14.2.2.2.1 rfl ?_
    refine kz_cv1 (M := kt_M16) (c := 8) (o := 0) (As := [.int 16]) (rest := []) kX9_action_c14.2.2.2.2.1 wl_X9_209 wMv_32 rfl (.inl rfl) rfl (Nat.le_trans (Nat.le_of_ble_eq_true rfl) hL) (Nat.le_of_ble_eq_true rfl) (Nat.le_of_ble_eq_true rfl) h (fun v55 w54 hle h => ?_) (fun _ _ _ h => kzx_no rfl h)
    have h := h hle
    have hlp1 := w_l_le hlp1 hle
    refine kz_sti_n (M := kt_M16) [(0, .ref (w_adr E.2.1 8 0)), (1, va_rf (x1)), (2, .int v49)] kX9_action_c14.2.2.2.2.2.1 (Nat.le_of_ble_eq_true rfl) ⟨⟨rfl, rfl, .inl rfl⟩, ⟨⟨rfl, rfl, .inl rfl⟩, ⟨⟨rfl, rfl, .inr rfl⟩, trivial⟩⟩⟩ rfl ?_
    refine kz_aload_n (M := kt_M16) kX9_action_c14.2.2.2.2.2.2.1 rfl ?_
    refine kz_aload_nv (M := kt_M16) (x := x1) kX9_action_c14.2.2.2.2.2.2.2.1 rfl ?_
    refine kz_nz0 (x := x1) hxp1 ?_
    refine kz_gfp (M := kt_M16) (c := 14) (o := p1) kX9_action_c15.1 wf_X9_112 (.inr (by exact hlp1)) ?_
    refine kz_cv0 (M := kt_M16) (c := 8) (o := 0) (As := [va_rf (w_p w54 14 p1 4)]) (rest := []) kX9_action_c15.2.1 wl_X9_218 wMv_46 rfl (.inl rfl) rfl (Nat.le_trans (Nat.le_of_ble_eq_true rfl) hL) (by simp [lg_sl, w_cat, z_ci, z_cr, z_cl, z_cn, kt_M46]) (Nat.le_of_ble_eq_true rfl) h (fun w56 hle h => ?_) (fun _ _ _ h => kzx_no rfl h)
    have h := h hle
    have hlp1 := w_l_le hlp1 hle
    refine kz_aload_n (M := kt_M16) kX9_action_c15.2.2.1 rfl ?_
    refine kz_bi (M := kt_M16) 15 kX9_action_c15.2.2.2.1 rfl ?_
    refine kz_iload_n (M := kt_M16) kX9_action_c15.2.2.2.2.1 rfl ?_
    refine kz_cv0 (M := kt_M16) (c := 8) (o := 0) (As := [.int 15, .int v49]) (rest := []) kX9_action_c15.2.2.2.2.2.1 wl_X9_42 wMv_25 rfl (.inl rfl) rfl (Nat.le_trans (Nat.le_of_ble_eq_true rfl) hL) (Nat.le_of_ble_eq_true rfl) (Nat.le_of_ble_eq_true rfl) h (fun w58 hle h => ?_) (fun _ _ _ h => kzx_no rfl h)
    have h := h hle
    have hlp1 := w_l_le hlp1 hle
    refine kz_aload_n (M := kt_M16) kX9_action_c15.2.2.2.2.2.2.1 rfl ?_
    refine kz_iload_n (M := kt_M16) kX9_action_c15.2.2.2.2.2.2.2.1 rfl ?_
    refine kz_cv0 (M := kt_M16) (c := 8) (o := 0) (As := [.int v55]) (rest := []) kX9_action_c16.1 wl_X9_236 wMv_33 rfl (.inl rfl) rfl (Nat.le_trans (Nat.le_of_ble_eq_true rfl) hL) (Nat.le_of_ble_eq_true rfl) (Nat.le_of_ble_eq_true rfl) h (fun w60 hle h => ?_) (fun _ _ _ h => kzx_no rfl h)
    have h := h hle
    have hlp1 := w_l_le hlp1 hle
    refine kz_goto (M := kt_M16) kX9_action_c16.2.1 (t := 336) rfl ?_
    exact kz_weak [(0, .ref (w_adr E.2.1 8 0))] ⟨rfl, trivial⟩ rfl (zt_X9_action_p336 hL  h)
  · skip
    refine kz_aload_n (M := kt_M16) kX9_action_c16.2.2.1 rfl ?_
    refine kz_aload_nv (M := kt_M16) (x := x1) kX9_action_c16.2.2.2.1 rfl ?_
    refine kz_cv0 (M := kt_M16) (c := 8) (o := 0) (As := [va_rf (x1)]) (rest := []) kX9_action_c16.2.2.2.2.1 wl_X9_278 wMv_17 rfl (.inl rfl) rfl (Nat.le_trans (Nat.le_of_ble_eq_true rfl) hL) (by simp [lg_sl, w_cat, z_ci, z_cr, z_cl, z_cn, kt_M17]) (Nat.le_of_ble_eq_true rfl) h (fun w62 hle h => ?_) (fun _ _ _ h => kzx_no rfl h)
    have h := h hle
    have hlp1 := w_l_le hlp1 hle
    exact kz_weak [(0, .ref (w_adr E.2.1 8 0))] ⟨rfl, trivial⟩ rfl (zt_X9_action_p336 hL  h)
