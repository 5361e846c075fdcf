/-! ===== methods over the typed state (printed by tools/gen_lift.py) ===== -/
set_option maxRecDepth 100000
theorem zc_X7_315 {adE adK adV : Nat → Nat} {zr : Nat → Value} {b L0 : Nat} {xs : Nat → Int32} {lo : Nat} : kx_ci (kw_V adE adK adV zr b L0 xs lo) "MeetingHouse$Types" 315 = some (-2147483648) := by
  show kt_get kt_ciA "MeetingHouse$Types" 315 = _
  decide +kernel
theorem zs_X7_258 {E : zE} : ∃ r n d, kx_fl (zV E) "MeetingHouse$Types" 258 = some (r, n, d) ∧ kx_sv (zV E) r n d = some (va_rf (some (E.1.1 18))) := ⟨_, _, _, (show kt_get kt_flA "MeetingHouse$Types" 258 = some ("MeetingHouse$Kind", "ELEMENT", "LMeetingHouse$Kind;") from by decide +kernel), kx_sv_E.trans (kw_sv_en zen_18)⟩
theorem zs_X7_267 {E : zE} : ∃ r n d, kx_fl (zV E) "MeetingHouse$Types" 267 = some (r, n, d) ∧ kx_sv (zV E) r n d = some (va_rf (some (E.1.1 53))) := ⟨_, _, _, (show kt_get kt_flA "MeetingHouse$Types" 267 = some ("MeetingHouse$What", "CHANNEL", "LMeetingHouse$What;") from by decide +kernel), kx_sv_E.trans (kw_sv_en zen_53)⟩
theorem zs_X7_277 {E : zE} : ∃ r n d, kx_fl (zV E) "MeetingHouse$Types" 277 = some (r, n, d) ∧ kx_sv (zV E) r n d = some (va_rf (some (E.1.1 54))) := ⟨_, _, _, (show kt_get kt_flA "MeetingHouse$Types" 277 = some ("MeetingHouse$What", "VARIABLE", "LMeetingHouse$What;") from by decide +kernel), kx_sv_E.trans (kw_sv_en zen_54)⟩
theorem zs_X7_81 {E : zE} : ∃ r n d, kx_fl (zV E) "MeetingHouse$Types" 81 = some (r, n, d) ∧ kx_sv (zV E) r n d = some (va_rf (some (E.1.1 10))) := ⟨_, _, _, (show kt_get kt_flA "MeetingHouse$Types" 81 = some ("MeetingHouse$Kind", "VARIABLES", "LMeetingHouse$Kind;") from by decide +kernel), kx_sv_E.trans (kw_sv_en zen_10)⟩
theorem zs_X7_86 {E : zE} : ∃ r n d, kx_fl (zV E) "MeetingHouse$Types" 86 = some (r, n, d) ∧ kx_sv (zV E) r n d = some (va_rf (some (E.1.1 26))) := ⟨_, _, _, (show kt_get kt_flA "MeetingHouse$Types" 86 = some ("MeetingHouse$Kind", "CHANNELS", "LMeetingHouse$Kind;") from by decide +kernel), kx_sv_E.trans (kw_sv_en zen_26)⟩
theorem zs_X7_89 {E : zE} : ∃ r n d, kx_fl (zV E) "MeetingHouse$Types" 89 = some (r, n, d) ∧ kx_sv (zV E) r n d = some (va_rf (some (E.1.1 27))) := ⟨_, _, _, (show kt_get kt_flA "MeetingHouse$Types" 89 = some ("MeetingHouse$Kind", "TIMERS", "LMeetingHouse$Kind;") from by decide +kernel), kx_sv_E.trans (kw_sv_en zen_27)⟩
theorem wq_X7_107 {adE adK adV : Nat → Nat} {zr : Nat → Value} {b L0 : Nat} {xs : Nat → Int32} {lo : Nat} : wP (kw_V adE adK adV zr b L0 xs lo) wG "MeetingHouse$Types" 107 15 6 0 .int := wPb_ok (by decide +kernel) wf_X7_107 (r := "MeetingHouse$Symbol") (n := "many") (d := "I") (by decide +kernel) (by decide +kernel)
theorem wq_X7_133 {adE adK adV : Nat → Nat} {zr : Nat → Value} {b L0 : Nat} {xs : Nat → Int32} {lo : Nat} : wP (kw_V adE adK adV zr b L0 xs lo) wG "MeetingHouse$Types" 133 14 18 0 .int := wPb_ok (by decide +kernel) wf_X7_133 (r := "MeetingHouse$Node") (n := "many") (d := "I") (by decide +kernel) (by decide +kernel)
theorem wq_X7_136 {adE adK adV : Nat → Nat} {zr : Nat → Value} {b L0 : Nat} {xs : Nat → Int32} {lo : Nat} : wP (kw_V adE adK adV zr b L0 xs lo) wG "MeetingHouse$Types" 136 15 10 0 .boolean := wPb_ok (by decide +kernel) wf_X7_136 (r := "MeetingHouse$Symbol") (n := "constant") (d := "Z") (by decide +kernel) (by decide +kernel)
theorem wq_X7_137 {adE adK adV : Nat → Nat} {zr : Nat → Value} {b L0 : Nat} {xs : Nat → Int32} {lo : Nat} : wP (kw_V adE adK adV zr b L0 xs lo) wG "MeetingHouse$Types" 137 15 7 0 .int := wPb_ok (by decide +kernel) wf_X7_137 (r := "MeetingHouse$Symbol") (n := "value") (d := "I") (by decide +kernel) (by decide +kernel)
theorem wq_X7_141 {adE adK adV : Nat → Nat} {zr : Nat → Value} {b L0 : Nat} {xs : Nat → Int32} {lo : Nat} : wP (kw_V adE adK adV zr b L0 xs lo) wG "MeetingHouse$Types" 141 14 11 0 .boolean := wPb_ok (by decide +kernel) wf_X7_141 (r := "MeetingHouse$Node") (n := "flag") (d := "Z") (by decide +kernel) (by decide +kernel)
theorem wq_X7_19 {adE adK adV : Nat → Nat} {zr : Nat → Value} {b L0 : Nat} {xs : Nat → Int32} {lo : Nat} : wP (kw_V adE adK adV zr b L0 xs lo) wG "MeetingHouse$Types" 19 6 2 0 .int := wPb_ok (by decide +kernel) wf_X7_19 (r := "MeetingHouse$Types") (n := "cells") (d := "I") (by decide +kernel) (by decide +kernel)
theorem wq_X7_23 {adE adK adV : Nat → Nat} {zr : Nat → Value} {b L0 : Nat} {xs : Nat → Int32} {lo : Nat} : wP (kw_V adE adK adV zr b L0 xs lo) wG "MeetingHouse$Types" 23 6 3 0 .int := wPb_ok (by decide +kernel) wf_X7_23 (r := "MeetingHouse$Types") (n := "told") (d := "I") (by decide +kernel) (by decide +kernel)
theorem wq_X7_26 {adE adK adV : Nat → Nat} {zr : Nat → Value} {b L0 : Nat} {xs : Nat → Int32} {lo : Nat} : wP (kw_V adE adK adV zr b L0 xs lo) wG "MeetingHouse$Types" 26 6 5 1 .long := wPb_ok (by decide +kernel) wf_X7_26 (r := "MeetingHouse$Types") (n := "weight") (d := "J") (by decide +kernel) (by decide +kernel)
theorem wq_X7_61 {adE adK adV : Nat → Nat} {zr : Nat → Value} {b L0 : Nat} {xs : Nat → Int32} {lo : Nat} : wP (kw_V adE adK adV zr b L0 xs lo) wG "MeetingHouse$Types" 61 14 17 0 .int := wPb_ok (by decide +kernel) wf_X7_61 (r := "MeetingHouse$Node") (n := "type") (d := "I") (by decide +kernel) (by decide +kernel)
theorem wq_X7_64 {adE adK adV : Nat → Nat} {zr : Nat → Value} {b L0 : Nat} {xs : Nat → Int32} {lo : Nat} : wP (kw_V adE adK adV zr b L0 xs lo) wG "MeetingHouse$Types" 64 14 20 0 .boolean := wPb_ok (by decide +kernel) wf_X7_64 (r := "MeetingHouse$Node") (n := "array") (d := "Z") (by decide +kernel) (by decide +kernel)
theorem wq_X7_68 {adE adK adV : Nat → Nat} {zr : Nat → Value} {b L0 : Nat} {xs : Nat → Int32} {lo : Nat} : wP (kw_V adE adK adV zr b L0 xs lo) wG "MeetingHouse$Types" 68 14 21 0 .boolean := wPb_ok (by decide +kernel) wf_X7_68 (r := "MeetingHouse$Node") (n := "constant") (d := "Z") (by decide +kernel) (by decide +kernel)
theorem wq_X7_74 {adE adK adV : Nat → Nat} {zr : Nat → Value} {b L0 : Nat} {xs : Nat → Int32} {lo : Nat} : wP (kw_V adE adK adV zr b L0 xs lo) wG "MeetingHouse$Types" 74 14 19 0 .int := wPb_ok (by decide +kernel) wf_X7_74 (r := "MeetingHouse$Node") (n := "value") (d := "I") (by decide +kernel) (by decide +kernel)
def zb_X7_look_p0 (E : zE) (L : Nat) (Q : kx_Rs → wS → Prop) (x1 : Option Nat) (w : wS) : Prop := zw E (L - 22) kt_M280 [.ref (w_adr E.2.1 6 0), va_rf (x1)] (ws_g (ws_i (ws_i w 6 0 2 0) 6 0 3 0) 6 0 5 1) (wk0 (fun w1 => wle (ws_g (ws_i (ws_i w 6 0 2 0) 6 0 3 0) 6 0 5 1) w1 → Q (.inl none) w1) (fun e w => Q (.inr e) w))
theorem zt_X7_look_p0 {E : zE} {L : Nat} {Q : kx_Rs → wS → Prop} {x1 : Option Nat} {w : wS} (hL : 22 ≤ L) (h : zb_X7_look_p0 E L Q x1 w) : kzE E L kt_M272 0 [(0, .ref (w_adr E.2.1 6 0)), (1, va_rf (x1))] [] w Q := by
  unfold zb_X7_look_p0 at h
  refine kz_aload_n (M := kt_M272) kX7_look_c0.1 rfl ?_
  refine kz_ic (M := kt_M272) 0 kX7_look_c0.2.1 rfl ?_
  refine kz_pfi (M := kt_M272) (c := 6) (o := 0) kX7_look_c0.2.2.1 wq_X7_19 (.inl rfl) ?_
  refine kz_aload_n (M := kt_M272) kX7_look_c0.2.2.2.1 rfl ?_
  refine kz_ic (M := kt_M272) 0 kX7_look_c0.2.2.2.2.1 rfl ?_
  refine kz_pfi (M := kt_M272) (c := 6) (o := 0) kX7_look_c0.2.2.2.2.2.1 wq_X7_23 (.inl rfl) ?_
  refine kz_aload_n (M := kt_M272) kX7_look_c0.2.2.2.2.2.2.1 rfl ?_
  refine kz_lconst (M := kt_M272) kX7_look_c0.2.2.2.2.2.2.2.1 ?_
  refine kz_pfg (M := kt_M272) (c := 6) (o := 0) kX7_look_c1.1 wq_X7_26 (.inl rfl) ?_
  refine kz_aload_n (M := kt_M272) kX7_look_c1.2.1 rfl ?_
  refine kz_aload_nv (M := kt_M272) (x := x1) kX7_look_c1.2.2.1 rfl ?_
  refine kz_cv0 (M := kt_M272) (c := 6) (o := 0) (As := [va_rf (x1)]) (rest := []) kX7_look_c1.2.2.2.1 wl_X7_30 wMv_280 rfl (.inl rfl) rfl (Nat.le_trans (Nat.le_of_ble_eq_true rfl) hL) (by simp [lg_sl, w_cat, z_ci, z_cr, z_cl, z_cn, kt_M280]) (Nat.le_of_ble_eq_true rfl) h (fun w1 hle h => ?_) (fun _ _ _ h => kzx_no rfl h)
  have h := h hle
  exact kz_ret (M := kt_M272) kX7_look_c1.2.2.2.2.1 rfl h
def zL_X7_process_p5 (E : zE) (L : Nat) (Q : kx_Rs → wS → Prop) (x1 : Option Nat) (x2 : Option Nat) (w : wS) : Prop := kzE E L kt_M280 5 [(0, .ref (w_adr E.2.1 6 0)), (1, va_rf (x1)), (2, va_rf (x2))] [] w Q
def zb_X7_process_p5 (E : zE) (L : Nat) (Q : kx_Rs → wS → Prop) (x1 : Option Nat) (x2 : Option Nat) (w : wS) : Prop := (if x2 = none then (∃ p1, x1 = some p1 ∧ w_l w E.2.1 14 p1 ∧ zw E (L - 24) kt_M255 [.ref (w_adr E.2.1 6 0), va_rf (w_p w 14 p1 4)] w (wk0 (fun w2 => wle w w2 → Q (.inl none) w2) (fun e w => Q (.inr e) w))) else zw E (L - 23) kt_M264 [.ref (w_adr E.2.1 6 0), va_rf (x2)] w (wk0 (fun w4 => wle w w4 → (∃ p6, x2 = some p6 ∧ w_l w4 E.2.1 14 p6 ∧ zL_X7_process_p5 E L Q x1 (w_p w4 14 p6 7) w4)) (fun e w => Q (.inr e) w)))
theorem zt_X7_process_p5 {E : zE} {L : Nat} {Q : kx_Rs → wS → Prop} {x1 : Option Nat} {x2 : Option Nat} {w : wS} (hL : 24 ≤ L) (h : zb_X7_process_p5 E L Q x1 x2 w) : kzE E L kt_M280 5 [(0, .ref (w_adr E.2.1 6 0)), (1, va_rf (x1)), (2, va_rf (x2))] [] w Q := by
  unfold zb_X7_process_p5 at h
  refine kz_aload_nv (M := kt_M280) (x := x2) kX7_process_c0.2.2.2.1 rfl ?_
  refine kz_ifnull (M := kt_M280) (x := x2) kX7_process_c0.2.2.2.2.1 (t := 22) rfl h (fun h => ?_) (fun h => ?_)
  · skip
    refine kz_aload_n (M := kt_M280) kX7_process_c1.2.2.2.2.1 rfl ?_
    refine kz_aload_nv (M := kt_M280) (x := x1) kX7_process_c1.2.2.2.2.2.1 rfl ?_
    obtain ⟨p1, hxp1, hlp1, h⟩ := h
    refine kz_nz0 (x := x1) hxp1 ?_
    refine kz_gfp (M := kt_M280) (c := 14) (o := p1) kX7_process_c1.2.2.2.2.2.2.1 wf_X7_46 (.inr (by exact hlp1)) ?_
    refine kz_cv0 (M := kt_M280) (c := 6) (o := 0) (As := [va_rf (w_p w 14 p1 4)]) (rest := []) kX7_process_c1.2.2.2.2.2.2.2.1 wl_X7_49 wMv_255 rfl (.inl rfl) rfl (Nat.le_trans (Nat.le_of_ble_eq_true rfl) hL) (by simp [lg_sl, w_cat, z_ci, z_cr, z_cl, z_cn, kt_M255]) (Nat.le_of_ble_eq_true rfl) h (fun w2 hle h => ?_) (fun _ _ _ h => kzx_no rfl h)
    have h := h hle
    have hlp1 := w_l_le hlp1 hle
    exact kz_ret (M := kt_M280) kX7_process_c2.1 rfl h
  · skip
    refine kz_aload_n (M := kt_M280) kX7_process_c0.2.2.2.2.2.1 rfl ?_
    refine kz_aload_nv (M := kt_M280) (x := x2) kX7_process_c0.2.2.2.2.2.2.1 rfl ?_
    refine kz_cv0 (M := kt_M280) (c := 6) (o := 0) (As := [va_rf (x2)]) (rest := []) kX7_process_c0.2.2.2.2.2.2.2.1 wl_X7_40 wMv_264 rfl (.inl rfl) rfl (Nat.le_trans (Nat.le_of_ble_eq_true rfl) hL) (by simp [lg_sl, w_cat, z_ci, z_cr, z_cl, z_cn, kt_M264]) (Nat.le_of_ble_eq_true rfl) h (fun w4 hle h => ?_) (fun _ _ _ h => kzx_no rfl h)
    have h := h hle
    refine kz_aload_nv (M := kt_M280) (x := x2) kX7_process_c1.1 rfl ?_
    obtain ⟨p6, hxp6, hlp6, h⟩ := h
    refine kz_nz0 (x := x2) hxp6 ?_
    refine kz_gfp (M := kt_M280) (c := 14) (o := p6) kX7_process_c1.2.1 wf_X7_43 (.inr (by exact hlp6)) ?_
    refine kz_stv_n (M := kt_M280) (x := w_p w4 14 p6 7) [(0, .ref (w_adr E.2.1 6 0)), (1, va_rf (x1))] kX7_process_c1.2.2.1 (Nat.le_of_ble_eq_true rfl) ⟨⟨rfl, rfl, .inl rfl⟩, ⟨⟨rfl, rfl, .inr (w_cat (x1))⟩, trivial⟩⟩ rfl ?_
    refine kz_goto (M := kt_M280) kX7_process_c1.2.2.2.1 (t := 5) rfl ?_
    exact kz_weak [(0, .ref (w_adr E.2.1 6 0)), (1, va_rf (x1)), (2, va_rf (w_p w4 14 p6 7))] ⟨rfl, ⟨rfl, ⟨rfl, trivial⟩⟩⟩ rfl h
def zb_X7_process_p0 (E : zE) (L : Nat) (Q : kx_Rs → wS → Prop) (x1 : Option Nat) (w : wS) : Prop := (∃ p1, x1 = some p1 ∧ w_l w E.2.1 14 p1 ∧ zL_X7_process_p5 E L Q x1 (w_p w 14 p1 3) w)
theorem zt_X7_process_p0 {E : zE} {L : Nat} {Q : kx_Rs → wS → Prop} {x1 : Option Nat} {w : wS} (hL : 24 ≤ L) (h : zb_X7_process_p0 E L Q x1 w) : kzE E L kt_M280 0 [(0, .ref (w_adr E.2.1 6 0)), (1, va_rf (x1))] [] w Q := by
  unfold zb_X7_process_p0 at h
  refine kz_aload_nv (M := kt_M280) (x := x1) kX7_process_c0.1 rfl ?_
  obtain ⟨p1, hxp1, hlp1, h⟩ := h
  refine kz_nz0 (x := x1) hxp1 ?_
  refine kz_gfp (M := kt_M280) (c := 14) (o := p1) kX7_process_c0.2.1 wf_X7_34 (.inr (by exact hlp1)) ?_
  refine kz_stv_n (M := kt_M280) (x := w_p w 14 p1 3) [(0, .ref (w_adr E.2.1 6 0)), (1, va_rf (x1))] kX7_process_c0.2.2.1 (Nat.le_of_ble_eq_true rfl) ⟨⟨rfl, rfl, .inl rfl⟩, ⟨⟨rfl, rfl, .inr (w_cat (x1))⟩, trivial⟩⟩ rfl ?_
  exact kz_weak [(0, .ref (w_adr E.2.1 6 0)), (1, va_rf (x1)), (2, va_rf (w_p w 14 p1 3))] ⟨rfl, ⟨rfl, ⟨rfl, trivial⟩⟩⟩ rfl h
def zL_X7_declaration_p204 (E : zE) (L : Nat) (Q : kx_Rs → wS → Prop) (x2 : Option Nat) (w : wS) : Prop := kzE E L kt_M264 204 [(0, .ref (w_adr E.2.1 6 0)), (2, va_rf (x2))] [] w Q
def zL_X7_declaration_p89 (E : zE) (L : Nat) (Q : kx_Rs → wS → Prop) (x1 : Option Nat) (x2 : Int32) (x3 : Option Nat) (w : wS) : Prop := kzE E L kt_M264 89 [(0, .ref (w_adr E.2.1 6 0)), (1, va_rf (x1)), (2, .int x2), (3, va_rf (x3))] [] w Q
def zb_X7_declaration_p240 (E : zE) (L : Nat) (Q : kx_Rs → wS → Prop) (w : wS) : Prop := Q (.inl none) w
theorem zt_X7_declaration_p240 {E : zE} {L : Nat} {Q : kx_Rs → wS → Prop} {w : wS} (hL : 25 ≤ L) (h : zb_X7_declaration_p240 E L Q  w) : kzE E L kt_M264 240 [(0, .ref (w_adr E.2.1 6 0))] [] w Q := by
  unfold zb_X7_declaration_p240 at h
  exact kz_ret (M := kt_M264) kX7_declaration_c11.2.2.2.2.2.2.1 rfl h
def zb_X7_declaration_p204 (E : zE) (L : Nat) (Q : kx_Rs → wS → Prop) (x2 : Option Nat) (w : wS) : Prop := (if x2 = none then zb_X7_declaration_p240 E L Q w else (∃ p1, x2 = some p1 ∧ w_l w E.2.1 14 p1 ∧ zw E (L - 25) kt_M278 [.ref (w_adr E.2.1 6 0), va_rf (w_p w 14 p1 4), .int (w_i w 14 p1 2), .int 1] w (wk0 (fun w2 => wle w w2 → zL_X7_declaration_p204 E L Q (w_p w2 14 p1 7) w2) (fun e w => Q (.inr e) w))))
theorem zt_X7_declaration_p204 {E : zE} {L : Nat} {Q : kx_Rs → wS → Prop} {x2 : Option Nat} {w : wS} (hL : 25 ≤ L) (h : zb_X7_declaration_p204 E L Q x2 w) : kzE E L kt_M264 204 [(0, .ref (w_adr E.2.1 6 0)), (2, va_rf (x2))] [] w Q := by
  unfold zb_X7_declaration_p204 at h
  refine kz_aload_nv (M := kt_M264) (x := x2) kX7_declaration_c9.2.2.2.2.1 rfl ?_
  refine kz_ifnull (M := kt_M264) (x := x2) kX7_declaration_c9.2.2.2.2.2.1 (t := 229) rfl h (fun h => ?_) (fun h => ?_)
  · skip
    refine kz_goto (M := kt_M264) kX7_declaration_c11.2.1 (t := 240) rfl ?_
    exact kz_weak [(0, .ref (w_adr E.2.1 6 0))] ⟨rfl, trivial⟩ rfl (zt_X7_declaration_p240 hL  h)
  · skip
    refine kz_aload_n (M := kt_M264) kX7_declaration_c9.2.2.2.2.2.2.1 rfl ?_
    refine kz_aload_nv (M := kt_M264) (x := x2) kX7_declaration_c9.2.2.2.2.2.2.2.1 rfl ?_
    obtain ⟨p1, hxp1, hlp1, h⟩ := h
    refine kz_nz0 (x := x2) hxp1 ?_
    refine kz_gfp (M := kt_M264) (c := 14) (o := p1) kX7_declaration_c10.1 wf_X7_46 (.inr (by exact hlp1)) ?_
    refine kz_aload_nv (M := kt_M264) (x := x2) kX7_declaration_c10.2.1 rfl ?_
    refine kz_nz0 (x := x2) hxp1 ?_
    refine kz_gfi (M := kt_M264) (c := 14) (o := p1) kX7_declaration_c10.2.2.1 wf_X7_52 (.inr (by exact hlp1)) ?_
    refine kz_ic (M := kt_M264) 1 kX7_declaration_c10.2.2.2.1 rfl ?_
    refine kz_cv0 (M := kt_M264) (c := 6) (o := 0) (As := [va_rf (w_p w 14 p1 4), .int (w_i w 14 p1 2), .int 1]) (rest := []) kX7_declaration_c10.2.2.2.2.1 wl_X7_123 wMv_278 rfl (.inl rfl) rfl (Nat.le_trans (Nat.le_of_ble_eq_true rfl) hL) (by simp [lg_sl, w_cat, z_ci, z_cr, z_cl, z_cn, kt_M278]) (Nat.le_of_ble_eq_true rfl) h (fun w2 hle h => ?_) (fun _ _ _ h => kzx_no rfl h)
    have h := h hle
    have hlp1 := w_l_le hlp1 hle
    refine kz_aload_nv (M := kt_M264) (x := x2) kX7_declaration_c10.2.2.2.2.2.1 rfl ?_
    refine kz_nz0 (x := x2) hxp1 ?_
    refine kz_gfp (M := kt_M264) (c := 14) (o := p1) kX7_declaration_c10.2.2.2.2.2.2.1 wf_X7_43 (.inr (by exact hlp1)) ?_
    refine kz_stv_n (M := kt_M264) (x := w_p w2 14 p1 7) [(0, .ref (w_adr E.2.1 6 0))] kX7_declaration_c10.2.2.2.2.2.2.2.1 (Nat.le_of_ble_eq_true rfl) ⟨⟨rfl, rfl, .inl rfl⟩, trivial⟩ rfl ?_
    refine kz_goto (M := kt_M264) kX7_declaration_c11.1 (t := 204) rfl ?_
    exact kz_weak [(0, .ref (w_adr E.2.1 6 0)), (2, va_rf (w_p w2 14 p1 7))] ⟨rfl, ⟨rfl, trivial⟩⟩ rfl h
def zb_X7_declaration_p109 (E : zE) (L : Nat) (Q : kx_Rs → wS → Prop) (x1 : Option Nat) (x2 : Int32) (x3 : Option Nat) (y0 : Int32) (y1 : Option Nat) (w : wS) : Prop := (∃ p1, y1 = some p1 ∧ w_l w E.2.1 15 p1 ∧ (∃ p2, x3 = some p2 ∧ w_l (ws_i (ws_i w 15 p1 6 y0) 6 0 2 ((w_i w 6 0 2) + (if x2 < 0 then 0 else x2))) E.2.1 14 p2 ∧ zL_X7_declaration_p89 E L Q x1 x2 (w_p w 14 p2 7) (ws_i (ws_i w 15 p1 6 y0) 6 0 2 ((w_i w 6 0 2) + (if x2 < 0 then 0 else x2)))))
theorem zt_X7_declaration_p109 {E : zE} {L : Nat} {Q : kx_Rs → wS → Prop} {x1 : Option Nat} {x2 : Int32} {x3 : Option Nat} {y0 : Int32} {y1 : Option Nat} {w : wS} (hL : 25 ≤ L) (h : zb_X7_declaration_p109 E L Q x1 x2 x3 y0 y1 w) : kzE E L kt_M264 109 [(0, .ref (w_adr E.2.1 6 0)), (1, va_rf (x1)), (2, .int x2), (3, va_rf (x3))] [.int y0, va_rf (y1)] w Q := by
  unfold zb_X7_declaration_p109 at h
  obtain ⟨p1, hxp1, hlp1, h⟩ := h
  refine kz_nz1 (x := y1) hxp1 ?_
  refine kz_pfi (M := kt_M264) (c := 15) (o := p1) kX7_declaration_c3.2.2.2.2.2.2.1 wq_X7_107 (.inr (by exact hlp1)) ?_
  refine kz_aload_n (M := kt_M264) kX7_declaration_c3.2.2.2.2.2.2.2.1 rfl ?_
  refine kz_dup (M := kt_M264) kX7_declaration_c4.1 rfl ?_
  refine kz_gfiR (M := kt_M264) (c := 6) (o := 0) (w_i w 6 0 2) kX7_declaration_c4.2.1 wf_X7_19 (.inl rfl) (rd_i_i rfl) ?_
  refine kz_iload_n (M := kt_M264) kX7_declaration_c4.2.2.1 rfl ?_
  refine kz_ic (M := kt_M264) 0 kX7_declaration_c4.2.2.2.1 rfl ?_
  refine kz_mmax (M := kt_M264) kX7_declaration_c4.2.2.2.2.1 zm_l_X7_112 zm_s_max zm_i zm_c_max (Nat.le_trans (Nat.le_of_ble_eq_true rfl) hL) (Nat.le_of_ble_eq_true rfl) ?_
  refine kz_iadd (M := kt_M264) kX7_declaration_c4.2.2.2.2.2.1 ?_
  refine kz_pfi (M := kt_M264) (c := 6) (o := 0) kX7_declaration_c4.2.2.2.2.2.2.1 wq_X7_19 (.inl rfl) ?_
  refine kz_aload_nv (M := kt_M264) (x := x3) kX7_declaration_c4.2.2.2.2.2.2.2.1 rfl ?_
  obtain ⟨p2, hxp2, hlp2, h⟩ := h
  refine kz_nz0 (x := x3) hxp2 ?_
  refine kz_gfpR (M := kt_M264) (c := 14) (o := p2) (w_p w 14 p2 7) kX7_declaration_c5.1 wf_X7_43 (.inr (by exact hlp2)) (rd_p_i.trans rd_p_i) ?_
  refine kz_stv_n (M := kt_M264) (x := w_p w 14 p2 7) [(0, .ref (w_adr E.2.1 6 0)), (1, va_rf (x1)), (2, .int x2)] kX7_declaration_c5.2.1 (Nat.le_of_ble_eq_true rfl) ⟨⟨rfl, rfl, .inl rfl⟩, ⟨⟨rfl, rfl, .inl rfl⟩, ⟨⟨rfl, rfl, .inr rfl⟩, trivial⟩⟩⟩ rfl ?_
  refine kz_goto (M := kt_M264) kX7_declaration_c5.2.2.1 (t := 89) rfl ?_
  exact kz_weak [(0, .ref (w_adr E.2.1 6 0)), (1, va_rf (x1)), (2, .int x2), (3, va_rf (w_p w 14 p2 7))] ⟨rfl, ⟨rfl, ⟨rfl, ⟨rfl, trivial⟩⟩⟩⟩ rfl h
def zb_X7_declaration_p89 (E : zE) (L : Nat) (Q : kx_Rs → wS → Prop) (x1 : Option Nat) (x2 : Int32) (x3 : Option Nat) (w : wS) : Prop := (if x3 = none then (if w_i w 6 0 2 ≤ 20000 then zb_X7_declaration_p240 E L Q w else (∃ p1, x1 = some p1 ∧ w_l w E.2.1 14 p1 ∧ zw E (L - 22) kt_M56 [.ref (w_adr E.2.1 2 0), .int 9, .int (w_i w 14 p1 2)] w (wk0 (fun w2 => wle w w2 → zb_X7_declaration_p240 E L Q (ws_i w2 6 0 2 20001)) (fun e w => Q (.inr e) w)))) else (∃ p4, x3 = some p4 ∧ w_l w E.2.1 14 p4 ∧ (∃ p5, x1 = some p5 ∧ w_l w E.2.1 14 p5 ∧ (if ¬ (w_p w 14 p5 3) = none then zb_X7_declaration_p109 E L Q x1 x2 x3 x2 (w_p w 14 p4 16) w else zb_X7_declaration_p109 E L Q x1 x2 x3 (-1) (w_p w 14 p4 16) w))))
theorem zt_X7_declaration_p89 {E : zE} {L : Nat} {Q : kx_Rs → wS → Prop} {x1 : Option Nat} {x2 : Int32} {x3 : Option Nat} {w : wS} (hL : 25 ≤ L) (h : zb_X7_declaration_p89 E L Q x1 x2 x3 w) : kzE E L kt_M264 89 [(0, .ref (w_adr E.2.1 6 0)), (1, va_rf (x1)), (2, .int x2), (3, va_rf (x3))] [] w Q := by
  unfold zb_X7_declaration_p89 at h
  refine kz_aload_nv (M := kt_M264) (x := x3) kX7_declaration_c2.2.2.2.2.1 rfl ?_
  refine kz_ifnull (M := kt_M264) (x := x3) kX7_declaration_c2.2.2.2.2.2.1 (t := 134) rfl h (fun h => ?_) (fun h => ?_)
  · skip
    refine kz_aload_n (M := kt_M264) kX7_declaration_c5.2.2.2.1 rfl ?_
    refine kz_gfi (M := kt_M264) (c := 6) (o := 0) kX7_declaration_c5.2.2.2.2.1 wf_X7_19 (.inl rfl) ?_
    refine kz_si (M := kt_M264) 20000 kX7_declaration_c5.2.2.2.2.2.1 rfl ?_
    refine kz_icmp_le (M := kt_M264) kX7_declaration_c5.2.2.2.2.2.2.1 (t := 240) rfl h (fun h => ?_) (fun h => ?_)
    · skip
      exact kz_weak [(0, .ref (w_adr E.2.1 6 0))] ⟨rfl, trivial⟩ rfl (zt_X7_declaration_p240 hL  h)
    · skip
      refine kz_aload_n (M := kt_M264) kX7_declaration_c5.2.2.2.2.2.2.2.1 rfl ?_
      refine kz_gfc (M := kt_M264) (x := 8) (c := 6) (o := 0) kX7_declaration_c6.1 wf_X7_15 (.inl rfl) ?_
      refine kz_bi (M := kt_M264) 9 kX7_declaration_c6.2.1 rfl ?_
      refine kz_aload_nv (M := kt_M264) (x := x1) kX7_declaration_c6.2.2.1 rfl ?_
      obtain ⟨p1, hxp1, hlp1, h⟩ := h
      refine kz_nz0 (x := x1) hxp1 ?_
      refine kz_gfi (M := kt_M264) (c := 14) (o := p1) kX7_declaration_c6.2.2.2.1 wf_X7_52 (.inr (by exact hlp1)) ?_
      refine kz_cv0 (M := kt_M264) (c := 2) (o := 0) (As := [.int 9, .int (w_i w 14 p1 2)]) (rest := []) kX7_declaration_c6.2.2.2.2.1 wl_X7_55 wMv_56 rfl (.inl rfl) rfl (Nat.le_trans (Nat.le_of_ble_eq_true rfl) hL) (Nat.le_of_ble_eq_true rfl) (Nat.le_of_ble_eq_true rfl) h (fun w2 hle h => ?_) (fun _ _ _ h => kzx_no rfl h)
      have h := h hle
      have hlp1 := w_l_le hlp1 hle
      refine kz_aload_n (M := kt_M264) kX7_declaration_c6.2.2.2.2.2.1 rfl ?_
      refine kz_si (M := kt_M264) 20001 kX7_declaration_c6.2.2.2.2.2.2.1 rfl ?_
      refine kz_pfi (M := kt_M264) (c := 6) (o := 0) kX7_declaration_c6.2.2.2.2.2.2.2.1 wq_X7_19 (.inl rfl) ?_
      refine kz_goto (M := kt_M264) kX7_declaration_c7.1 (t := 240) rfl ?_
      exact kz_weak [(0, .ref (w_adr E.2.1 6 0))] ⟨rfl, trivial⟩ rfl (zt_X7_declaration_p240 hL  h)
  · skip
    refine kz_aload_nv (M := kt_M264) (x := x3) kX7_declaration_c2.2.2.2.2.2.2.1 rfl ?_
    obtain ⟨p4, hxp4, hlp4, h⟩ := h
    refine kz_nz0 (x := x3) hxp4 ?_
    refine kz_gfp (M := kt_M264) (c := 14) (o := p4) kX7_declaration_c2.2.2.2.2.2.2.2.1 wf_X7_103 (.inr (by exact hlp4)) ?_
    refine kz_aload_nv (M := kt_M264) (x := x1) kX7_declaration_c3.1 rfl ?_
    obtain ⟨p5, hxp5, hlp5, h⟩ := h
    refine kz_nz0 (x := x1) hxp5 ?_
    refine kz_gfp (M := kt_M264) (c := 14) (o := p5) kX7_declaration_c3.2.1 wf_X7_34 (.inr (by exact hlp5)) ?_
    refine kz_ifnonnull (M := kt_M264) (x := w_p w 14 p5 3) kX7_declaration_c3.2.2.1 (t := 108) rfl h (fun h => ?_) (fun h => ?_)
    · skip
      refine kz_iload_n (M := kt_M264) kX7_declaration_c3.2.2.2.2.2.1 rfl ?_
      exact kz_weak [(0, .ref (w_adr E.2.1 6 0)), (1, va_rf (x1)), (2, .int x2), (3, va_rf (x3))] ⟨rfl, ⟨rfl, ⟨rfl, ⟨rfl, trivial⟩⟩⟩⟩ rfl (zt_X7_declaration_p109 hL  h)
    · skip
      refine kz_ic (M := kt_M264) (-1) kX7_declaration_c3.2.2.2.1 rfl ?_
      refine kz_goto (M := kt_M264) kX7_declaration_c3.2.2.2.2.1 (t := 109) rfl ?_
      exact kz_weak [(0, .ref (w_adr E.2.1 6 0)), (1, va_rf (x1)), (2, .int x2), (3, va_rf (x3))] ⟨rfl, ⟨rfl, ⟨rfl, ⟨rfl, trivial⟩⟩⟩⟩ rfl (zt_X7_declaration_p109 hL  h)
def zb_X7_declaration_p83 (E : zE) (L : Nat) (Q : kx_Rs → wS → Prop) (x1 : Option Nat) (y0 : Int32) (w : wS) : Prop := (∃ p1, x1 = some p1 ∧ w_l w E.2.1 14 p1 ∧ zL_X7_declaration_p89 E L Q x1 y0 (w_p w 14 p1 4) w)
theorem zt_X7_declaration_p83 {E : zE} {L : Nat} {Q : kx_Rs → wS → Prop} {x1 : Option Nat} {y0 : Int32} {w : wS} (hL : 25 ≤ L) (h : zb_X7_declaration_p83 E L Q x1 y0 w) : kzE E L kt_M264 83 [(0, .ref (w_adr E.2.1 6 0)), (1, va_rf (x1))] [.int y0] w Q := by
  unfold zb_X7_declaration_p83 at h
  refine kz_sti_n (M := kt_M264) [(0, .ref (w_adr E.2.1 6 0)), (1, va_rf (x1))] kX7_declaration_c2.1 (Nat.le_of_ble_eq_true rfl) ⟨⟨rfl, rfl, .inl rfl⟩, ⟨⟨rfl, rfl, .inr (w_cat (x1))⟩, trivial⟩⟩ rfl ?_
  refine kz_aload_nv (M := kt_M264) (x := x1) kX7_declaration_c2.2.1 rfl ?_
  obtain ⟨p1, hxp1, hlp1, h⟩ := h
  refine kz_nz0 (x := x1) hxp1 ?_
  refine kz_gfp (M := kt_M264) (c := 14) (o := p1) kX7_declaration_c2.2.2.1 wf_X7_46 (.inr (by exact hlp1)) ?_
  refine kz_stv_n (M := kt_M264) (x := w_p w 14 p1 4) [(0, .ref (w_adr E.2.1 6 0)), (1, va_rf (x1)), (2, .int y0)] kX7_declaration_c2.2.2.2.1 (Nat.le_of_ble_eq_true rfl) ⟨⟨rfl, rfl, .inl rfl⟩, ⟨⟨rfl, rfl, .inl rfl⟩, ⟨⟨rfl, rfl, .inr rfl⟩, trivial⟩⟩⟩ rfl ?_
  exact kz_weak [(0, .ref (w_adr E.2.1 6 0)), (1, va_rf (x1)), (2, .int y0), (3, va_rf (w_p w 14 p1 4))] ⟨rfl, ⟨rfl, ⟨rfl, ⟨rfl, trivial⟩⟩⟩⟩ rfl h
def zb_X7_declaration_p0 (E : zE) (L : Nat) (Q : kx_Rs → wS → Prop) (x1 : Option Nat) (w : wS) : Prop := zw E (L - 23) kt_M263 [.ref (w_adr E.2.1 6 0), va_rf (x1)] w (wk0 (fun w1 => wle w w1 → (∃ p3, x1 = some p3 ∧ w_l w1 E.2.1 14 p3 ∧ (∃ i4, zO E "MeetingHouse$Kind" (w_p w1 14 p3 0) i4 ∧ (if (kw_on i4) = 1 then (if ¬ (w_p w1 14 p3 3) = none then zw E (L - 21) kt_M284 [.ref (w_adr E.2.1 6 0), va_rf (w_p w1 14 p3 3)] w1 (wk1 (fun v6 w5 => wle w1 w5 → zb_X7_declaration_p83 E L Q x1 v6 w5) (fun e w => Q (.inr e) w)) else zb_X7_declaration_p83 E L Q x1 1 w1) else (if (kw_on i4) = 2 then (if ¬ (w_p w1 14 p3 3) = none then zw E (L - 21) kt_M284 [.ref (w_adr E.2.1 6 0), va_rf (w_p w1 14 p3 3)] w1 (wk1 (fun v8 w7 => wle w1 w7 → zb_X7_declaration_p83 E L Q x1 v8 w7) (fun e w => Q (.inr e) w)) else zb_X7_declaration_p83 E L Q x1 1 w1) else (if (kw_on i4) = 4 then zw E (L - 23) kt_M287 [.ref (w_adr E.2.1 6 0), va_rf (x1)] w1 (wk0 (fun w9 => wle w1 w9 → zb_X7_declaration_p240 E L Q w9) (fun e w => Q (.inr e) w)) else (if (kw_on i4) = 5 then zw E (L - 24) kt_M254 [.ref (w_adr E.2.1 6 0), va_rf (x1)] w1 (wk0 (fun w11 => wle w1 w11 → zb_X7_declaration_p240 E L Q w11) (fun e w => Q (.inr e) w)) else (if (kw_on i4) = 6 then zw E (L - 25) kt_M278 [.ref (w_adr E.2.1 6 0), va_rf (w_p w1 14 p3 4), .int (w_i w1 14 p3 2), .int 0] w1 (wk0 (fun w13 => wle w1 w13 → zb_X7_declaration_p240 E L Q w13) (fun e w => Q (.inr e) w)) else (if (kw_on i4) = 7 then zL_X7_declaration_p204 E L Q (w_p w1 14 p3 4) w1 else (if (kw_on i4) = 8 then zw E (L - 22) kt_M283 [.ref (w_adr E.2.1 6 0), va_rf (x1)] w1 (wk0 (fun w15 => wle w1 w15 → zb_X7_declaration_p240 E L Q w15) (fun e w => Q (.inr e) w)) else (if (kw_on i4) = 9 then zw E (L - 22) kt_M283 [.ref (w_adr E.2.1 6 0), va_rf (x1)] w1 (wk0 (fun w17 => wle w1 w17 → zb_X7_declaration_p240 E L Q w17) (fun e w => Q (.inr e) w)) else zb_X7_declaration_p240 E L Q w1))))))))))) (fun e w => Q (.inr e) w))
theorem zt_X7_declaration_p0 {E : zE} {L : Nat} {Q : kx_Rs → wS → Prop} {x1 : Option Nat} {w : wS} (hL : 25 ≤ L) (h : zb_X7_declaration_p0 E L Q x1 w) : kzE E L kt_M264 0 [(0, .ref (w_adr E.2.1 6 0)), (1, va_rf (x1))] [] w Q := by
  unfold zb_X7_declaration_p0 at h
  refine kz_aload_n (M := kt_M264) kX7_declaration_c0.1 rfl ?_
  refine kz_aload_nv (M := kt_M264) (x := x1) kX7_declaration_c0.2.1 rfl ?_
  refine kz_cv0 (M := kt_M264) (c := 6) (o := 0) (As := [va_rf (x1)]) (rest := []) kX7_declaration_c0.2.2.1 wl_X7_92 wMv_263 rfl (.inl rfl) rfl (Nat.le_trans (Nat.le_of_ble_eq_true rfl) hL) (by simp [lg_sl, w_cat, z_ci, z_cr, z_cl, z_cn, kt_M263]) (Nat.le_of_ble_eq_true rfl) h (fun w1 hle h => ?_) (fun _ _ _ h => kzx_no rfl h)
  have h := h hle
  refine kz_aload_nv (M := kt_M264) (x := x1) kX7_declaration_c0.2.2.2.1 rfl ?_
  obtain ⟨p3, hxp3, hlp3, h⟩ := h
  refine kz_nz0 (x := x1) hxp3 ?_
  refine kz_gfp (M := kt_M264) (c := 14) (o := p3) kX7_declaration_c0.2.2.2.2.1 wf_X7_77 (.inr (by exact hlp3)) ?_
  obtain ⟨i4, ho, h⟩ := h
  refine kz_ord (M := kt_M264) (x := w_p w1 14 p3 0) (i := i4) (C := "MeetingHouse$Kind") kX7_declaration_c0.2.2.2.2.2.1 zo_l_X7 zo_m_X7 zo_s_Kind zo_u_X7 (Nat.le_trans (Nat.le_of_ble_eq_true rfl) hL) (Nat.le_of_ble_eq_true rfl) ho ?_
  refine kz_tsw (M := kt_M264) [(1, 64), (2, 64), (4, 167), (5, 175), (6, 183), (7, 199), (8, 232), (9, 232)] [_, _, _, _, _, _, _, _] 240 dX7_declaration_p12 (by decide +kernel) h ⟨fun h => ?_, fun h => ?_, fun h => ?_, fun h => ?_, fun h => ?_, fun h => ?_, fun h => ?_, fun h => ?_, trivial⟩ (fun h => ?_)
  · skip
    refine kz_aload_nv (M := kt_M264) (x := x1) kX7_declaration_c0.2.2.2.2.2.2.2.1 rfl ?_
    refine kz_nz0 (x := x1) hxp3 ?_
    refine kz_gfp (M := kt_M264) (c := 14) (o := p3) kX7_declaration_c1.1 wf_X7_34 (.inr (by exact hlp3)) ?_
    refine kz_ifnonnull (M := kt_M264) (x := w_p w1 14 p3 3) kX7_declaration_c1.2.1 (t := 75) rfl h (fun h => ?_) (fun h => ?_)
    · skip
      refine kz_aload_n (M := kt_M264) kX7_declaration_c1.2.2.2.2.1 rfl ?_
      refine kz_aload_nv (M := kt_M264) (x := x1) kX7_declaration_c1.2.2.2.2.2.1 rfl ?_
      refine kz_nz0 (x := x1) hxp3 ?_
      refine kz_gfp (M := kt_M264) (c := 14) (o := p3) kX7_declaration_c1.2.2.2.2.2.2.1 wf_X7_34 (.inr (by exact hlp3)) ?_
      refine kz_cv1 (M := kt_M264) (c := 6) (o := 0) (As := [va_rf (w_p w1 14 p3 3)]) (rest := []) kX7_declaration_c1.2.2.2.2.2.2.2.1 wl_X7_99 wMv_284 rfl (.inl rfl) rfl (Nat.le_trans (Nat.le_of_ble_eq_true rfl) hL) (by simp [lg_sl, w_cat, z_ci, z_cr, z_cl, z_cn, kt_M284]) (Nat.le_of_ble_eq_true rfl) h (fun v6 w5 hle h => ?_) (fun _ _ _ h => kzx_no rfl h)
      have h := h hle
      have hlp3 := w_l_le hlp3 hle
      exact kz_weak [(0, .ref (w_adr E.2.1 6 0)), (1, va_rf (x1))] ⟨rfl, ⟨rfl, trivial⟩⟩ rfl (zt_X7_declaration_p83 hL  h)
    · skip
      refine kz_ic (M := kt_M264) 1 kX7_declaration_c1.2.2.1 rfl ?_
      refine kz_goto (M := kt_M264) kX7_declaration_c1.2.2.2.1 (t := 83) rfl ?_
      exact kz_weak [(0, .ref (w_adr E.2.1 6 0)), (1, va_rf (x1))] ⟨rfl, ⟨rfl, trivial⟩⟩ rfl (zt_X7_declaration_p83 hL  h)
  · skip
    refine kz_aload_nv (M := kt_M264) (x := x1) kX7_declaration_c0.2.2.2.2.2.2.2.1 rfl ?_
    refine kz_nz0 (x := x1) hxp3 ?_
    refine kz_gfp (M := kt_M264) (c := 14) (o := p3) kX7_declaration_c1.1 wf_X7_34 (.inr (by exact hlp3)) ?_
    refine kz_ifnonnull (M := kt_M264) (x := w_p w1 14 p3 3) kX7_declaration_c1.2.1 (t := 75) rfl h (fun h => ?_) (fun h => ?_)
    · skip
      refine kz_aload_n (M := kt_M264) kX7_declaration_c1.2.2.2.2.1 rfl ?_
      refine kz_aload_nv (M := kt_M264) (x := x1) kX7_declaration_c1.2.2.2.2.2.1 rfl ?_
      refine kz_nz0 (x := x1) hxp3 ?_
      refine kz_gfp (M := kt_M264) (c := 14) (o := p3) kX7_declaration_c1.2.2.2.2.2.2.1 wf_X7_34 (.inr (by exact hlp3)) ?_
      refine kz_cv1 (M := kt_M264) (c := 6) (o := 0) (As := [va_rf (w_p w1 14 p3 3)]) (rest := []) kX7_declaration_c1.2.2.2.2.2.2.2.1 wl_X7_99 wMv_284 rfl (.inl rfl) rfl (Nat.le_trans (Nat.le_of_ble_eq_true rfl) hL) (by simp [lg_sl, w_cat, z_ci, z_cr, z_cl, z_cn, kt_M284]) (Nat.le_of_ble_eq_true rfl) h (fun v8 w7 hle h => ?_) (fun _ _ _ h => kzx_no rfl h)
      have h := h hle
      have hlp3 := w_l_le hlp3 hle
      exact kz_weak [(0, .ref (w_adr E.2.1 6 0)), (1, va_rf (x1))] ⟨rfl, ⟨rfl, trivial⟩⟩ rfl (zt_X7_declaration_p83 hL  h)
    · skip
      refine kz_ic (M := kt_M264) 1 kX7_declaration_c1.2.2.1 rfl ?_
      refine kz_goto (M := kt_M264) kX7_declaration_c1.2.2.2.1 (t := 83) rfl ?_
      exact kz_weak [(0, .ref (w_adr E.2.1 6 0)), (1, va_rf (x1))] ⟨rfl, ⟨rfl, trivial⟩⟩ rfl (zt_X7_declaration_p83 hL  h)
  · skip
    refine kz_aload_n (M := kt_M264) kX7_declaration_c7.2.1 rfl ?_
    refine kz_aload_nv (M := kt_M264) (x := x1) kX7_declaration_c7.2.2.1 rfl ?_
    refine kz_cv0 (M := kt_M264) (c := 6) (o := 0) (As := [va_rf (x1)]) (rest := []) kX7_declaration_c7.2.2.2.1 wl_X7_118 wMv_287 rfl (.inl rfl) rfl (Nat.le_trans (Nat.le_of_ble_eq_true rfl) hL) (by simp [lg_sl, w_cat, z_ci, z_cr, z_cl, z_cn, kt_M287]) (Nat.le_of_ble_eq_true rfl) h (fun w9 hle h => ?_) (fun _ _ _ h => kzx_no rfl h)
    have h := h hle
    have hlp3 := w_l_le hlp3 hle
    refine kz_goto (M := kt_M264) kX7_declaration_c7.2.2.2.2.1 (t := 240) rfl ?_
    exact kz_weak [(0, .ref (w_adr E.2.1 6 0))] ⟨rfl, trivial⟩ rfl (zt_X7_declaration_p240 hL  h)
  · skip
    refine kz_aload_n (M := kt_M264) kX7_declaration_c7.2.2.2.2.2.1 rfl ?_
    refine kz_aload_nv (M := kt_M264) (x := x1) kX7_declaration_c7.2.2.2.2.2.2.1 rfl ?_
    refine kz_cv0 (M := kt_M264) (c := 6) (o := 0) (As := [va_rf (x1)]) (rest := []) kX7_declaration_c7.2.2.2.2.2.2.2.1 wl_X7_120 wMv_254 rfl (.inl rfl) rfl (Nat.le_trans (Nat.le_of_ble_eq_true rfl) hL) (by simp [lg_sl, w_cat, z_ci, z_cr, z_cl, z_cn, kt_M254]) (Nat.le_of_ble_eq_true rfl) h (fun w11 hle h => ?_) (fun _ _ _ h => kzx_no rfl h)
    have h := h hle
    have hlp3 := w_l_le hlp3 hle
    refine kz_goto (M := kt_M264) kX7_declaration_c8.1 (t := 240) rfl ?_
    exact kz_weak [(0, .ref (w_adr E.2.1 6 0))] ⟨rfl, trivial⟩ rfl (zt_X7_declaration_p240 hL  h)
  · skip
    refine kz_aload_n (M := kt_M264) kX7_declaration_c8.2.1 rfl ?_
    refine kz_aload_nv (M := kt_M264) (x := x1) kX7_declaration_c8.2.2.1 rfl ?_
    refine kz_nz0 (x := x1) hxp3 ?_
    refine kz_gfp (M := kt_M264) (c := 14) (o := p3) kX7_declaration_c8.2.2.2.1 wf_X7_46 (.inr (by exact hlp3)) ?_
    refine kz_aload_nv (M := kt_M264) (x := x1) kX7_declaration_c8.2.2.2.2.1 rfl ?_
    refine kz_nz0 (x := x1) hxp3 ?_
    refine kz_gfi (M := kt_M264) (c := 14) (o := p3) kX7_declaration_c8.2.2.2.2.2.1 wf_X7_52 (.inr (by exact hlp3)) ?_
    refine kz_ic (M := kt_M264) 0 kX7_declaration_c8.2.2.2.2.2.2.1 rfl ?_
    refine kz_cv0 (M := kt_M264) (c := 6) (o := 0) (As := [va_rf (w_p w1 14 p3 4), .int (w_i w1 14 p3 2), .int 0]) (rest := []) kX7_declaration_c8.2.2.2.2.2.2.2.1 wl_X7_123 wMv_278 rfl (.inl rfl) rfl (Nat.le_trans (Nat.le_of_ble_eq_true rfl) hL) (by simp [lg_sl, w_cat, z_ci, z_cr, z_cl, z_cn, kt_M278]) (Nat.le_of_ble_eq_true rfl) h (fun w13 hle h => ?_) (fun _ _ _ h => kzx_no rfl h)
    have h := h hle
    have hlp3 := w_l_le hlp3 hle
    refine kz_goto (M := kt_M264) kX7_declaration_c9.1 (t := 240) rfl ?_
    exact kz_weak [(0, .ref (w_adr E.2.1 6 0))] ⟨rfl, trivial⟩ rfl (zt_X7_declaration_p240 hL  h)
  · skip
    refine kz_aload_nv (M := kt_M264) (x := x1) kX7_declaration_c9.2.1 rfl ?_
    refine kz_nz0 (x := x1) hxp3 ?_
    refine kz_gfp (M := kt_M264) (c := 14) (o := p3) kX7_declaration_c9.2.2.1 wf_X7_46 (.inr (by exact hlp3)) ?_
    refine kz_stv_n (M := kt_M264) (x := w_p w1 14 p3 4) [(0, .ref (w_adr E.2.1 6 0))] kX7_declaration_c9.2.2.2.1 (Nat.le_of_ble_eq_true rfl) ⟨⟨rfl, rfl, .inl rfl⟩, trivial⟩ rfl ?_
    exact kz_weak [(0, .ref (w_adr E.2.1 6 0)), (2, va_rf (w_p w1 14 p3 4))] ⟨rfl, ⟨rfl, trivial⟩⟩ rfl h
  · skip
    refine kz_aload_n (M := kt_M264) kX7_declaration_c11.2.2.1 rfl ?_
    refine kz_aload_nv (M := kt_M264) (x := x1) kX7_declaration_c11.2.2.2.1 rfl ?_
    refine kz_cv0 (M := kt_M264) (c := 6) (o := 0) (As := [va_rf (x1)]) (rest := []) kX7_declaration_c11.2.2.2.2.1 wl_X7_127 wMv_283 rfl (.inl rfl) rfl (Nat.le_trans (Nat.le_of_ble_eq_true rfl) hL) (by simp [lg_sl, w_cat, z_ci, z_cr, z_cl, z_cn, kt_M283]) (Nat.le_of_ble_eq_true rfl) h (fun w15 hle h => ?_) (fun _ _ _ h => kzx_no rfl h)
    have h := h hle
    have hlp3 := w_l_le hlp3 hle
    refine kz_goto (M := kt_M264) kX7_declaration_c11.2.2.2.2.2.1 (t := 240) rfl ?_
    exact kz_weak [(0, .ref (w_adr E.2.1 6 0))] ⟨rfl, trivial⟩ rfl (zt_X7_declaration_p240 hL  h)
  · skip
    refine kz_aload_n (M := kt_M264) kX7_declaration_c11.2.2.1 rfl ?_
    refine kz_aload_nv (M := kt_M264) (x := x1) kX7_declaration_c11.2.2.2.1 rfl ?_
    refine kz_cv0 (M := kt_M264) (c := 6) (o := 0) (As := [va_rf (x1)]) (rest := []) kX7_declaration_c11.2.2.2.2.1 wl_X7_127 wMv_283 rfl (.inl rfl) rfl (Nat.le_trans (Nat.le_of_ble_eq_true rfl) hL) (by simp [lg_sl, w_cat, z_ci, z_cr, z_cl, z_cn, kt_M283]) (Nat.le_of_ble_eq_true rfl) h (fun w17 hle h => ?_) (fun _ _ _ h => kzx_no rfl h)
    have h := h hle
    have hlp3 := w_l_le hlp3 hle
    refine kz_goto (M := kt_M264) kX7_declaration_c11.2.2.2.2.2.1 (t := 240) rfl ?_
    exact kz_weak [(0, .ref (w_adr E.2.1 6 0))] ⟨rfl, trivial⟩ rfl (zt_X7_declaration_p240 hL  h)
  · skip
    exact kz_weak [(0, .ref (w_adr E.2.1 6 0))] ⟨rfl, trivial⟩ rfl (zt_X7_declaration_p240 hL  h)
def zL_X7_counted_p49 (E : zE) (L : Nat) (Q : kx_Rs → wS → Prop) (x1 : Option Nat) (x2 : Int32) (x3 : Option Nat) (w : wS) : Prop := kzE E L kt_M263 49 [(0, .ref (w_adr E.2.1 6 0)), (1, va_rf (x1)), (2, .int x2), (3, va_rf (x3))] [] w Q
def zb_X7_counted_p108 (E : zE) (L : Nat) (Q : kx_Rs → wS → Prop) (w : wS) : Prop := Q (.inl none) w
theorem zt_X7_counted_p108 {E : zE} {L : Nat} {Q : kx_Rs → wS → Prop} {w : wS} (hL : 22 ≤ L) (h : zb_X7_counted_p108 E L Q  w) : kzE E L kt_M263 108 [(0, .ref (w_adr E.2.1 6 0))] [] w Q := by
  unfold zb_X7_counted_p108 at h
  exact kz_ret (M := kt_M263) kX7_counted_c6.2.2.2.2.2.1 rfl h
def zb_X7_counted_p85 (E : zE) (L : Nat) (Q : kx_Rs → wS → Prop) (x1 : Option Nat) (w : wS) : Prop := (if w_i w 6 0 3 ≤ 400 then zb_X7_counted_p108 E L Q w else (∃ p1, x1 = some p1 ∧ w_l w E.2.1 14 p1 ∧ zw E (L - 22) kt_M56 [.ref (w_adr E.2.1 2 0), .int 9, .int (w_i w 14 p1 2)] w (wk0 (fun w2 => wle w w2 → zb_X7_counted_p108 E L Q w2) (fun e w => Q (.inr e) w))))
theorem zt_X7_counted_p85 {E : zE} {L : Nat} {Q : kx_Rs → wS → Prop} {x1 : Option Nat} {w : wS} (hL : 22 ≤ L) (h : zb_X7_counted_p85 E L Q x1 w) : kzE E L kt_M263 85 [(0, .ref (w_adr E.2.1 6 0)), (1, va_rf (x1))] [] w Q := by
  unfold zb_X7_counted_p85 at h
  refine kz_aload_n (M := kt_M263) kX7_counted_c5.2.2.2.1 rfl ?_
  refine kz_gfi (M := kt_M263) (c := 6) (o := 0) kX7_counted_c5.2.2.2.2.1 wf_X7_23 (.inl rfl) ?_
  refine kz_si (M := kt_M263) 400 kX7_counted_c5.2.2.2.2.2.1 rfl ?_
  refine kz_icmp_le (M := kt_M263) kX7_counted_c5.2.2.2.2.2.2.1 (t := 108) rfl h (fun h => ?_) (fun h => ?_)
  · skip
    exact kz_weak [(0, .ref (w_adr E.2.1 6 0))] ⟨rfl, trivial⟩ rfl (zt_X7_counted_p108 hL  h)
  · skip
    refine kz_aload_n (M := kt_M263) kX7_counted_c5.2.2.2.2.2.2.2.1 rfl ?_
    refine kz_gfc (M := kt_M263) (x := 8) (c := 6) (o := 0) kX7_counted_c6.1 wf_X7_15 (.inl rfl) ?_
    refine kz_bi (M := kt_M263) 9 kX7_counted_c6.2.1 rfl ?_
    refine kz_aload_nv (M := kt_M263) (x := x1) kX7_counted_c6.2.2.1 rfl ?_
    obtain ⟨p1, hxp1, hlp1, h⟩ := h
    refine kz_nz0 (x := x1) hxp1 ?_
    refine kz_gfi (M := kt_M263) (c := 14) (o := p1) kX7_counted_c6.2.2.2.1 wf_X7_52 (.inr (by exact hlp1)) ?_
    refine kz_cv0 (M := kt_M263) (c := 2) (o := 0) (As := [.int 9, .int (w_i w 14 p1 2)]) (rest := []) kX7_counted_c6.2.2.2.2.1 wl_X7_55 wMv_56 rfl (.inl rfl) rfl (Nat.le_trans (Nat.le_of_ble_eq_true rfl) hL) (Nat.le_of_ble_eq_true rfl) (Nat.le_of_ble_eq_true rfl) h (fun w2 hle h => ?_) (fun _ _ _ h => kzx_no rfl h)
    have h := h hle
    have hlp1 := w_l_le hlp1 hle
    exact kz_weak [(0, .ref (w_adr E.2.1 6 0))] ⟨rfl, trivial⟩ rfl (zt_X7_counted_p108 hL  h)
def zb_X7_counted_p49 (E : zE) (L : Nat) (Q : kx_Rs → wS → Prop) (x1 : Option Nat) (x2 : Int32) (x3 : Option Nat) (w : wS) : Prop := (if x3 = none then (if ¬ x2 = 0 then zb_X7_counted_p85 E L Q x1 w else zb_X7_counted_p85 E L Q x1 (ws_i w 6 0 3 ((w_i w 6 0 3) + 1))) else (∃ p1, x3 = some p1 ∧ w_l (ws_i w 6 0 3 ((w_i w 6 0 3) + 1)) E.2.1 14 p1 ∧ zL_X7_counted_p49 E L Q x1 x2 (w_p w 14 p1 7) (ws_i w 6 0 3 ((w_i w 6 0 3) + 1))))
theorem zt_X7_counted_p49 {E : zE} {L : Nat} {Q : kx_Rs → wS → Prop} {x1 : Option Nat} {x2 : Int32} {x3 : Option Nat} {w : wS} (hL : 22 ≤ L) (h : zb_X7_counted_p49 E L Q x1 x2 x3 w) : kzE E L kt_M263 49 [(0, .ref (w_adr E.2.1 6 0)), (1, va_rf (x1)), (2, .int x2), (3, va_rf (x3))] [] w Q := by
  unfold zb_X7_counted_p49 at h
  refine kz_aload_nv (M := kt_M263) (x := x3) kX7_counted_c2.2.2.2.2.2.2.2.1 rfl ?_
  refine kz_ifnull (M := kt_M263) (x := x3) kX7_counted_c3.1 (t := 71) rfl h (fun h => ?_) (fun h => ?_)
  · skip
    refine kz_iload_n (M := kt_M263) kX7_counted_c4.2.2.2.1 rfl ?_
    refine kz_if_ne (M := kt_M263) kX7_counted_c4.2.2.2.2.1 (t := 85) rfl h (fun h => ?_) (fun h => ?_)
    · skip
      exact kz_weak [(0, .ref (w_adr E.2.1 6 0)), (1, va_rf (x1))] ⟨rfl, ⟨rfl, trivial⟩⟩ rfl (zt_X7_counted_p85 hL  h)
    · skip
      refine kz_aload_n (M := kt_M263) kX7_counted_c4.2.2.2.2.2.1 rfl ?_
      refine kz_dup (M := kt_M263) kX7_counted_c4.2.2.2.2.2.2.1 rfl ?_
      refine kz_gfi (M := kt_M263) (c := 6) (o := 0) kX7_counted_c4.2.2.2.2.2.2.2.1 wf_X7_23 (.inl rfl) ?_
      refine kz_ic (M := kt_M263) 1 kX7_counted_c5.1 rfl ?_
      refine kz_iadd (M := kt_M263) kX7_counted_c5.2.1 ?_
      refine kz_pfi (M := kt_M263) (c := 6) (o := 0) kX7_counted_c5.2.2.1 wq_X7_23 (.inl rfl) ?_
      exact kz_weak [(0, .ref (w_adr E.2.1 6 0)), (1, va_rf (x1))] ⟨rfl, ⟨rfl, trivial⟩⟩ rfl (zt_X7_counted_p85 hL  h)
  · skip
    refine kz_aload_n (M := kt_M263) kX7_counted_c3.2.1 rfl ?_
    refine kz_dup (M := kt_M263) kX7_counted_c3.2.2.1 rfl ?_
    refine kz_gfi (M := kt_M263) (c := 6) (o := 0) kX7_counted_c3.2.2.2.1 wf_X7_23 (.inl rfl) ?_
    refine kz_ic (M := kt_M263) 1 kX7_counted_c3.2.2.2.2.1 rfl ?_
    refine kz_iadd (M := kt_M263) kX7_counted_c3.2.2.2.2.2.1 ?_
    refine kz_pfi (M := kt_M263) (c := 6) (o := 0) kX7_counted_c3.2.2.2.2.2.2.1 wq_X7_23 (.inl rfl) ?_
    refine kz_aload_nv (M := kt_M263) (x := x3) kX7_counted_c3.2.2.2.2.2.2.2.1 rfl ?_
    obtain ⟨p1, hxp1, hlp1, h⟩ := h
    refine kz_nz0 (x := x3) hxp1 ?_
    refine kz_gfpR (M := kt_M263) (c := 14) (o := p1) (w_p w 14 p1 7) kX7_counted_c4.1 wf_X7_43 (.inr (by exact hlp1)) rd_p_i ?_
    refine kz_stv_n (M := kt_M263) (x := w_p w 14 p1 7) [(0, .ref (w_adr E.2.1 6 0)), (1, va_rf (x1)), (2, .int x2)] kX7_counted_c4.2.1 (Nat.le_of_ble_eq_true rfl) ⟨⟨rfl, rfl, .inl rfl⟩, ⟨⟨rfl, rfl, .inl rfl⟩, ⟨⟨rfl, rfl, .inr rfl⟩, trivial⟩⟩⟩ rfl ?_
    refine kz_goto (M := kt_M263) kX7_counted_c4.2.2.1 (t := 49) rfl ?_
    exact kz_weak [(0, .ref (w_adr E.2.1 6 0)), (1, va_rf (x1)), (2, .int x2), (3, va_rf (w_p w 14 p1 7))] ⟨rfl, ⟨rfl, ⟨rfl, ⟨rfl, trivial⟩⟩⟩⟩ rfl h
def zb_X7_counted_p48 (E : zE) (L : Nat) (Q : kx_Rs → wS → Prop) (x1 : Option Nat) (x2 : Int32) (y0 : Option Nat) (w : wS) : Prop := zL_X7_counted_p49 E L Q x1 x2 y0 w
theorem zt_X7_counted_p48 {E : zE} {L : Nat} {Q : kx_Rs → wS → Prop} {x1 : Option Nat} {x2 : Int32} {y0 : Option Nat} {w : wS} (hL : 22 ≤ L) (h : zb_X7_counted_p48 E L Q x1 x2 y0 w) : kzE E L kt_M263 48 [(0, .ref (w_adr E.2.1 6 0)), (1, va_rf (x1)), (2, .int x2)] [va_rf (y0)] w Q := by
  unfold zb_X7_counted_p48 at h
  refine kz_stv_n (M := kt_M263) (x := y0) [(0, .ref (w_adr E.2.1 6 0)), (1, va_rf (x1)), (2, .int x2)] kX7_counted_c2.2.2.2.2.2.2.1 (Nat.le_of_ble_eq_true rfl) ⟨⟨rfl, rfl, .inl rfl⟩, ⟨⟨rfl, rfl, .inl rfl⟩, ⟨⟨rfl, rfl, .inr rfl⟩, trivial⟩⟩⟩ rfl ?_
  exact kz_weak [(0, .ref (w_adr E.2.1 6 0)), (1, va_rf (x1)), (2, .int x2), (3, va_rf (y0))] ⟨rfl, ⟨rfl, ⟨rfl, ⟨rfl, trivial⟩⟩⟩⟩ rfl h
def zb_X7_counted_p35 (E : zE) (L : Nat) (Q : kx_Rs → wS → Prop) (x1 : Option Nat) (y0 : Int32) (w : wS) : Prop := (if y0 = 0 then zb_X7_counted_p48 E L Q x1 y0 none w else (∃ p1, x1 = some p1 ∧ w_l w E.2.1 14 p1 ∧ zb_X7_counted_p48 E L Q x1 y0 (w_p w 14 p1 4) w))
theorem zt_X7_counted_p35 {E : zE} {L : Nat} {Q : kx_Rs → wS → Prop} {x1 : Option Nat} {y0 : Int32} {w : wS} (hL : 22 ≤ L) (h : zb_X7_counted_p35 E L Q x1 y0 w) : kzE E L kt_M263 35 [(0, .ref (w_adr E.2.1 6 0)), (1, va_rf (x1))] [.int y0] w Q := by
  unfold zb_X7_counted_p35 at h
  refine kz_sti_n (M := kt_M263) [(0, .ref (w_adr E.2.1 6 0)), (1, va_rf (x1))] kX7_counted_c1.2.2.2.2.2.2.2.1 (Nat.le_of_ble_eq_true rfl) ⟨⟨rfl, rfl, .inl rfl⟩, ⟨⟨rfl, rfl, .inr (w_cat (x1))⟩, trivial⟩⟩ rfl ?_
  refine kz_iload_n (M := kt_M263) kX7_counted_c2.1 rfl ?_
  refine kz_if_eq (M := kt_M263) kX7_counted_c2.2.1 (t := 47) rfl h (fun h => ?_) (fun h => ?_)
  · skip
    refine kz_null (M := kt_M263) kX7_counted_c2.2.2.2.2.2.1 ?_
    exact kz_weak [(0, .ref (w_adr E.2.1 6 0)), (1, va_rf (x1)), (2, .int y0)] ⟨rfl, ⟨rfl, ⟨rfl, trivial⟩⟩⟩ rfl (zt_X7_counted_p48 hL  h)
  · skip
    refine kz_aload_nv (M := kt_M263) (x := x1) kX7_counted_c2.2.2.1 rfl ?_
    obtain ⟨p1, hxp1, hlp1, h⟩ := h
    refine kz_nz0 (x := x1) hxp1 ?_
    refine kz_gfp (M := kt_M263) (c := 14) (o := p1) kX7_counted_c2.2.2.2.1 wf_X7_46 (.inr (by exact hlp1)) ?_
    refine kz_goto (M := kt_M263) kX7_counted_c2.2.2.2.2.1 (t := 48) rfl ?_
    exact kz_weak [(0, .ref (w_adr E.2.1 6 0)), (1, va_rf (x1)), (2, .int y0)] ⟨rfl, ⟨rfl, ⟨rfl, trivial⟩⟩⟩ rfl (zt_X7_counted_p48 hL  h)
def zb_X7_counted_p30 (E : zE) (L : Nat) (Q : kx_Rs → wS → Prop) (x1 : Option Nat) (w : wS) : Prop := zb_X7_counted_p35 E L Q x1 1 w
theorem zt_X7_counted_p30 {E : zE} {L : Nat} {Q : kx_Rs → wS → Prop} {x1 : Option Nat} {w : wS} (hL : 22 ≤ L) (h : zb_X7_counted_p30 E L Q x1 w) : kzE E L kt_M263 30 [(0, .ref (w_adr E.2.1 6 0)), (1, va_rf (x1))] [] w Q := by
  unfold zb_X7_counted_p30 at h
  refine kz_ic (M := kt_M263) 1 kX7_counted_c1.2.2.2.2.1 rfl ?_
  refine kz_goto (M := kt_M263) kX7_counted_c1.2.2.2.2.2.1 (t := 35) rfl ?_
  exact kz_weak [(0, .ref (w_adr E.2.1 6 0)), (1, va_rf (x1))] ⟨rfl, ⟨rfl, trivial⟩⟩ rfl (zt_X7_counted_p35 hL  h)
def zb_X7_counted_p0 (E : zE) (L : Nat) (Q : kx_Rs → wS → Prop) (x1 : Option Nat) (w : wS) : Prop := (∃ p1, x1 = some p1 ∧ w_l w E.2.1 14 p1 ∧ (if w_p w 14 p1 0 = some (E.1.1 10) then zb_X7_counted_p30 E L Q x1 w else (if w_p w 14 p1 0 = some (E.1.1 26) then zb_X7_counted_p30 E L Q x1 w else (if ¬ w_p w 14 p1 0 = some (E.1.1 27) then zb_X7_counted_p35 E L Q x1 0 w else zb_X7_counted_p30 E L Q x1 w))))
theorem zt_X7_counted_p0 {E : zE} {L : Nat} {Q : kx_Rs → wS → Prop} {x1 : Option Nat} {w : wS} (hL : 22 ≤ L) (h : zb_X7_counted_p0 E L Q x1 w) : kzE E L kt_M263 0 [(0, .ref (w_adr E.2.1 6 0)), (1, va_rf (x1))] [] w Q := by
  unfold zb_X7_counted_p0 at h
  refine kz_aload_nv (M := kt_M263) (x := x1) kX7_counted_c0.1 rfl ?_
  obtain ⟨p1, hxp1, hlp1, h⟩ := h
  refine kz_nz0 (x := x1) hxp1 ?_
  refine kz_gfp (M := kt_M263) (c := 14) (o := p1) kX7_counted_c0.2.1 wf_X7_77 (.inr (by exact hlp1)) ?_
  refine kz_getsE (M := kt_M263) (v := va_rf (some (E.1.1 10))) kX7_counted_c0.2.2.1 zs_X7_81 ?_
  refine kz_acmp_eq (M := kt_M263) (x := w_p w 14 p1 0) (y := some (E.1.1 10)) kX7_counted_c0.2.2.2.1 (t := 30) rfl h (fun h => ?_) (fun h => ?_)
  · skip
    exact kz_weak [(0, .ref (w_adr E.2.1 6 0)), (1, va_rf (x1))] ⟨rfl, ⟨rfl, trivial⟩⟩ rfl (zt_X7_counted_p30 hL  h)
  · skip
    refine kz_aload_nv (M := kt_M263) (x := x1) kX7_counted_c0.2.2.2.2.1 rfl ?_
    refine kz_nz0 (x := x1) hxp1 ?_
    refine kz_gfp (M := kt_M263) (c := 14) (o := p1) kX7_counted_c0.2.2.2.2.2.1 wf_X7_77 (.inr (by exact hlp1)) ?_
    refine kz_getsE (M := kt_M263) (v := va_rf (some (E.1.1 26))) kX7_counted_c0.2.2.2.2.2.2.1 zs_X7_86 ?_
    refine kz_acmp_eq (M := kt_M263) (x := w_p w 14 p1 0) (y := some (E.1.1 26)) kX7_counted_c0.2.2.2.2.2.2.2.1 (t := 30) rfl h (fun h => ?_) (fun h => ?_)
    · skip
      exact kz_weak [(0, .ref (w_adr E.2.1 6 0)), (1, va_rf (x1))] ⟨rfl, ⟨rfl, trivial⟩⟩ rfl (zt_X7_counted_p30 hL  h)
    · skip
      refine kz_aload_nv (M := kt_M263) (x := x1) kX7_counted_c1.1 rfl ?_
      refine kz_nz0 (x := x1) hxp1 ?_
      refine kz_gfp (M := kt_M263) (c := 14) (o := p1) kX7_counted_c1.2.1 wf_X7_77 (.inr (by exact hlp1)) ?_
      refine kz_getsE (M := kt_M263) (v := va_rf (some (E.1.1 27))) kX7_counted_c1.2.2.1 zs_X7_89 ?_
      refine kz_acmp_ne (M := kt_M263) (x := w_p w 14 p1 0) (y := some (E.1.1 27)) kX7_counted_c1.2.2.2.1 (t := 34) rfl h (fun h => ?_) (fun h => ?_)
      · skip
        refine kz_ic (M := kt_M263) 0 kX7_counted_c1.2.2.2.2.2.2.1 rfl ?_
        exact kz_weak [(0, .ref (w_adr E.2.1 6 0)), (1, va_rf (x1))] ⟨rfl, ⟨rfl, trivial⟩⟩ rfl (zt_X7_counted_p35 hL  h)
      · skip
        exact kz_weak [(0, .ref (w_adr E.2.1 6 0)), (1, va_rf (x1))] ⟨rfl, ⟨rfl, trivial⟩⟩ rfl (zt_X7_counted_p30 hL  h)
def zb_X7_size_p74 (E : zE) (L : Nat) (Q : kx_Rs → wS → Prop) (x1 : Option Nat) (w : wS) : Prop := (∃ p1, x1 = some p1 ∧ w_l w E.2.1 14 p1 ∧ zw E (L - 22) kt_M56 [.ref (w_adr E.2.1 2 0), .int 9, .int (w_i w 14 p1 2)] w (wk0 (fun w2 => wle w w2 → Q (.inl (some (.int (-1)))) w2) (fun e w => Q (.inr e) w)))
theorem zt_X7_size_p74 {E : zE} {L : Nat} {Q : kx_Rs → wS → Prop} {x1 : Option Nat} {w : wS} (hL : 22 ≤ L) (h : zb_X7_size_p74 E L Q x1 w) : kzE E L kt_M284 74 [(0, .ref (w_adr E.2.1 6 0)), (1, va_rf (x1))] [] w Q := by
  unfold zb_X7_size_p74 at h
  refine kz_aload_n (M := kt_M284) kX7_size_c4.2.2.2.2.2.1 rfl ?_
  refine kz_gfc (M := kt_M284) (x := 8) (c := 6) (o := 0) kX7_size_c4.2.2.2.2.2.2.1 wf_X7_15 (.inl rfl) ?_
  refine kz_bi (M := kt_M284) 9 kX7_size_c4.2.2.2.2.2.2.2.1 rfl ?_
  refine kz_aload_nv (M := kt_M284) (x := x1) kX7_size_c5.1 rfl ?_
  obtain ⟨p1, hxp1, hlp1, h⟩ := h
  refine kz_nz0 (x := x1) hxp1 ?_
  refine kz_gfi (M := kt_M284) (c := 14) (o := p1) kX7_size_c5.2.1 wf_X7_52 (.inr (by exact hlp1)) ?_
  refine kz_cv0 (M := kt_M284) (c := 2) (o := 0) (As := [.int 9, .int (w_i w 14 p1 2)]) (rest := []) kX7_size_c5.2.2.1 wl_X7_55 wMv_56 rfl (.inl rfl) rfl (Nat.le_trans (Nat.le_of_ble_eq_true rfl) hL) (Nat.le_of_ble_eq_true rfl) (Nat.le_of_ble_eq_true rfl) h (fun w2 hle h => ?_) (fun _ _ _ h => kzx_no rfl h)
  have h := h hle
  have hlp1 := w_l_le hlp1 hle
  refine kz_ic (M := kt_M284) (-1) kX7_size_c5.2.2.2.1 rfl ?_
  exact kz_iret (M := kt_M284) kX7_size_c5.2.2.2.2.1 rfl rfl h
def zb_X7_size_p29 (E : zE) (L : Nat) (Q : kx_Rs → wS → Prop) (x1 : Option Nat) (w : wS) : Prop := (∃ p1, x1 = some p1 ∧ w_l w E.2.1 14 p1 ∧ zw E (L - 22) kt_M56 [.ref (w_adr E.2.1 2 0), .int 7, .int (w_i w 14 p1 2)] w (wk0 (fun w2 => wle w w2 → Q (.inl (some (.int (-1)))) w2) (fun e w => Q (.inr e) w)))
theorem zt_X7_size_p29 {E : zE} {L : Nat} {Q : kx_Rs → wS → Prop} {x1 : Option Nat} {w : wS} (hL : 22 ≤ L) (h : zb_X7_size_p29 E L Q x1 w) : kzE E L kt_M284 29 [(0, .ref (w_adr E.2.1 6 0)), (1, va_rf (x1))] [] w Q := by
  unfold zb_X7_size_p29 at h
  refine kz_aload_n (M := kt_M284) kX7_size_c1.2.2.2.2.2.2.2.1 rfl ?_
  refine kz_gfc (M := kt_M284) (x := 8) (c := 6) (o := 0) kX7_size_c2.1 wf_X7_15 (.inl rfl) ?_
  refine kz_bi (M := kt_M284) 7 kX7_size_c2.2.1 rfl ?_
  refine kz_aload_nv (M := kt_M284) (x := x1) kX7_size_c2.2.2.1 rfl ?_
  obtain ⟨p1, hxp1, hlp1, h⟩ := h
  refine kz_nz0 (x := x1) hxp1 ?_
  refine kz_gfi (M := kt_M284) (c := 14) (o := p1) kX7_size_c2.2.2.2.1 wf_X7_52 (.inr (by exact hlp1)) ?_
  refine kz_cv0 (M := kt_M284) (c := 2) (o := 0) (As := [.int 7, .int (w_i w 14 p1 2)]) (rest := []) kX7_size_c2.2.2.2.2.1 wl_X7_55 wMv_56 rfl (.inl rfl) rfl (Nat.le_trans (Nat.le_of_ble_eq_true rfl) hL) (Nat.le_of_ble_eq_true rfl) (Nat.le_of_ble_eq_true rfl) h (fun w2 hle h => ?_) (fun _ _ _ h => kzx_no rfl h)
  have h := h hle
  have hlp1 := w_l_le hlp1 hle
  refine kz_ic (M := kt_M284) (-1) kX7_size_c2.2.2.2.2.2.1 rfl ?_
  exact kz_iret (M := kt_M284) kX7_size_c2.2.2.2.2.2.2.1 rfl rfl h
def zb_X7_size_p0 (E : zE) (L : Nat) (Q : kx_Rs → wS → Prop) (x1 : Option Nat) (w : wS) : Prop := zw E (L - 21) kt_M266 [.ref (w_adr E.2.1 6 0), va_rf (x1)] w (wk0 (fun w1 => wle w w1 → (∃ p3, x1 = some p3 ∧ w_l w1 E.2.1 14 p3 ∧ (if ¬ w_i w1 14 p3 17 = 0 then (if ¬ w_i w1 14 p3 17 = 1 then zb_X7_size_p29 E L Q x1 w1 else (if w_i w1 14 p3 20 = 0 then (if w_i w1 14 p3 21 = 0 then zb_X7_size_p74 E L Q x1 w1 else (if w_i w1 14 p3 19 < 1 then zb_X7_size_p74 E L Q x1 w1 else (if 200 < w_i w1 14 p3 19 then zb_X7_size_p74 E L Q x1 w1 else Q (.inl (some (.int (w_i w1 14 p3 19)))) w1))) else zb_X7_size_p29 E L Q x1 w1)) else Q (.inl (some (.int (-1)))) w1))) (fun e w => Q (.inr e) w))
theorem zt_X7_size_p0 {E : zE} {L : Nat} {Q : kx_Rs → wS → Prop} {x1 : Option Nat} {w : wS} (hL : 22 ≤ L) (h : zb_X7_size_p0 E L Q x1 w) : kzE E L kt_M284 0 [(0, .ref (w_adr E.2.1 6 0)), (1, va_rf (x1))] [] w Q := by
  unfold zb_X7_size_p0 at h
  refine kz_aload_n (M := kt_M284) kX7_size_c0.1 rfl ?_
  refine kz_aload_nv (M := kt_M284) (x := x1) kX7_size_c0.2.1 rfl ?_
  refine kz_cv0 (M := kt_M284) (c := 6) (o := 0) (As := [va_rf (x1)]) (rest := []) kX7_size_c0.2.2.1 wl_X7_71 wMv_266 rfl (.inl rfl) rfl (Nat.le_trans (Nat.le_of_ble_eq_true rfl) hL) (by simp [lg_sl, w_cat, z_ci, z_cr, z_cl, z_cn, kt_M266]) (Nat.le_of_ble_eq_true rfl) h (fun w1 hle h => ?_) (fun _ _ _ h => kzx_no rfl h)
  have h := h hle
  refine kz_aload_nv (M := kt_M284) (x := x1) kX7_size_c0.2.2.2.1 rfl ?_
  obtain ⟨p3, hxp3, hlp3, h⟩ := h
  refine kz_nz0 (x := x1) hxp3 ?_
  refine kz_gfi (M := kt_M284) (c := 14) (o := p3) kX7_size_c0.2.2.2.2.1 wf_X7_61 (.inr (by exact hlp3)) ?_
  refine kz_if_ne (M := kt_M284) kX7_size_c0.2.2.2.2.2.1 (t := 14) rfl h (fun h => ?_) (fun h => ?_)
  · skip
    refine kz_aload_nv (M := kt_M284) (x := x1) kX7_size_c1.1 rfl ?_
    refine kz_nz0 (x := x1) hxp3 ?_
    refine kz_gfi (M := kt_M284) (c := 14) (o := p3) kX7_size_c1.2.1 wf_X7_61 (.inr (by exact hlp3)) ?_
    refine kz_ic (M := kt_M284) 1 kX7_size_c1.2.2.1 rfl ?_
    refine kz_icmp_ne (M := kt_M284) kX7_size_c1.2.2.2.1 (t := 29) rfl h (fun h => ?_) (fun h => ?_)
    · skip
      exact kz_weak [(0, .ref (w_adr E.2.1 6 0)), (1, va_rf (x1))] ⟨rfl, ⟨rfl, trivial⟩⟩ rfl (zt_X7_size_p29 hL  h)
    · skip
      refine kz_aload_nv (M := kt_M284) (x := x1) kX7_size_c1.2.2.2.2.1 rfl ?_
      refine kz_nz0 (x := x1) hxp3 ?_
      refine kz_gfi (M := kt_M284) (c := 14) (o := p3) kX7_size_c1.2.2.2.2.2.1 wf_X7_64 (.inr (by exact hlp3)) ?_
      refine kz_if_eq (M := kt_M284) kX7_size_c1.2.2.2.2.2.2.1 (t := 44) rfl h (fun h => ?_) (fun h => ?_)
      · skip
        refine kz_aload_nv (M := kt_M284) (x := x1) kX7_size_c2.2.2.2.2.2.2.2.1 rfl ?_
        refine kz_nz0 (x := x1) hxp3 ?_
        refine kz_gfi (M := kt_M284) (c := 14) (o := p3) kX7_size_c3.1 wf_X7_68 (.inr (by exact hlp3)) ?_
        refine kz_if_eq (M := kt_M284) kX7_size_c3.2.1 (t := 74) rfl h (fun h => ?_) (fun h => ?_)
        · skip
          exact kz_weak [(0, .ref (w_adr E.2.1 6 0)), (1, va_rf (x1))] ⟨rfl, ⟨rfl, trivial⟩⟩ rfl (zt_X7_size_p74 hL  h)
        · skip
          refine kz_aload_nv (M := kt_M284) (x := x1) kX7_size_c3.2.2.1 rfl ?_
          refine kz_nz0 (x := x1) hxp3 ?_
          refine kz_gfi (M := kt_M284) (c := 14) (o := p3) kX7_size_c3.2.2.2.1 wf_X7_74 (.inr (by exact hlp3)) ?_
          refine kz_ic (M := kt_M284) 1 kX7_size_c3.2.2.2.2.1 rfl ?_
          refine kz_icmp_lt (M := kt_M284) kX7_size_c3.2.2.2.2.2.1 (t := 74) rfl h (fun h => ?_) (fun h => ?_)
          · skip
            exact kz_weak [(0, .ref (w_adr E.2.1 6 0)), (1, va_rf (x1))] ⟨rfl, ⟨rfl, trivial⟩⟩ rfl (zt_X7_size_p74 hL  h)
          · skip
            refine kz_aload_nv (M := kt_M284) (x := x1) kX7_size_c3.2.2.2.2.2.2.1 rfl ?_
            refine kz_nz0 (x := x1) hxp3 ?_
            refine kz_gfi (M := kt_M284) (c := 14) (o := p3) kX7_size_c3.2.2.2.2.2.2.2.1 wf_X7_74 (.inr (by exact hlp3)) ?_
            refine kz_si (M := kt_M284) 200 kX7_size_c4.1 rfl ?_
            refine kz_icmp_gt (M := kt_M284) kX7_size_c4.2.1 (t := 74) rfl h (fun h => ?_) (fun h => ?_)
            · skip
              exact kz_weak [(0, .ref (w_adr E.2.1 6 0)), (1, va_rf (x1))] ⟨rfl, ⟨rfl, trivial⟩⟩ rfl (zt_X7_size_p74 hL  h)
            · skip
              refine kz_aload_nv (M := kt_M284) (x := x1) kX7_size_c4.2.2.1 rfl ?_
              refine kz_nz0 (x := x1) hxp3 ?_
              refine kz_gfi (M := kt_M284) (c := 14) (o := p3) kX7_size_c4.2.2.2.1 wf_X7_74 (.inr (by exact hlp3)) ?_
              exact kz_iret (M := kt_M284) kX7_size_c4.2.2.2.2.1 rfl rfl h
      · skip
        exact kz_weak [(0, .ref (w_adr E.2.1 6 0)), (1, va_rf (x1))] ⟨rfl, ⟨rfl, trivial⟩⟩ rfl (zt_X7_size_p29 hL  h)
  · skip
    refine kz_ic (M := kt_M284) (-1) kX7_size_c0.2.2.2.2.2.2.1 rfl ?_
    exact kz_iret (M := kt_M284) kX7_size_c0.2.2.2.2.2.2.2.1 rfl rfl h
def zb_X7_expression_p189 (E : zE) (L : Nat) (Q : kx_Rs → wS → Prop) (w : wS) : Prop := Q (.inl none) w
theorem zt_X7_expression_p189 {E : zE} {L : Nat} {Q : kx_Rs → wS → Prop} {w : wS} (hL : 27 ≤ L) (h : zb_X7_expression_p189 E L Q  w) : kzE E L kt_M266 189 [(0, .ref (w_adr E.2.1 6 0))] [] w Q := by
  unfold zb_X7_expression_p189 at h
  exact kz_ret (M := kt_M266) kX7_expression_c9.2.1 rfl h
def zb_X7_expression_p0 (E : zE) (L : Nat) (Q : kx_Rs → wS → Prop) (x1 : Option Nat) (w : wS) : Prop := (∃ p1, x1 = some p1 ∧ w_l w E.2.1 14 p1 ∧ (∃ i2, zO E "MeetingHouse$Kind" (w_p w 14 p1 0) i2 ∧ (if (kw_on i2) = 33 then zw E (L - 24) kt_M269 [.ref (w_adr E.2.1 6 0), va_rf (x1), .int 1, .int 1, .int (w_i w 14 p1 10)] w (wk0 (fun w3 => wle w w3 → zb_X7_expression_p189 E L Q w3) (fun e w => Q (.inr e) w)) else (if (kw_on i2) = 34 then zw E (L - 24) kt_M269 [.ref (w_adr E.2.1 6 0), va_rf (x1), .int 2, .int 1, .int (w_i w 14 p1 10)] w (wk0 (fun w5 => wle w w5 → zb_X7_expression_p189 E L Q w5) (fun e w => Q (.inr e) w)) else (if (kw_on i2) = 35 then zb_X7_expression_p189 E L Q (ws_i (ws_i w 14 p1 17 2) 14 p1 20 1) else (if (kw_on i2) = 36 then zw E (L - 24) kt_M269 [.ref (w_adr E.2.1 6 0), va_rf (x1), .int 3, .int 1, .int (w_i w 14 p1 10)] w (wk0 (fun w7 => wle w w7 → zb_X7_expression_p189 E L Q w7) (fun e w => Q (.inr e) w)) else (if (kw_on i2) = 37 then zw E (L - 23) kt_M262 [.ref (w_adr E.2.1 6 0), va_rf (x1)] w (wk0 (fun w9 => wle w w9 → zb_X7_expression_p189 E L Q w9) (fun e w => Q (.inr e) w)) else (if (kw_on i2) = 38 then zw E (L - 25) kt_M285 [.ref (w_adr E.2.1 6 0), va_rf (x1)] w (wk0 (fun w11 => wle w w11 → zb_X7_expression_p189 E L Q w11) (fun e w => Q (.inr e) w)) else (if (kw_on i2) = 39 then zw E (L - 22) kt_M265 [.ref (w_adr E.2.1 6 0), va_rf (x1)] w (wk0 (fun w13 => wle w w13 → zb_X7_expression_p189 E L Q w13) (fun e w => Q (.inr e) w)) else (if (kw_on i2) = 40 then zw E (L - 24) kt_M259 [.ref (w_adr E.2.1 6 0), va_rf (x1)] w (wk0 (fun w15 => wle w w15 → (if (w_p w15 14 p1 16) = none then zb_X7_expression_p189 E L Q w15 else (∃ p17, w_p w15 14 p1 16 = some p17 ∧ w_l w15 E.2.1 15 p17 ∧ zw E (L - 24) kt_M269 [.ref (w_adr E.2.1 6 0), va_rf (x1), .int (w_i w15 15 p17 5), .int 0, .int 0] w15 (wk0 (fun w18 => wle w15 w18 → zb_X7_expression_p189 E L Q w18) (fun e w => Q (.inr e) w))))) (fun e w => Q (.inr e) w)) else (if (kw_on i2) = 41 then zw E (L - 25) kt_M274 [.ref (w_adr E.2.1 6 0), va_rf (x1)] w (wk0 (fun w20 => wle w w20 → zb_X7_expression_p189 E L Q w20) (fun e w => Q (.inr e) w)) else (if (kw_on i2) = 42 then zw E (L - 27) kt_M286 [.ref (w_adr E.2.1 6 0), va_rf (x1)] w (wk0 (fun w22 => wle w w22 → zb_X7_expression_p189 E L Q w22) (fun e w => Q (.inr e) w)) else zw E (L - 26) kt_M261 [.ref (w_adr E.2.1 6 0), va_rf (x1)] w (wk0 (fun w24 => wle w w24 → zb_X7_expression_p189 E L Q w24) (fun e w => Q (.inr e) w))))))))))))))
theorem zt_X7_expression_p0 {E : zE} {L : Nat} {Q : kx_Rs → wS → Prop} {x1 : Option Nat} {w : wS} (hL : 27 ≤ L) (h : zb_X7_expression_p0 E L Q x1 w) : kzE E L kt_M266 0 [(0, .ref (w_adr E.2.1 6 0)), (1, va_rf (x1))] [] w Q := by
  unfold zb_X7_expression_p0 at h
  refine kz_aload_nv (M := kt_M266) (x := x1) kX7_expression_c0.1 rfl ?_
  obtain ⟨p1, hxp1, hlp1, h⟩ := h
  refine kz_nz0 (x := x1) hxp1 ?_
  refine kz_gfp (M := kt_M266) (c := 14) (o := p1) kX7_expression_c0.2.1 wf_X7_77 (.inr (by exact hlp1)) ?_
  obtain ⟨i2, ho, h⟩ := h
  refine kz_ord (M := kt_M266) (x := w_p w 14 p1 0) (i := i2) (C := "MeetingHouse$Kind") kX7_expression_c0.2.2.1 zo_l_X7 zo_m_X7 zo_s_Kind zo_u_X7 (Nat.le_trans (Nat.le_of_ble_eq_true rfl) hL) (Nat.le_of_ble_eq_true rfl) ho ?_
  refine kz_tsw (M := kt_M266) [(33, 60), (34, 74), (35, 102), (36, 88), (37, 115), (38, 123), (39, 131), (40, 139), (41, 168), (42, 176)] [_, _, _, _, _, _, _, _, _, _] 184 dX7_expression_p7 (by decide +kernel) h ⟨fun h => ?_, fun h => ?_, fun h => ?_, fun h => ?_, fun h => ?_, fun h => ?_, fun h => ?_, fun h => ?_, fun h => ?_, fun h => ?_, trivial⟩ (fun h => ?_)
  · skip
    refine kz_aload_n (M := kt_M266) kX7_expression_c0.2.2.2.2.1 rfl ?_
    refine kz_aload_nv (M := kt_M266) (x := x1) kX7_expression_c0.2.2.2.2.2.1 rfl ?_
    refine kz_ic (M := kt_M266) 1 kX7_expression_c0.2.2.2.2.2.2.1 rfl ?_
    refine kz_ic (M := kt_M266) 1 kX7_expression_c0.2.2.2.2.2.2.2.1 rfl ?_
    refine kz_aload_nv (M := kt_M266) (x := x1) kX7_expression_c1.1 rfl ?_
    refine kz_nz0 (x := x1) hxp1 ?_
    refine kz_gfi (M := kt_M266) (c := 14) (o := p1) kX7_expression_c1.2.1 wf_X7_231 (.inr (by exact hlp1)) ?_
    refine kz_cv0 (M := kt_M266) (c := 6) (o := 0) (As := [va_rf (x1), .int 1, .int 1, .int (w_i w 14 p1 10)]) (rest := []) kX7_expression_c1.2.2.1 wl_X7_286 wMv_269 rfl (.inl rfl) rfl (Nat.le_trans (Nat.le_of_ble_eq_true rfl) hL) (by simp [lg_sl, w_cat, z_ci, z_cr, z_cl, z_cn, kt_M269]) (Nat.le_of_ble_eq_true rfl) h (fun w3 hle h => ?_) (fun _ _ _ h => kzx_no rfl h)
    have h := h hle
    have hlp1 := w_l_le hlp1 hle
    refine kz_goto (M := kt_M266) kX7_expression_c1.2.2.2.1 (t := 189) rfl ?_
    exact kz_weak [(0, .ref (w_adr E.2.1 6 0))] ⟨rfl, trivial⟩ rfl (zt_X7_expression_p189 hL  h)
  · skip
    refine kz_aload_n (M := kt_M266) kX7_expression_c1.2.2.2.2.1 rfl ?_
    refine kz_aload_nv (M := kt_M266) (x := x1) kX7_expression_c1.2.2.2.2.2.1 rfl ?_
    refine kz_ic (M := kt_M266) 2 kX7_expression_c1.2.2.2.2.2.2.1 rfl ?_
    refine kz_ic (M := kt_M266) 1 kX7_expression_c1.2.2.2.2.2.2.2.1 rfl ?_
    refine kz_aload_nv (M := kt_M266) (x := x1) kX7_expression_c2.1 rfl ?_
    refine kz_nz0 (x := x1) hxp1 ?_
    refine kz_gfi (M := kt_M266) (c := 14) (o := p1) kX7_expression_c2.2.1 wf_X7_231 (.inr (by exact hlp1)) ?_
    refine kz_cv0 (M := kt_M266) (c := 6) (o := 0) (As := [va_rf (x1), .int 2, .int 1, .int (w_i w 14 p1 10)]) (rest := []) kX7_expression_c2.2.2.1 wl_X7_286 wMv_269 rfl (.inl rfl) rfl (Nat.le_trans (Nat.le_of_ble_eq_true rfl) hL) (by simp [lg_sl, w_cat, z_ci, z_cr, z_cl, z_cn, kt_M269]) (Nat.le_of_ble_eq_true rfl) h (fun w5 hle h => ?_) (fun _ _ _ h => kzx_no rfl h)
    have h := h hle
    have hlp1 := w_l_le hlp1 hle
    refine kz_goto (M := kt_M266) kX7_expression_c2.2.2.2.1 (t := 189) rfl ?_
    exact kz_weak [(0, .ref (w_adr E.2.1 6 0))] ⟨rfl, trivial⟩ rfl (zt_X7_expression_p189 hL  h)
  · skip
    refine kz_aload_nv (M := kt_M266) (x := x1) kX7_expression_c3.2.2.2.2.1 rfl ?_
    refine kz_ic (M := kt_M266) 2 kX7_expression_c3.2.2.2.2.2.1 rfl ?_
    refine kz_nz1 (x := x1) hxp1 ?_
    refine kz_pfi (M := kt_M266) (c := 14) (o := p1) kX7_expression_c3.2.2.2.2.2.2.1 wq_X7_61 (.inr (by exact hlp1)) ?_
    refine kz_aload_nv (M := kt_M266) (x := x1) kX7_expression_c3.2.2.2.2.2.2.2.1 rfl ?_
    refine kz_ic (M := kt_M266) 1 kX7_expression_c4.1 rfl ?_
    refine kz_nz1 (x := x1) hxp1 ?_
    refine kz_pfz (M := kt_M266) (c := 14) (o := p1) kX7_expression_c4.2.1 wq_X7_64 (.inr (by exact hlp1)) (by decide) ?_
    refine kz_goto (M := kt_M266) kX7_expression_c4.2.2.1 (t := 189) rfl ?_
    exact kz_weak [(0, .ref (w_adr E.2.1 6 0))] ⟨rfl, trivial⟩ rfl (zt_X7_expression_p189 hL  h)
  · skip
    refine kz_aload_n (M := kt_M266) kX7_expression_c2.2.2.2.2.1 rfl ?_
    refine kz_aload_nv (M := kt_M266) (x := x1) kX7_expression_c2.2.2.2.2.2.1 rfl ?_
    refine kz_ic (M := kt_M266) 3 kX7_expression_c2.2.2.2.2.2.2.1 rfl ?_
    refine kz_ic (M := kt_M266) 1 kX7_expression_c2.2.2.2.2.2.2.2.1 rfl ?_
    refine kz_aload_nv (M := kt_M266) (x := x1) kX7_expression_c3.1 rfl ?_
    refine kz_nz0 (x := x1) hxp1 ?_
    refine kz_gfi (M := kt_M266) (c := 14) (o := p1) kX7_expression_c3.2.1 wf_X7_231 (.inr (by exact hlp1)) ?_
    refine kz_cv0 (M := kt_M266) (c := 6) (o := 0) (As := [va_rf (x1), .int 3, .int 1, .int (w_i w 14 p1 10)]) (rest := []) kX7_expression_c3.2.2.1 wl_X7_286 wMv_269 rfl (.inl rfl) rfl (Nat.le_trans (Nat.le_of_ble_eq_true rfl) hL) (by simp [lg_sl, w_cat, z_ci, z_cr, z_cl, z_cn, kt_M269]) (Nat.le_of_ble_eq_true rfl) h (fun w7 hle h => ?_) (fun _ _ _ h => kzx_no rfl h)
    have h := h hle
    have hlp1 := w_l_le hlp1 hle
    refine kz_goto (M := kt_M266) kX7_expression_c3.2.2.2.1 (t := 189) rfl ?_
    exact kz_weak [(0, .ref (w_adr E.2.1 6 0))] ⟨rfl, trivial⟩ rfl (zt_X7_expression_p189 hL  h)
  · skip
    refine kz_aload_n (M := kt_M266) kX7_expression_c4.2.2.2.1 rfl ?_
    refine kz_aload_nv (M := kt_M266) (x := x1) kX7_expression_c4.2.2.2.2.1 rfl ?_
    refine kz_cv0 (M := kt_M266) (c := 6) (o := 0) (As := [va_rf (x1)]) (rest := []) kX7_expression_c4.2.2.2.2.2.1 wl_X7_290 wMv_262 rfl (.inl rfl) rfl (Nat.le_trans (Nat.le_of_ble_eq_true rfl) hL) (by simp [lg_sl, w_cat, z_ci, z_cr, z_cl, z_cn, kt_M262]) (Nat.le_of_ble_eq_true rfl) h (fun w9 hle h => ?_) (fun _ _ _ h => kzx_no rfl h)
    have h := h hle
    have hlp1 := w_l_le hlp1 hle
    refine kz_goto (M := kt_M266) kX7_expression_c4.2.2.2.2.2.2.1 (t := 189) rfl ?_
    exact kz_weak [(0, .ref (w_adr E.2.1 6 0))] ⟨rfl, trivial⟩ rfl (zt_X7_expression_p189 hL  h)
  · skip
    refine kz_aload_n (M := kt_M266) kX7_expression_c4.2.2.2.2.2.2.2.1 rfl ?_
    refine kz_aload_nv (M := kt_M266) (x := x1) kX7_expression_c5.1 rfl ?_
    refine kz_cv0 (M := kt_M266) (c := 6) (o := 0) (As := [va_rf (x1)]) (rest := []) kX7_expression_c5.2.1 wl_X7_293 wMv_285 rfl (.inl rfl) rfl (Nat.le_trans (Nat.le_of_ble_eq_true rfl) hL) (by simp [lg_sl, w_cat, z_ci, z_cr, z_cl, z_cn, kt_M285]) (Nat.le_of_ble_eq_true rfl) h (fun w11 hle h => ?_) (fun _ _ _ h => kzx_no rfl h)
    have h := h hle
    have hlp1 := w_l_le hlp1 hle
    refine kz_goto (M := kt_M266) kX7_expression_c5.2.2.1 (t := 189) rfl ?_
    exact kz_weak [(0, .ref (w_adr E.2.1 6 0))] ⟨rfl, trivial⟩ rfl (zt_X7_expression_p189 hL  h)
  · skip
    refine kz_aload_n (M := kt_M266) kX7_expression_c5.2.2.2.1 rfl ?_
    refine kz_aload_nv (M := kt_M266) (x := x1) kX7_expression_c5.2.2.2.2.1 rfl ?_
    refine kz_cv0 (M := kt_M266) (c := 6) (o := 0) (As := [va_rf (x1)]) (rest := []) kX7_expression_c5.2.2.2.2.2.1 wl_X7_296 wMv_265 rfl (.inl rfl) rfl (Nat.le_trans (Nat.le_of_ble_eq_true rfl) hL) (by simp [lg_sl, w_cat, z_ci, z_cr, z_cl, z_cn, kt_M265]) (Nat.le_of_ble_eq_true rfl) h (fun w13 hle h => ?_) (fun _ _ _ h => kzx_no rfl h)
    have h := h hle
    have hlp1 := w_l_le hlp1 hle
    refine kz_goto (M := kt_M266) kX7_expression_c5.2.2.2.2.2.2.1 (t := 189) rfl ?_
    exact kz_weak [(0, .ref (w_adr E.2.1 6 0))] ⟨rfl, trivial⟩ rfl (zt_X7_expression_p189 hL  h)
  · skip
    refine kz_aload_n (M := kt_M266) kX7_expression_c5.2.2.2.2.2.2.2.1 rfl ?_
    refine kz_aload_nv (M := kt_M266) (x := x1) kX7_expression_c6.1 rfl ?_
    refine kz_cv0 (M := kt_M266) (c := 6) (o := 0) (As := [va_rf (x1)]) (rest := []) kX7_expression_c6.2.1 wl_X7_180 wMv_259 rfl (.inl rfl) rfl (Nat.le_trans (Nat.le_of_ble_eq_true rfl) hL) (by simp [lg_sl, w_cat, z_ci, z_cr, z_cl, z_cn, kt_M259]) (Nat.le_of_ble_eq_true rfl) h (fun w15 hle h => ?_) (fun _ _ _ h => kzx_no rfl h)
    have h := h hle
    have hlp1 := w_l_le hlp1 hle
    refine kz_aload_nv (M := kt_M266) (x := x1) kX7_expression_c6.2.2.1 rfl ?_
    refine kz_nz0 (x := x1) hxp1 ?_
    refine kz_gfp (M := kt_M266) (c := 14) (o := p1) kX7_expression_c6.2.2.2.1 wf_X7_103 (.inr (by exact hlp1)) ?_
    refine kz_ifnull (M := kt_M266) (x := w_p w15 14 p1 16) kX7_expression_c6.2.2.2.2.1 (t := 189) rfl h (fun h => ?_) (fun h => ?_)
    · skip
      exact kz_weak [(0, .ref (w_adr E.2.1 6 0))] ⟨rfl, trivial⟩ rfl (zt_X7_expression_p189 hL  h)
    · skip
      refine kz_aload_n (M := kt_M266) kX7_expression_c6.2.2.2.2.2.1 rfl ?_
      refine kz_aload_nv (M := kt_M266) (x := x1) kX7_expression_c6.2.2.2.2.2.2.1 rfl ?_
      refine kz_aload_nv (M := kt_M266) (x := x1) kX7_expression_c6.2.2.2.2.2.2.2.1 rfl ?_
      refine kz_nz0 (x := x1) hxp1 ?_
      refine kz_gfp (M := kt_M266) (c := 14) (o := p1) kX7_expression_c7.1 wf_X7_103 (.inr (by exact hlp1)) ?_
      obtain ⟨p17, hxp17, hlp17, h⟩ := h
      refine kz_nz0 (x := w_p w15 14 p1 16) hxp17 ?_
      refine kz_gfi (M := kt_M266) (c := 15) (o := p17) kX7_expression_c7.2.1 wf_X7_134 (.inr (by exact hlp17)) ?_
      refine kz_ic (M := kt_M266) 0 kX7_expression_c7.2.2.1 rfl ?_
      refine kz_ic (M := kt_M266) 0 kX7_expression_c7.2.2.2.1 rfl ?_
      refine kz_cv0 (M := kt_M266) (c := 6) (o := 0) (As := [va_rf (x1), .int (w_i w15 15 p17 5), .int 0, .int 0]) (rest := []) kX7_expression_c7.2.2.2.2.1 wl_X7_286 wMv_269 rfl (.inl rfl) rfl (Nat.le_trans (Nat.le_of_ble_eq_true rfl) hL) (by simp [lg_sl, w_cat, z_ci, z_cr, z_cl, z_cn, kt_M269]) (Nat.le_of_ble_eq_true rfl) h (fun w18 hle h => ?_) (fun _ _ _ h => kzx_no rfl h)
      have h := h hle
      have hlp1 := w_l_le hlp1 hle
      have hlp17 := w_l_le hlp17 hle
      refine kz_goto (M := kt_M266) kX7_expression_c7.2.2.2.2.2.1 (t := 189) rfl ?_
      exact kz_weak [(0, .ref (w_adr E.2.1 6 0))] ⟨rfl, trivial⟩ rfl (zt_X7_expression_p189 hL  h)
  · skip
    refine kz_aload_n (M := kt_M266) kX7_expression_c7.2.2.2.2.2.2.1 rfl ?_
    refine kz_aload_nv (M := kt_M266) (x := x1) kX7_expression_c7.2.2.2.2.2.2.2.1 rfl ?_
    refine kz_cv0 (M := kt_M266) (c := 6) (o := 0) (As := [va_rf (x1)]) (rest := []) kX7_expression_c8.1 wl_X7_299 wMv_274 rfl (.inl rfl) rfl (Nat.le_trans (Nat.le_of_ble_eq_true rfl) hL) (by simp [lg_sl, w_cat, z_ci, z_cr, z_cl, z_cn, kt_M274]) (Nat.le_of_ble_eq_true rfl) h (fun w20 hle h => ?_) (fun _ _ _ h => kzx_no rfl h)
    have h := h hle
    have hlp1 := w_l_le hlp1 hle
    refine kz_goto (M := kt_M266) kX7_expression_c8.2.1 (t := 189) rfl ?_
    exact kz_weak [(0, .ref (w_adr E.2.1 6 0))] ⟨rfl, trivial⟩ rfl (zt_X7_expression_p189 hL  h)
  · skip
    refine kz_aload_n (M := kt_M266) kX7_expression_c8.2.2.1 rfl ?_
    refine kz_aload_nv (M := kt_M266) (x := x1) kX7_expression_c8.2.2.2.1 rfl ?_
    refine kz_cv0 (M := kt_M266) (c := 6) (o := 0) (As := [va_rf (x1)]) (rest := []) kX7_expression_c8.2.2.2.2.1 wl_X7_302 wMv_286 rfl (.inl rfl) rfl (Nat.le_trans (Nat.le_of_ble_eq_true rfl) hL) (by simp [lg_sl, w_cat, z_ci, z_cr, z_cl, z_cn, kt_M286]) (Nat.le_of_ble_eq_true rfl) h (fun w22 hle h => ?_) (fun _ _ _ h => kzx_no rfl h)
    have h := h hle
    have hlp1 := w_l_le hlp1 hle
    refine kz_goto (M := kt_M266) kX7_expression_c8.2.2.2.2.2.1 (t := 189) rfl ?_
    exact kz_weak [(0, .ref (w_adr E.2.1 6 0))] ⟨rfl, trivial⟩ rfl (zt_X7_expression_p189 hL  h)
  · skip
    refine kz_aload_n (M := kt_M266) kX7_expression_c8.2.2.2.2.2.2.1 rfl ?_
    refine kz_aload_nv (M := kt_M266) (x := x1) kX7_expression_c8.2.2.2.2.2.2.2.1 rfl ?_
    refine kz_cv0 (M := kt_M266) (c := 6) (o := 0) (As := [va_rf (x1)]) (rest := []) kX7_expression_c9.1 wl_X7_305 wMv_261 rfl (.inl rfl) rfl (Nat.le_trans (Nat.le_of_ble_eq_true rfl) hL) (by simp [lg_sl, w_cat, z_ci, z_cr, z_cl, z_cn, kt_M261]) (Nat.le_of_ble_eq_true rfl) h (fun w24 hle h => ?_) (fun _ _ _ h => kzx_no rfl h)
    have h := h hle
    have hlp1 := w_l_le hlp1 hle
    exact kz_weak [(0, .ref (w_adr E.2.1 6 0))] ⟨rfl, trivial⟩ rfl (zt_X7_expression_p189 hL  h)
def zb_X7_given_p0 (E : zE) (L : Nat) (Q : kx_Rs → wS → Prop) (x1 : Option Nat) (x2 : Int32) (x3 : Int32) (x4 : Int32) (w : wS) : Prop := (∃ p1, x1 = some p1 ∧ w_l w E.2.1 14 p1 ∧ ((x3 = 0 ∨ x3 = 1) ∧ Q (.inl none) (ws_i (ws_i (ws_i (ws_i (ws_i w 14 p1 17 x2) 14 p1 20 0) 14 p1 18 (-1)) 14 p1 21 x3) 14 p1 19 x4)))
theorem zt_X7_given_p0 {E : zE} {L : Nat} {Q : kx_Rs → wS → Prop} {x1 : Option Nat} {x2 : Int32} {x3 : Int32} {x4 : Int32} {w : wS} (hL : 19 ≤ L) (h : zb_X7_given_p0 E L Q x1 x2 x3 x4 w) : kzE E L kt_M269 0 [(0, .ref (w_adr E.2.1 6 0)), (1, va_rf (x1)), (2, .int x2), (3, .int x3), (4, .int x4)] [] w Q := by
  unfold zb_X7_given_p0 at h
  refine kz_aload_nv (M := kt_M269) (x := x1) kX7_given_c0.1 rfl ?_
  refine kz_iload_n (M := kt_M269) kX7_given_c0.2.1 rfl ?_
  obtain ⟨p1, hxp1, hlp1, h⟩ := h
  refine kz_nz1 (x := x1) hxp1 ?_
  refine kz_pfi (M := kt_M269) (c := 14) (o := p1) kX7_given_c0.2.2.1 wq_X7_61 (.inr (by exact hlp1)) ?_
  refine kz_aload_nv (M := kt_M269) (x := x1) kX7_given_c0.2.2.2.1 rfl ?_
  refine kz_ic (M := kt_M269) 0 kX7_given_c0.2.2.2.2.1 rfl ?_
  refine kz_nz1 (x := x1) hxp1 ?_
  refine kz_pfz (M := kt_M269) (c := 14) (o := p1) kX7_given_c0.2.2.2.2.2.1 wq_X7_64 (.inr (by exact hlp1)) (by decide) ?_
  refine kz_aload_nv (M := kt_M269) (x := x1) kX7_given_c0.2.2.2.2.2.2.1 rfl ?_
  refine kz_ic (M := kt_M269) (-1) kX7_given_c0.2.2.2.2.2.2.2.1 rfl ?_
  refine kz_nz1 (x := x1) hxp1 ?_
  refine kz_pfi (M := kt_M269) (c := 14) (o := p1) kX7_given_c1.1 wq_X7_133 (.inr (by exact hlp1)) ?_
  refine kz_aload_nv (M := kt_M269) (x := x1) kX7_given_c1.2.1 rfl ?_
  refine kz_iload_n (M := kt_M269) kX7_given_c1.2.2.1 rfl ?_
  refine kz_nz1 (x := x1) hxp1 ?_
  obtain ⟨h0, h⟩ := h
  refine kz_pfz (M := kt_M269) (c := 14) (o := p1) kX7_given_c1.2.2.2.1 wq_X7_68 (.inr (by exact hlp1)) h0 ?_
  refine kz_aload_nv (M := kt_M269) (x := x1) kX7_given_c1.2.2.2.2.1 rfl ?_
  refine kz_iload (M := kt_M269) kX7_given_c1.2.2.2.2.2.1 rfl ?_
  refine kz_nz1 (x := x1) hxp1 ?_
  refine kz_pfi (M := kt_M269) (c := 14) (o := p1) kX7_given_c1.2.2.2.2.2.2.1 wq_X7_74 (.inr (by exact hlp1)) ?_
  exact kz_ret (M := kt_M269) kX7_given_c1.2.2.2.2.2.2.2.1 rfl h
def zb_X7_conversion_p120 (E : zE) (L : Nat) (Q : kx_Rs → wS → Prop) (w : wS) : Prop := Q (.inl none) w
theorem zt_X7_conversion_p120 {E : zE} {L : Nat} {Q : kx_Rs → wS → Prop} {w : wS} (hL : 24 ≤ L) (h : zb_X7_conversion_p120 E L Q  w) : kzE E L kt_M262 120 [(0, .ref (w_adr E.2.1 6 0))] [] w Q := by
  unfold zb_X7_conversion_p120 at h
  exact kz_ret (M := kt_M262) kX7_conversion_c7.2.2.2.2.1 rfl h
def zb_X7_conversion_p93 (E : zE) (L : Nat) (Q : kx_Rs → wS → Prop) (x1 : Option Nat) (x2 : Int32) (y0 : Int32) (w : wS) : Prop := (∃ p1, x1 = some p1 ∧ w_l w E.2.1 14 p1 ∧ (∃ p2, w_p w 14 p1 3 = some p2 ∧ w_l w E.2.1 14 p2 ∧ zw E (L - 24) kt_M269 [.ref (w_adr E.2.1 6 0), va_rf (x1), .int (w_i w 14 p1 8), .int (w_i w 14 p2 21), .int x2] w (wk0 (fun w3 => wle w w3 → (if y0 = 0 then zb_X7_conversion_p120 E L Q w3 else zw E (L - 21) kt_M267 [.ref (w_adr E.2.1 6 0), va_rf (x1)] w3 (wk0 (fun w5 => wle w3 w5 → zb_X7_conversion_p120 E L Q w5) (fun e w => Q (.inr e) w)))) (fun e w => Q (.inr e) w))))
theorem zt_X7_conversion_p93 {E : zE} {L : Nat} {Q : kx_Rs → wS → Prop} {x1 : Option Nat} {x2 : Int32} {y0 : Int32} {w : wS} (hL : 24 ≤ L) (h : zb_X7_conversion_p93 E L Q x1 x2 y0 w) : kzE E L kt_M262 93 [(0, .ref (w_adr E.2.1 6 0)), (1, va_rf (x1)), (2, .int x2)] [.int y0] w Q := by
  unfold zb_X7_conversion_p93 at h
  refine kz_sti_n (M := kt_M262) [(0, .ref (w_adr E.2.1 6 0)), (1, va_rf (x1)), (2, .int x2)] kX7_conversion_c5.2.2.2.2.2.1 (Nat.le_of_ble_eq_true rfl) ⟨⟨rfl, rfl, .inl rfl⟩, ⟨⟨rfl, rfl, .inl rfl⟩, ⟨⟨rfl, rfl, .inr rfl⟩, trivial⟩⟩⟩ rfl ?_
  refine kz_aload_n (M := kt_M262) kX7_conversion_c5.2.2.2.2.2.2.1 rfl ?_
  refine kz_aload_nv (M := kt_M262) (x := x1) kX7_conversion_c5.2.2.2.2.2.2.2.1 rfl ?_
  refine kz_aload_nv (M := kt_M262) (x := x1) kX7_conversion_c6.1 rfl ?_
  obtain ⟨p1, hxp1, hlp1, h⟩ := h
  refine kz_nz0 (x := x1) hxp1 ?_
  refine kz_gfi (M := kt_M262) (c := 14) (o := p1) kX7_conversion_c6.2.1 wf_X7_130 (.inr (by exact hlp1)) ?_
  refine kz_aload_nv (M := kt_M262) (x := x1) kX7_conversion_c6.2.2.1 rfl ?_
  refine kz_nz0 (x := x1) hxp1 ?_
  refine kz_gfp (M := kt_M262) (c := 14) (o := p1) kX7_conversion_c6.2.2.2.1 wf_X7_34 (.inr (by exact hlp1)) ?_
  obtain ⟨p2, hxp2, hlp2, h⟩ := h
  refine kz_nz0 (x := w_p w 14 p1 3) hxp2 ?_
  refine kz_gfi (M := kt_M262) (c := 14) (o := p2) kX7_conversion_c6.2.2.2.2.1 wf_X7_68 (.inr (by exact hlp2)) ?_
  refine kz_iload_n (M := kt_M262) kX7_conversion_c6.2.2.2.2.2.1 rfl ?_
  refine kz_cv0 (M := kt_M262) (c := 6) (o := 0) (As := [va_rf (x1), .int (w_i w 14 p1 8), .int (w_i w 14 p2 21), .int x2]) (rest := []) kX7_conversion_c6.2.2.2.2.2.2.1 wl_X7_286 wMv_269 rfl (.inl rfl) rfl (Nat.le_trans (Nat.le_of_ble_eq_true rfl) hL) (by simp [lg_sl, w_cat, z_ci, z_cr, z_cl, z_cn, kt_M269]) (Nat.le_of_ble_eq_true rfl) h (fun w3 hle h => ?_) (fun _ _ _ h => kzx_no rfl h)
  have h := h hle
  have hlp1 := w_l_le hlp1 hle
  have hlp2 := w_l_le hlp2 hle
  refine kz_iload_n (M := kt_M262) kX7_conversion_c6.2.2.2.2.2.2.2.1 rfl ?_
  refine kz_if_eq (M := kt_M262) kX7_conversion_c7.1 (t := 120) rfl h (fun h => ?_) (fun h => ?_)
  · skip
    exact kz_weak [(0, .ref (w_adr E.2.1 6 0))] ⟨rfl, trivial⟩ rfl (zt_X7_conversion_p120 hL  h)
  · skip
    refine kz_aload_n (M := kt_M262) kX7_conversion_c7.2.1 rfl ?_
    refine kz_aload_nv (M := kt_M262) (x := x1) kX7_conversion_c7.2.2.1 rfl ?_
    refine kz_cv0 (M := kt_M262) (c := 6) (o := 0) (As := [va_rf (x1)]) (rest := []) kX7_conversion_c7.2.2.2.1 wl_X7_308 wMv_267 rfl (.inl rfl) rfl (Nat.le_trans (Nat.le_of_ble_eq_true rfl) hL) (by simp [lg_sl, w_cat, z_ci, z_cr, z_cl, z_cn, kt_M267]) (Nat.le_of_ble_eq_true rfl) h (fun w5 hle h => ?_) (fun _ _ _ h => kzx_no rfl h)
    have h := h hle
    have hlp1 := w_l_le hlp1 hle
    have hlp2 := w_l_le hlp2 hle
    exact kz_weak [(0, .ref (w_adr E.2.1 6 0))] ⟨rfl, trivial⟩ rfl (zt_X7_conversion_p120 hL  h)
def zb_X7_conversion_p92 (E : zE) (L : Nat) (Q : kx_Rs → wS → Prop) (x1 : Option Nat) (x2 : Int32) (w : wS) : Prop := zb_X7_conversion_p93 E L Q x1 x2 0 w
theorem zt_X7_conversion_p92 {E : zE} {L : Nat} {Q : kx_Rs → wS → Prop} {x1 : Option Nat} {x2 : Int32} {w : wS} (hL : 24 ≤ L) (h : zb_X7_conversion_p92 E L Q x1 x2 w) : kzE E L kt_M262 92 [(0, .ref (w_adr E.2.1 6 0)), (1, va_rf (x1)), (2, .int x2)] [] w Q := by
  unfold zb_X7_conversion_p92 at h
  refine kz_ic (M := kt_M262) 0 kX7_conversion_c5.2.2.2.2.1 rfl ?_
  exact kz_weak [(0, .ref (w_adr E.2.1 6 0)), (1, va_rf (x1)), (2, .int x2)] ⟨rfl, ⟨rfl, ⟨rfl, trivial⟩⟩⟩ rfl (zt_X7_conversion_p93 hL  h)
def zb_X7_conversion_p88 (E : zE) (L : Nat) (Q : kx_Rs → wS → Prop) (x1 : Option Nat) (x2 : Int32) (w : wS) : Prop := zb_X7_conversion_p93 E L Q x1 x2 1 w
theorem zt_X7_conversion_p88 {E : zE} {L : Nat} {Q : kx_Rs → wS → Prop} {x1 : Option Nat} {x2 : Int32} {w : wS} (hL : 24 ≤ L) (h : zb_X7_conversion_p88 E L Q x1 x2 w) : kzE E L kt_M262 88 [(0, .ref (w_adr E.2.1 6 0)), (1, va_rf (x1)), (2, .int x2)] [] w Q := by
  unfold zb_X7_conversion_p88 at h
  refine kz_ic (M := kt_M262) 1 kX7_conversion_c5.2.2.1 rfl ?_
  refine kz_goto (M := kt_M262) kX7_conversion_c5.2.2.2.1 (t := 93) rfl ?_
  exact kz_weak [(0, .ref (w_adr E.2.1 6 0)), (1, va_rf (x1)), (2, .int x2)] ⟨rfl, ⟨rfl, ⟨rfl, trivial⟩⟩⟩ rfl (zt_X7_conversion_p93 hL  h)
def zb_X7_conversion_p71 (E : zE) (L : Nat) (Q : kx_Rs → wS → Prop) (x1 : Option Nat) (x2 : Int32) (w : wS) : Prop := (∃ p1, x1 = some p1 ∧ w_l w E.2.1 14 p1 ∧ (if ¬ w_i w 14 p1 8 = 3 then zb_X7_conversion_p92 E L Q x1 x2 w else (if x2 < 0 then zb_X7_conversion_p88 E L Q x1 x2 w else (if x2 ≤ 1 then zb_X7_conversion_p92 E L Q x1 x2 w else zb_X7_conversion_p88 E L Q x1 x2 w))))
theorem zt_X7_conversion_p71 {E : zE} {L : Nat} {Q : kx_Rs → wS → Prop} {x1 : Option Nat} {x2 : Int32} {w : wS} (hL : 24 ≤ L) (h : zb_X7_conversion_p71 E L Q x1 x2 w) : kzE E L kt_M262 71 [(0, .ref (w_adr E.2.1 6 0)), (1, va_rf (x1)), (2, .int x2)] [] w Q := by
  unfold zb_X7_conversion_p71 at h
  refine kz_aload_nv (M := kt_M262) (x := x1) kX7_conversion_c4.2.1 rfl ?_
  obtain ⟨p1, hxp1, hlp1, h⟩ := h
  refine kz_nz0 (x := x1) hxp1 ?_
  refine kz_gfi (M := kt_M262) (c := 14) (o := p1) kX7_conversion_c4.2.2.1 wf_X7_130 (.inr (by exact hlp1)) ?_
  refine kz_ic (M := kt_M262) 3 kX7_conversion_c4.2.2.2.1 rfl ?_
  refine kz_icmp_ne (M := kt_M262) kX7_conversion_c4.2.2.2.2.1 (t := 92) rfl h (fun h => ?_) (fun h => ?_)
  · skip
    exact kz_weak [(0, .ref (w_adr E.2.1 6 0)), (1, va_rf (x1)), (2, .int x2)] ⟨rfl, ⟨rfl, ⟨rfl, trivial⟩⟩⟩ rfl (zt_X7_conversion_p92 hL  h)
  · skip
    refine kz_iload_n (M := kt_M262) kX7_conversion_c4.2.2.2.2.2.1 rfl ?_
    refine kz_if_lt (M := kt_M262) kX7_conversion_c4.2.2.2.2.2.2.1 (t := 88) rfl h (fun h => ?_) (fun h => ?_)
    · skip
      exact kz_weak [(0, .ref (w_adr E.2.1 6 0)), (1, va_rf (x1)), (2, .int x2)] ⟨rfl, ⟨rfl, ⟨rfl, trivial⟩⟩⟩ rfl (zt_X7_conversion_p88 hL  h)
    · skip
      refine kz_iload_n (M := kt_M262) kX7_conversion_c4.2.2.2.2.2.2.2.1 rfl ?_
      refine kz_ic (M := kt_M262) 1 kX7_conversion_c5.1 rfl ?_
      refine kz_icmp_le (M := kt_M262) kX7_conversion_c5.2.1 (t := 92) rfl h (fun h => ?_) (fun h => ?_)
      · skip
        exact kz_weak [(0, .ref (w_adr E.2.1 6 0)), (1, va_rf (x1)), (2, .int x2)] ⟨rfl, ⟨rfl, ⟨rfl, trivial⟩⟩⟩ rfl (zt_X7_conversion_p92 hL  h)
      · skip
        exact kz_weak [(0, .ref (w_adr E.2.1 6 0)), (1, va_rf (x1)), (2, .int x2)] ⟨rfl, ⟨rfl, ⟨rfl, trivial⟩⟩⟩ rfl (zt_X7_conversion_p88 hL  h)
def zb_X7_conversion_p0 (E : zE) (L : Nat) (Q : kx_Rs → wS → Prop) (x1 : Option Nat) (w : wS) : Prop := (∃ p1, x1 = some p1 ∧ w_l w E.2.1 14 p1 ∧ zw E (L - 21) kt_M266 [.ref (w_adr E.2.1 6 0), va_rf (w_p w 14 p1 3)] w (wk0 (fun w2 => wle w w2 → (∃ p4, w_p w2 14 p1 3 = some p4 ∧ w_l w2 E.2.1 14 p4 ∧ (if w_i w2 14 p4 20 = 0 then (if w_i w2 14 p4 21 = 0 then zb_X7_conversion_p92 E L Q x1 (w_i w2 14 p4 19) w2 else (if ¬ w_i w2 14 p4 11 = 0 then zb_X7_conversion_p88 E L Q x1 (w_i w2 14 p4 19) w2 else (if ¬ w_i w2 14 p1 8 = 2 then zb_X7_conversion_p71 E L Q x1 (w_i w2 14 p4 19) w2 else (if w_i w2 14 p4 19 < 0 then zb_X7_conversion_p88 E L Q x1 (w_i w2 14 p4 19) w2 else (if 255 < w_i w2 14 p4 19 then zb_X7_conversion_p88 E L Q x1 (w_i w2 14 p4 19) w2 else zb_X7_conversion_p71 E L Q x1 (w_i w2 14 p4 19) w2))))) else zw E (L - 21) kt_M290 [.ref (w_adr E.2.1 6 0), va_rf (x1)] w2 (wk0 (fun w5 => wle w2 w5 → Q (.inl none) w5) (fun e w => Q (.inr e) w))))) (fun e w => Q (.inr e) w)))
theorem zt_X7_conversion_p0 {E : zE} {L : Nat} {Q : kx_Rs → wS → Prop} {x1 : Option Nat} {w : wS} (hL : 24 ≤ L) (h : zb_X7_conversion_p0 E L Q x1 w) : kzE E L kt_M262 0 [(0, .ref (w_adr E.2.1 6 0)), (1, va_rf (x1))] [] w Q := by
  unfold zb_X7_conversion_p0 at h
  refine kz_aload_n (M := kt_M262) kX7_conversion_c0.1 rfl ?_
  refine kz_aload_nv (M := kt_M262) (x := x1) kX7_conversion_c0.2.1 rfl ?_
  obtain ⟨p1, hxp1, hlp1, h⟩ := h
  refine kz_nz0 (x := x1) hxp1 ?_
  refine kz_gfp (M := kt_M262) (c := 14) (o := p1) kX7_conversion_c0.2.2.1 wf_X7_34 (.inr (by exact hlp1)) ?_
  refine kz_cv0 (M := kt_M262) (c := 6) (o := 0) (As := [va_rf (w_p w 14 p1 3)]) (rest := []) kX7_conversion_c0.2.2.2.1 wl_X7_71 wMv_266 rfl (.inl rfl) rfl (Nat.le_trans (Nat.le_of_ble_eq_true rfl) hL) (by simp [lg_sl, w_cat, z_ci, z_cr, z_cl, z_cn, kt_M266]) (Nat.le_of_ble_eq_true rfl) h (fun w2 hle h => ?_) (fun _ _ _ h => kzx_no rfl h)
  have h := h hle
  have hlp1 := w_l_le hlp1 hle
  refine kz_aload_nv (M := kt_M262) (x := x1) kX7_conversion_c0.2.2.2.2.1 rfl ?_
  refine kz_nz0 (x := x1) hxp1 ?_
  refine kz_gfp (M := kt_M262) (c := 14) (o := p1) kX7_conversion_c0.2.2.2.2.2.1 wf_X7_34 (.inr (by exact hlp1)) ?_
  obtain ⟨p4, hxp4, hlp4, h⟩ := h
  refine kz_nz0 (x := w_p w2 14 p1 3) hxp4 ?_
  refine kz_gfi (M := kt_M262) (c := 14) (o := p4) kX7_conversion_c0.2.2.2.2.2.2.1 wf_X7_64 (.inr (by exact hlp4)) ?_
  refine kz_if_eq (M := kt_M262) kX7_conversion_c0.2.2.2.2.2.2.2.1 (t := 24) rfl h (fun h => ?_) (fun h => ?_)
  · skip
    refine kz_aload_nv (M := kt_M262) (x := x1) kX7_conversion_c1.2.2.2.2.1 rfl ?_
    refine kz_nz0 (x := x1) hxp1 ?_
    refine kz_gfp (M := kt_M262) (c := 14) (o := p1) kX7_conversion_c1.2.2.2.2.2.1 wf_X7_34 (.inr (by exact hlp1)) ?_
    refine kz_nz0 (x := w_p w2 14 p1 3) hxp4 ?_
    refine kz_gfi (M := kt_M262) (c := 14) (o := p4) kX7_conversion_c1.2.2.2.2.2.2.1 wf_X7_74 (.inr (by exact hlp4)) ?_
    refine kz_sti_n (M := kt_M262) [(0, .ref (w_adr E.2.1 6 0)), (1, va_rf (x1))] kX7_conversion_c1.2.2.2.2.2.2.2.1 (Nat.le_of_ble_eq_true rfl) ⟨⟨rfl, rfl, .inl rfl⟩, ⟨⟨rfl, rfl, .inr (w_cat (x1))⟩, trivial⟩⟩ rfl ?_
    refine kz_aload_nv (M := kt_M262) (x := x1) kX7_conversion_c2.1 rfl ?_
    refine kz_nz0 (x := x1) hxp1 ?_
    refine kz_gfp (M := kt_M262) (c := 14) (o := p1) kX7_conversion_c2.2.1 wf_X7_34 (.inr (by exact hlp1)) ?_
    refine kz_nz0 (x := w_p w2 14 p1 3) hxp4 ?_
    refine kz_gfi (M := kt_M262) (c := 14) (o := p4) kX7_conversion_c2.2.2.1 wf_X7_68 (.inr (by exact hlp4)) ?_
    refine kz_if_eq (M := kt_M262) kX7_conversion_c2.2.2.2.1 (t := 92) rfl h (fun h => ?_) (fun h => ?_)
    · skip
      exact kz_weak [(0, .ref (w_adr E.2.1 6 0)), (1, va_rf (x1)), (2, .int (w_i w2 14 p4 19))] ⟨rfl, ⟨rfl, ⟨rfl, trivial⟩⟩⟩ rfl (zt_X7_conversion_p92 hL  h)
    · skip
      refine kz_aload_nv (M := kt_M262) (x := x1) kX7_conversion_c2.2.2.2.2.1 rfl ?_
      refine kz_nz0 (x := x1) hxp1 ?_
      refine kz_gfp (M := kt_M262) (c := 14) (o := p1) kX7_conversion_c2.2.2.2.2.2.1 wf_X7_34 (.inr (by exact hlp1)) ?_
      refine kz_nz0 (x := w_p w2 14 p1 3) hxp4 ?_
      refine kz_gfi (M := kt_M262) (c := 14) (o := p4) kX7_conversion_c2.2.2.2.2.2.2.1 wf_X7_141 (.inr (by exact hlp4)) ?_
      refine kz_if_ne (M := kt_M262) kX7_conversion_c2.2.2.2.2.2.2.2.1 (t := 88) rfl h (fun h => ?_) (fun h => ?_)
      · skip
        exact kz_weak [(0, .ref (w_adr E.2.1 6 0)), (1, va_rf (x1)), (2, .int (w_i w2 14 p4 19))] ⟨rfl, ⟨rfl, ⟨rfl, trivial⟩⟩⟩ rfl (zt_X7_conversion_p88 hL  h)
      · skip
        refine kz_aload_nv (M := kt_M262) (x := x1) kX7_conversion_c3.1 rfl ?_
        refine kz_nz0 (x := x1) hxp1 ?_
        refine kz_gfi (M := kt_M262) (c := 14) (o := p1) kX7_conversion_c3.2.1 wf_X7_130 (.inr (by exact hlp1)) ?_
        refine kz_ic (M := kt_M262) 2 kX7_conversion_c3.2.2.1 rfl ?_
        refine kz_icmp_ne (M := kt_M262) kX7_conversion_c3.2.2.2.1 (t := 71) rfl h (fun h => ?_) (fun h => ?_)
        · skip
          exact kz_weak [(0, .ref (w_adr E.2.1 6 0)), (1, va_rf (x1)), (2, .int (w_i w2 14 p4 19))] ⟨rfl, ⟨rfl, ⟨rfl, trivial⟩⟩⟩ rfl (zt_X7_conversion_p71 hL  h)
        · skip
          refine kz_iload_n (M := kt_M262) kX7_conversion_c3.2.2.2.2.1 rfl ?_
          refine kz_if_lt (M := kt_M262) kX7_conversion_c3.2.2.2.2.2.1 (t := 88) rfl h (fun h => ?_) (fun h => ?_)
          · skip
            exact kz_weak [(0, .ref (w_adr E.2.1 6 0)), (1, va_rf (x1)), (2, .int (w_i w2 14 p4 19))] ⟨rfl, ⟨rfl, ⟨rfl, trivial⟩⟩⟩ rfl (zt_X7_conversion_p88 hL  h)
          · skip
            refine kz_iload_n (M := kt_M262) kX7_conversion_c3.2.2.2.2.2.2.1 rfl ?_
            refine kz_si (M := kt_M262) 255 kX7_conversion_c3.2.2.2.2.2.2.2.1 rfl ?_
            refine kz_icmp_gt (M := kt_M262) kX7_conversion_c4.1 (t := 88) rfl h (fun h => ?_) (fun h => ?_)
            · skip
              exact kz_weak [(0, .ref (w_adr E.2.1 6 0)), (1, va_rf (x1)), (2, .int (w_i w2 14 p4 19))] ⟨rfl, ⟨rfl, ⟨rfl, trivial⟩⟩⟩ rfl (zt_X7_conversion_p88 hL  h)
            · skip
              exact kz_weak [(0, .ref (w_adr E.2.1 6 0)), (1, va_rf (x1)), (2, .int (w_i w2 14 p4 19))] ⟨rfl, ⟨rfl, ⟨rfl, trivial⟩⟩⟩ rfl (zt_X7_conversion_p71 hL  h)
  · skip
    refine kz_aload_n (M := kt_M262) kX7_conversion_c1.1 rfl ?_
    refine kz_aload_nv (M := kt_M262) (x := x1) kX7_conversion_c1.2.1 rfl ?_
    refine kz_cv0 (M := kt_M262) (c := 6) (o := 0) (As := [va_rf (x1)]) (rest := []) kX7_conversion_c1.2.2.1 wl_X7_283 wMv_290 rfl (.inl rfl) rfl (Nat.le_trans (Nat.le_of_ble_eq_true rfl) hL) (by simp [lg_sl, w_cat, z_ci, z_cr, z_cl, z_cn, kt_M290]) (Nat.le_of_ble_eq_true rfl) h (fun w5 hle h => ?_) (fun _ _ _ h => kzx_no rfl h)
    have h := h hle
    have hlp1 := w_l_le hlp1 hle
    have hlp4 := w_l_le hlp4 hle
    exact kz_ret (M := kt_M262) kX7_conversion_c1.2.2.2.1 rfl h
def zb_X7_wrong_p0 (E : zE) (L : Nat) (Q : kx_Rs → wS → Prop) (x1 : Option Nat) (w : wS) : Prop := (∃ p1, x1 = some p1 ∧ w_l w E.2.1 14 p1 ∧ zw E (L - 22) kt_M56 [.ref (w_adr E.2.1 2 0), .int 7, .int (w_i w 14 p1 2)] w (wk0 (fun w2 => wle w w2 → Q (.inl none) (ws_i (ws_i (ws_i w2 14 p1 17 0) 14 p1 20 0) 14 p1 21 0)) (fun e w => Q (.inr e) w)))
theorem zt_X7_wrong_p0 {E : zE} {L : Nat} {Q : kx_Rs → wS → Prop} {x1 : Option Nat} {w : wS} (hL : 22 ≤ L) (h : zb_X7_wrong_p0 E L Q x1 w) : kzE E L kt_M290 0 [(0, .ref (w_adr E.2.1 6 0)), (1, va_rf (x1))] [] w Q := by
  unfold zb_X7_wrong_p0 at h
  refine kz_aload_n (M := kt_M290) kX7_wrong_c0.1 rfl ?_
  refine kz_gfc (M := kt_M290) (x := 8) (c := 6) (o := 0) kX7_wrong_c0.2.1 wf_X7_15 (.inl rfl) ?_
  refine kz_bi (M := kt_M290) 7 kX7_wrong_c0.2.2.1 rfl ?_
  refine kz_aload_nv (M := kt_M290) (x := x1) kX7_wrong_c0.2.2.2.1 rfl ?_
  obtain ⟨p1, hxp1, hlp1, h⟩ := h
  refine kz_nz0 (x := x1) hxp1 ?_
  refine kz_gfi (M := kt_M290) (c := 14) (o := p1) kX7_wrong_c0.2.2.2.2.1 wf_X7_52 (.inr (by exact hlp1)) ?_
  refine kz_cv0 (M := kt_M290) (c := 2) (o := 0) (As := [.int 7, .int (w_i w 14 p1 2)]) (rest := []) kX7_wrong_c0.2.2.2.2.2.1 wl_X7_55 wMv_56 rfl (.inl rfl) rfl (Nat.le_trans (Nat.le_of_ble_eq_true rfl) hL) (Nat.le_of_ble_eq_true rfl) (Nat.le_of_ble_eq_true rfl) h (fun w2 hle h => ?_) (fun _ _ _ h => kzx_no rfl h)
  have h := h hle
  have hlp1 := w_l_le hlp1 hle
  refine kz_aload_nv (M := kt_M290) (x := x1) kX7_wrong_c0.2.2.2.2.2.2.1 rfl ?_
  refine kz_ic (M := kt_M290) 0 kX7_wrong_c0.2.2.2.2.2.2.2.1 rfl ?_
  refine kz_nz1 (x := x1) hxp1 ?_
  refine kz_pfi (M := kt_M290) (c := 14) (o := p1) kX7_wrong_c1.1 wq_X7_61 (.inr (by exact hlp1)) ?_
  refine kz_aload_nv (M := kt_M290) (x := x1) kX7_wrong_c1.2.1 rfl ?_
  refine kz_ic (M := kt_M290) 0 kX7_wrong_c1.2.2.1 rfl ?_
  refine kz_nz1 (x := x1) hxp1 ?_
  refine kz_pfz (M := kt_M290) (c := 14) (o := p1) kX7_wrong_c1.2.2.2.1 wq_X7_64 (.inr (by exact hlp1)) (by decide) ?_
  refine kz_aload_nv (M := kt_M290) (x := x1) kX7_wrong_c1.2.2.2.2.1 rfl ?_
  refine kz_ic (M := kt_M290) 0 kX7_wrong_c1.2.2.2.2.2.1 rfl ?_
  refine kz_nz1 (x := x1) hxp1 ?_
  refine kz_pfz (M := kt_M290) (c := 14) (o := p1) kX7_wrong_c1.2.2.2.2.2.2.1 wq_X7_68 (.inr (by exact hlp1)) (by decide) ?_
  exact kz_ret (M := kt_M290) kX7_wrong_c1.2.2.2.2.2.2.2.1 rfl h
def zb_X7_fault_p0 (E : zE) (L : Nat) (Q : kx_Rs → wS → Prop) (x1 : Option Nat) (w : wS) : Prop := (∃ p1, x1 = some p1 ∧ w_l w E.2.1 14 p1 ∧ zw E (L - 22) kt_M56 [.ref (w_adr E.2.1 2 0), .int 9, .int (w_i w 14 p1 2)] w (wk0 (fun w2 => wle w w2 → Q (.inl none) (ws_i (ws_i w2 14 p1 17 0) 14 p1 11 1)) (fun e w => Q (.inr e) w)))
theorem zt_X7_fault_p0 {E : zE} {L : Nat} {Q : kx_Rs → wS → Prop} {x1 : Option Nat} {w : wS} (hL : 22 ≤ L) (h : zb_X7_fault_p0 E L Q x1 w) : kzE E L kt_M267 0 [(0, .ref (w_adr E.2.1 6 0)), (1, va_rf (x1))] [] w Q := by
  unfold zb_X7_fault_p0 at h
  refine kz_aload_n (M := kt_M267) kX7_fault_c0.1 rfl ?_
  refine kz_gfc (M := kt_M267) (x := 8) (c := 6) (o := 0) kX7_fault_c0.2.1 wf_X7_15 (.inl rfl) ?_
  refine kz_bi (M := kt_M267) 9 kX7_fault_c0.2.2.1 rfl ?_
  refine kz_aload_nv (M := kt_M267) (x := x1) kX7_fault_c0.2.2.2.1 rfl ?_
  obtain ⟨p1, hxp1, hlp1, h⟩ := h
  refine kz_nz0 (x := x1) hxp1 ?_
  refine kz_gfi (M := kt_M267) (c := 14) (o := p1) kX7_fault_c0.2.2.2.2.1 wf_X7_52 (.inr (by exact hlp1)) ?_
  refine kz_cv0 (M := kt_M267) (c := 2) (o := 0) (As := [.int 9, .int (w_i w 14 p1 2)]) (rest := []) kX7_fault_c0.2.2.2.2.2.1 wl_X7_55 wMv_56 rfl (.inl rfl) rfl (Nat.le_trans (Nat.le_of_ble_eq_true rfl) hL) (Nat.le_of_ble_eq_true rfl) (Nat.le_of_ble_eq_true rfl) h (fun w2 hle h => ?_) (fun _ _ _ h => kzx_no rfl h)
  have h := h hle
  have hlp1 := w_l_le hlp1 hle
  refine kz_aload_nv (M := kt_M267) (x := x1) kX7_fault_c0.2.2.2.2.2.2.1 rfl ?_
  refine kz_ic (M := kt_M267) 0 kX7_fault_c0.2.2.2.2.2.2.2.1 rfl ?_
  refine kz_nz1 (x := x1) hxp1 ?_
  refine kz_pfi (M := kt_M267) (c := 14) (o := p1) kX7_fault_c1.1 wq_X7_61 (.inr (by exact hlp1)) ?_
  refine kz_aload_nv (M := kt_M267) (x := x1) kX7_fault_c1.2.1 rfl ?_
  refine kz_ic (M := kt_M267) 1 kX7_fault_c1.2.2.1 rfl ?_
  refine kz_nz1 (x := x1) hxp1 ?_
  refine kz_pfz (M := kt_M267) (c := 14) (o := p1) kX7_fault_c1.2.2.2.1 wq_X7_141 (.inr (by exact hlp1)) (by decide) ?_
  exact kz_ret (M := kt_M267) kX7_fault_c1.2.2.2.2.1 rfl h
def zL_X7_table_p13 (E : zE) (L : Nat) (Q : kx_Rs → wS → Prop) (x1 : Option Nat) (x2 : Int32) (x3 : Int32) (x4 : Int32) (x5 : Option Nat) (w : wS) : Prop := kzE E L kt_M285 13 [(0, .ref (w_adr E.2.1 6 0)), (1, va_rf (x1)), (2, .int x2), (3, .int x3), (4, .int x4), (5, va_rf (x5))] [] w Q
def zb_X7_table_p133 (E : zE) (L : Nat) (Q : kx_Rs → wS → Prop) (w : wS) : Prop := Q (.inl none) w
theorem zt_X7_table_p133 {E : zE} {L : Nat} {Q : kx_Rs → wS → Prop} {w : wS} (hL : 21 ≤ L) (h : zb_X7_table_p133 E L Q  w) : kzE E L kt_M285 133 [(0, .ref (w_adr E.2.1 6 0))] [] w Q := by
  unfold zb_X7_table_p133 at h
  exact kz_ret (M := kt_M285) kX7_table_c8.2.1 rfl h
def zb_X7_table_p115 (E : zE) (L : Nat) (Q : kx_Rs → wS → Prop) (x1 : Option Nat) (x2 : Int32) (x4 : Int32) (y0 : Int32) (y1 : Option Nat) (w : wS) : Prop := (∃ p1, y1 = some p1 ∧ w_l w E.2.1 14 p1 ∧ ((y0 = 0 ∨ y0 = 1) ∧ (∃ p2, x1 = some p2 ∧ w_l (ws_i w 14 p1 20 y0) E.2.1 14 p2 ∧ (if x4 = 0 then zb_X7_table_p133 E L Q (ws_i (ws_i w 14 p1 20 y0) 14 p2 18 x2) else zw E (L - 21) kt_M290 [.ref (w_adr E.2.1 6 0), va_rf (x1)] (ws_i (ws_i w 14 p1 20 y0) 14 p2 18 x2) (wk0 (fun w3 => wle (ws_i (ws_i w 14 p1 20 y0) 14 p2 18 x2) w3 → zb_X7_table_p133 E L Q w3) (fun e w => Q (.inr e) w))))))
theorem zt_X7_table_p115 {E : zE} {L : Nat} {Q : kx_Rs → wS → Prop} {x1 : Option Nat} {x2 : Int32} {x4 : Int32} {y0 : Int32} {y1 : Option Nat} {w : wS} (hL : 21 ≤ L) (h : zb_X7_table_p115 E L Q x1 x2 x4 y0 y1 w) : kzE E L kt_M285 115 [(0, .ref (w_adr E.2.1 6 0)), (1, va_rf (x1)), (2, .int x2), (4, .int x4)] [.int y0, va_rf (y1)] w Q := by
  unfold zb_X7_table_p115 at h
  obtain ⟨p1, hxp1, hlp1, h⟩ := h
  refine kz_nz1 (x := y1) hxp1 ?_
  obtain ⟨h0, h⟩ := h
  refine kz_pfz (M := kt_M285) (c := 14) (o := p1) kX7_table_c7.1 wq_X7_64 (.inr (by exact hlp1)) h0 ?_
  refine kz_aload_nv (M := kt_M285) (x := x1) kX7_table_c7.2.1 rfl ?_
  refine kz_iload_n (M := kt_M285) kX7_table_c7.2.2.1 rfl ?_
  obtain ⟨p2, hxp2, hlp2, h⟩ := h
  refine kz_nz1 (x := x1) hxp2 ?_
  refine kz_pfi (M := kt_M285) (c := 14) (o := p2) kX7_table_c7.2.2.2.1 wq_X7_133 (.inr (by exact hlp2)) ?_
  refine kz_iload (M := kt_M285) kX7_table_c7.2.2.2.2.1 rfl ?_
  refine kz_if_eq (M := kt_M285) kX7_table_c7.2.2.2.2.2.1 (t := 133) rfl h (fun h => ?_) (fun h => ?_)
  · skip
    exact kz_weak [(0, .ref (w_adr E.2.1 6 0))] ⟨rfl, trivial⟩ rfl (zt_X7_table_p133 hL  h)
  · skip
    refine kz_aload_n (M := kt_M285) kX7_table_c7.2.2.2.2.2.2.1 rfl ?_
    refine kz_aload_nv (M := kt_M285) (x := x1) kX7_table_c7.2.2.2.2.2.2.2.1 rfl ?_
    refine kz_cv0 (M := kt_M285) (c := 6) (o := 0) (As := [va_rf (x1)]) (rest := []) kX7_table_c8.1 wl_X7_283 wMv_290 rfl (.inl rfl) rfl (Nat.le_trans (Nat.le_of_ble_eq_true rfl) hL) (by simp [lg_sl, w_cat, z_ci, z_cr, z_cl, z_cn, kt_M290]) (Nat.le_of_ble_eq_true rfl) h (fun w3 hle h => ?_) (fun _ _ _ h => kzx_no rfl h)
    have h := h hle
    have hlp1 := w_l_le hlp1 hle
    have hlp2 := w_l_le hlp2 hle
    exact kz_weak [(0, .ref (w_adr E.2.1 6 0))] ⟨rfl, trivial⟩ rfl (zt_X7_table_p133 hL  h)
def zb_X7_table_p86 (E : zE) (L : Nat) (Q : kx_Rs → wS → Prop) (x1 : Option Nat) (x2 : Int32) (x4 : Int32) (x5 : Option Nat) (y0 : Int32) (w : wS) : Prop := (∃ p1, x5 = some p1 ∧ w_l w E.2.1 14 p1 ∧ zL_X7_table_p13 E L Q x1 (x2 + 1) y0 x4 (w_p w 14 p1 7) w)
theorem zt_X7_table_p86 {E : zE} {L : Nat} {Q : kx_Rs → wS → Prop} {x1 : Option Nat} {x2 : Int32} {x4 : Int32} {x5 : Option Nat} {y0 : Int32} {w : wS} (hL : 21 ≤ L) (h : zb_X7_table_p86 E L Q x1 x2 x4 x5 y0 w) : kzE E L kt_M285 86 [(0, .ref (w_adr E.2.1 6 0)), (1, va_rf (x1)), (2, .int x2), (4, .int x4), (5, va_rf (x5))] [.int y0] w Q := by
  unfold zb_X7_table_p86 at h
  refine kz_sti_n (M := kt_M285) [(0, .ref (w_adr E.2.1 6 0)), (1, va_rf (x1)), (2, .int x2), (4, .int x4), (5, va_rf (x5))] kX7_table_c5.2.1 (Nat.le_of_ble_eq_true rfl) ⟨⟨rfl, rfl, .inl rfl⟩, ⟨⟨rfl, rfl, .inl rfl⟩, ⟨⟨rfl, rfl, .inr rfl⟩, ⟨⟨rfl, rfl, .inl rfl⟩, ⟨⟨rfl, rfl, .inl rfl⟩, trivial⟩⟩⟩⟩⟩ rfl ?_
  refine kz_inc (M := kt_M285) [(0, .ref (w_adr E.2.1 6 0)), (1, va_rf (x1)), (3, .int y0), (4, .int x4), (5, va_rf (x5))] kX7_table_c5.2.2.1 rfl (Nat.le_of_ble_eq_true rfl) ⟨⟨rfl, rfl, .inl rfl⟩, ⟨⟨rfl, rfl, .inr (w_cat (x1))⟩, ⟨⟨rfl, rfl, .inl rfl⟩, ⟨⟨rfl, rfl, .inl rfl⟩, ⟨⟨rfl, rfl, .inl rfl⟩, trivial⟩⟩⟩⟩⟩ rfl ?_
  refine kz_aloadv (M := kt_M285) (x := x5) kX7_table_c5.2.2.2.1 rfl ?_
  obtain ⟨p1, hxp1, hlp1, h⟩ := h
  refine kz_nz0 (x := x5) hxp1 ?_
  refine kz_gfp (M := kt_M285) (c := 14) (o := p1) kX7_table_c5.2.2.2.2.1 wf_X7_43 (.inr (by exact hlp1)) ?_
  refine kz_stv (M := kt_M285) (x := w_p w 14 p1 7) [(0, .ref (w_adr E.2.1 6 0)), (1, va_rf (x1)), (2, .int (x2 + 1)), (3, .int y0), (4, .int x4)] kX7_table_c5.2.2.2.2.2.1 (Nat.le_of_ble_eq_true rfl) ⟨⟨rfl, rfl, .inl rfl⟩, ⟨⟨rfl, rfl, .inl rfl⟩, ⟨⟨rfl, rfl, .inl rfl⟩, ⟨⟨rfl, rfl, .inl rfl⟩, ⟨⟨rfl, rfl, .inr rfl⟩, trivial⟩⟩⟩⟩⟩ rfl ?_
  refine kz_goto (M := kt_M285) kX7_table_c5.2.2.2.2.2.2.1 (t := 13) rfl ?_
  exact kz_weak [(0, .ref (w_adr E.2.1 6 0)), (1, va_rf (x1)), (2, .int (x2 + 1)), (3, .int y0), (4, .int x4), (5, va_rf (w_p w 14 p1 7))] ⟨rfl, ⟨rfl, ⟨rfl, ⟨rfl, ⟨rfl, ⟨rfl, trivial⟩⟩⟩⟩⟩⟩ rfl h
def zb_X7_table_p85 (E : zE) (L : Nat) (Q : kx_Rs → wS → Prop) (x1 : Option Nat) (x2 : Int32) (x3 : Int32) (x4 : Int32) (x5 : Option Nat) (w : wS) : Prop := zb_X7_table_p86 E L Q x1 x2 x4 x5 x3 w
theorem zt_X7_table_p85 {E : zE} {L : Nat} {Q : kx_Rs → wS → Prop} {x1 : Option Nat} {x2 : Int32} {x3 : Int32} {x4 : Int32} {x5 : Option Nat} {w : wS} (hL : 21 ≤ L) (h : zb_X7_table_p85 E L Q x1 x2 x3 x4 x5 w) : kzE E L kt_M285 85 [(0, .ref (w_adr E.2.1 6 0)), (1, va_rf (x1)), (2, .int x2), (3, .int x3), (4, .int x4), (5, va_rf (x5))] [] w Q := by
  unfold zb_X7_table_p85 at h
  refine kz_iload_n (M := kt_M285) kX7_table_c5.1 rfl ?_
  exact kz_weak [(0, .ref (w_adr E.2.1 6 0)), (1, va_rf (x1)), (2, .int x2), (4, .int x4), (5, va_rf (x5))] ⟨rfl, ⟨rfl, ⟨rfl, ⟨rfl, ⟨rfl, trivial⟩⟩⟩⟩⟩ rfl (zt_X7_table_p86 hL  h)
def zb_X7_table_p63 (E : zE) (L : Nat) (Q : kx_Rs → wS → Prop) (x1 : Option Nat) (x2 : Int32) (x3 : Int32) (x5 : Option Nat) (y0 : Int32) (w : wS) : Prop := (if ¬ x3 = 0 then zb_X7_table_p85 E L Q x1 x2 x3 y0 x5 w else (∃ p1, x5 = some p1 ∧ w_l w E.2.1 14 p1 ∧ (if ¬ w_i w 14 p1 20 = 0 then zb_X7_table_p85 E L Q x1 x2 x3 y0 x5 w else zb_X7_table_p86 E L Q x1 x2 y0 x5 (w_i w 14 p1 17) w)))
theorem zt_X7_table_p63 {E : zE} {L : Nat} {Q : kx_Rs → wS → Prop} {x1 : Option Nat} {x2 : Int32} {x3 : Int32} {x5 : Option Nat} {y0 : Int32} {w : wS} (hL : 21 ≤ L) (h : zb_X7_table_p63 E L Q x1 x2 x3 x5 y0 w) : kzE E L kt_M285 63 [(0, .ref (w_adr E.2.1 6 0)), (1, va_rf (x1)), (2, .int x2), (3, .int x3), (5, va_rf (x5))] [.int y0] w Q := by
  unfold zb_X7_table_p63 at h
  refine kz_sti (M := kt_M285) [(0, .ref (w_adr E.2.1 6 0)), (1, va_rf (x1)), (2, .int x2), (3, .int x3), (5, va_rf (x5))] kX7_table_c3.2.2.2.2.2.2.2.1 (Nat.le_of_ble_eq_true rfl) ⟨⟨rfl, rfl, .inl rfl⟩, ⟨⟨rfl, rfl, .inl rfl⟩, ⟨⟨rfl, rfl, .inl rfl⟩, ⟨⟨rfl, rfl, .inr rfl⟩, ⟨⟨rfl, rfl, .inl rfl⟩, trivial⟩⟩⟩⟩⟩ rfl ?_
  refine kz_iload_n (M := kt_M285) kX7_table_c4.1 rfl ?_
  refine kz_if_ne (M := kt_M285) kX7_table_c4.2.1 (t := 85) rfl h (fun h => ?_) (fun h => ?_)
  · skip
    exact kz_weak [(0, .ref (w_adr E.2.1 6 0)), (1, va_rf (x1)), (2, .int x2), (3, .int x3), (4, .int y0), (5, va_rf (x5))] ⟨rfl, ⟨rfl, ⟨rfl, ⟨rfl, ⟨rfl, ⟨rfl, trivial⟩⟩⟩⟩⟩⟩ rfl (zt_X7_table_p85 hL  h)
  · skip
    refine kz_aloadv (M := kt_M285) (x := x5) kX7_table_c4.2.2.1 rfl ?_
    obtain ⟨p1, hxp1, hlp1, h⟩ := h
    refine kz_nz0 (x := x5) hxp1 ?_
    refine kz_gfi (M := kt_M285) (c := 14) (o := p1) kX7_table_c4.2.2.2.1 wf_X7_64 (.inr (by exact hlp1)) ?_
    refine kz_if_ne (M := kt_M285) kX7_table_c4.2.2.2.2.1 (t := 85) rfl h (fun h => ?_) (fun h => ?_)
    · skip
      exact kz_weak [(0, .ref (w_adr E.2.1 6 0)), (1, va_rf (x1)), (2, .int x2), (3, .int x3), (4, .int y0), (5, va_rf (x5))] ⟨rfl, ⟨rfl, ⟨rfl, ⟨rfl, ⟨rfl, ⟨rfl, trivial⟩⟩⟩⟩⟩⟩ rfl (zt_X7_table_p85 hL  h)
    · skip
      refine kz_aloadv (M := kt_M285) (x := x5) kX7_table_c4.2.2.2.2.2.1 rfl ?_
      refine kz_nz0 (x := x5) hxp1 ?_
      refine kz_gfi (M := kt_M285) (c := 14) (o := p1) kX7_table_c4.2.2.2.2.2.2.1 wf_X7_61 (.inr (by exact hlp1)) ?_
      refine kz_goto (M := kt_M285) kX7_table_c4.2.2.2.2.2.2.2.1 (t := 86) rfl ?_
      exact kz_weak [(0, .ref (w_adr E.2.1 6 0)), (1, va_rf (x1)), (2, .int x2), (4, .int y0), (5, va_rf (x5))] ⟨rfl, ⟨rfl, ⟨rfl, ⟨rfl, ⟨rfl, trivial⟩⟩⟩⟩⟩ rfl (zt_X7_table_p86 hL  h)
def zb_X7_table_p62 (E : zE) (L : Nat) (Q : kx_Rs → wS → Prop) (x1 : Option Nat) (x2 : Int32) (x3 : Int32) (x5 : Option Nat) (w : wS) : Prop := zb_X7_table_p63 E L Q x1 x2 x3 x5 0 w
theorem zt_X7_table_p62 {E : zE} {L : Nat} {Q : kx_Rs → wS → Prop} {x1 : Option Nat} {x2 : Int32} {x3 : Int32} {x5 : Option Nat} {w : wS} (hL : 21 ≤ L) (h : zb_X7_table_p62 E L Q x1 x2 x3 x5 w) : kzE E L kt_M285 62 [(0, .ref (w_adr E.2.1 6 0)), (1, va_rf (x1)), (2, .int x2), (3, .int x3), (5, va_rf (x5))] [] w Q := by
  unfold zb_X7_table_p62 at h
  refine kz_ic (M := kt_M285) 0 kX7_table_c3.2.2.2.2.2.2.1 rfl ?_
  exact kz_weak [(0, .ref (w_adr E.2.1 6 0)), (1, va_rf (x1)), (2, .int x2), (3, .int x3), (5, va_rf (x5))] ⟨rfl, ⟨rfl, ⟨rfl, ⟨rfl, ⟨rfl, trivial⟩⟩⟩⟩⟩ rfl (zt_X7_table_p63 hL  h)
def zb_X7_table_p58 (E : zE) (L : Nat) (Q : kx_Rs → wS → Prop) (x1 : Option Nat) (x2 : Int32) (x3 : Int32) (x5 : Option Nat) (w : wS) : Prop := zb_X7_table_p63 E L Q x1 x2 x3 x5 1 w
theorem zt_X7_table_p58 {E : zE} {L : Nat} {Q : kx_Rs → wS → Prop} {x1 : Option Nat} {x2 : Int32} {x3 : Int32} {x5 : Option Nat} {w : wS} (hL : 21 ≤ L) (h : zb_X7_table_p58 E L Q x1 x2 x3 x5 w) : kzE E L kt_M285 58 [(0, .ref (w_adr E.2.1 6 0)), (1, va_rf (x1)), (2, .int x2), (3, .int x3), (5, va_rf (x5))] [] w Q := by
  unfold zb_X7_table_p58 at h
  refine kz_ic (M := kt_M285) 1 kX7_table_c3.2.2.2.2.1 rfl ?_
  refine kz_goto (M := kt_M285) kX7_table_c3.2.2.2.2.2.1 (t := 63) rfl ?_
  exact kz_weak [(0, .ref (w_adr E.2.1 6 0)), (1, va_rf (x1)), (2, .int x2), (3, .int x3), (5, va_rf (x5))] ⟨rfl, ⟨rfl, ⟨rfl, ⟨rfl, ⟨rfl, trivial⟩⟩⟩⟩⟩ rfl (zt_X7_table_p63 hL  h)
def zb_X7_table_p13 (E : zE) (L : Nat) (Q : kx_Rs → wS → Prop) (x1 : Option Nat) (x2 : Int32) (x3 : Int32) (x4 : Int32) (x5 : Option Nat) (w : wS) : Prop := (if x5 = none then (∃ p1, x1 = some p1 ∧ w_l w E.2.1 14 p1 ∧ (if x3 = 0 then zb_X7_table_p115 E L Q x1 x2 x4 0 x1 (ws_i w 14 p1 17 x3) else zb_X7_table_p115 E L Q x1 x2 x4 1 x1 (ws_i w 14 p1 17 x3))) else zw E (L - 21) kt_M266 [.ref (w_adr E.2.1 6 0), va_rf (x5)] w (wk0 (fun w2 => wle w w2 → (if ¬ x4 = 0 then zb_X7_table_p58 E L Q x1 x2 x3 x5 w2 else (∃ p4, x5 = some p4 ∧ w_l w2 E.2.1 14 p4 ∧ (if ¬ w_i w2 14 p4 20 = 0 then zb_X7_table_p58 E L Q x1 x2 x3 x5 w2 else (if w_i w2 14 p4 17 = 0 then zb_X7_table_p62 E L Q x1 x2 x3 x5 w2 else (if x3 = 0 then zb_X7_table_p62 E L Q x1 x2 x3 x5 w2 else (if w_i w2 14 p4 17 = x3 then zb_X7_table_p62 E L Q x1 x2 x3 x5 w2 else zb_X7_table_p58 E L Q x1 x2 x3 x5 w2))))))) (fun e w => Q (.inr e) w)))
theorem zt_X7_table_p13 {E : zE} {L : Nat} {Q : kx_Rs → wS → Prop} {x1 : Option Nat} {x2 : Int32} {x3 : Int32} {x4 : Int32} {x5 : Option Nat} {w : wS} (hL : 21 ≤ L) (h : zb_X7_table_p13 E L Q x1 x2 x3 x4 x5 w) : kzE E L kt_M285 13 [(0, .ref (w_adr E.2.1 6 0)), (1, va_rf (x1)), (2, .int x2), (3, .int x3), (4, .int x4), (5, va_rf (x5))] [] w Q := by
  unfold zb_X7_table_p13 at h
  refine kz_aloadv (M := kt_M285) (x := x5) kX7_table_c1.2.1 rfl ?_
  refine kz_ifnull (M := kt_M285) (x := x5) kX7_table_c1.2.2.1 (t := 100) rfl h (fun h => ?_) (fun h => ?_)
  · skip
    refine kz_aload_nv (M := kt_M285) (x := x1) kX7_table_c5.2.2.2.2.2.2.2.1 rfl ?_
    refine kz_iload_n (M := kt_M285) kX7_table_c6.1 rfl ?_
    obtain ⟨p1, hxp1, hlp1, h⟩ := h
    refine kz_nz1 (x := x1) hxp1 ?_
    refine kz_pfi (M := kt_M285) (c := 14) (o := p1) kX7_table_c6.2.1 wq_X7_61 (.inr (by exact hlp1)) ?_
    refine kz_aload_nv (M := kt_M285) (x := x1) kX7_table_c6.2.2.1 rfl ?_
    refine kz_iload_n (M := kt_M285) kX7_table_c6.2.2.2.1 rfl ?_
    refine kz_if_eq (M := kt_M285) kX7_table_c6.2.2.2.2.1 (t := 114) rfl h (fun h => ?_) (fun h => ?_)
    · skip
      refine kz_ic (M := kt_M285) 0 kX7_table_c6.2.2.2.2.2.2.2.1 rfl ?_
      exact kz_weak [(0, .ref (w_adr E.2.1 6 0)), (1, va_rf (x1)), (2, .int x2), (4, .int x4)] ⟨rfl, ⟨rfl, ⟨rfl, ⟨rfl, trivial⟩⟩⟩⟩ rfl (zt_X7_table_p115 hL  h)
    · skip
      refine kz_ic (M := kt_M285) 1 kX7_table_c6.2.2.2.2.2.1 rfl ?_
      refine kz_goto (M := kt_M285) kX7_table_c6.2.2.2.2.2.2.1 (t := 115) rfl ?_
      exact kz_weak [(0, .ref (w_adr E.2.1 6 0)), (1, va_rf (x1)), (2, .int x2), (4, .int x4)] ⟨rfl, ⟨rfl, ⟨rfl, ⟨rfl, trivial⟩⟩⟩⟩ rfl (zt_X7_table_p115 hL  h)
  · skip
    refine kz_aload_n (M := kt_M285) kX7_table_c1.2.2.2.1 rfl ?_
    refine kz_aloadv (M := kt_M285) (x := x5) kX7_table_c1.2.2.2.2.1 rfl ?_
    refine kz_cv0 (M := kt_M285) (c := 6) (o := 0) (As := [va_rf (x5)]) (rest := []) kX7_table_c1.2.2.2.2.2.1 wl_X7_71 wMv_266 rfl (.inl rfl) rfl (Nat.le_trans (Nat.le_of_ble_eq_true rfl) hL) (by simp [lg_sl, w_cat, z_ci, z_cr, z_cl, z_cn, kt_M266]) (Nat.le_of_ble_eq_true rfl) h (fun w2 hle h => ?_) (fun _ _ _ h => kzx_no rfl h)
    have h := h hle
    refine kz_iload (M := kt_M285) kX7_table_c1.2.2.2.2.2.2.1 rfl ?_
    refine kz_if_ne (M := kt_M285) kX7_table_c1.2.2.2.2.2.2.2.1 (t := 58) rfl h (fun h => ?_) (fun h => ?_)
    · skip
      exact kz_weak [(0, .ref (w_adr E.2.1 6 0)), (1, va_rf (x1)), (2, .int x2), (3, .int x3), (5, va_rf (x5))] ⟨rfl, ⟨rfl, ⟨rfl, ⟨rfl, ⟨rfl, trivial⟩⟩⟩⟩⟩ rfl (zt_X7_table_p58 hL  h)
    · skip
      refine kz_aloadv (M := kt_M285) (x := x5) kX7_table_c2.1 rfl ?_
      obtain ⟨p4, hxp4, hlp4, h⟩ := h
      refine kz_nz0 (x := x5) hxp4 ?_
      refine kz_gfi (M := kt_M285) (c := 14) (o := p4) kX7_table_c2.2.1 wf_X7_64 (.inr (by exact hlp4)) ?_
      refine kz_if_ne (M := kt_M285) kX7_table_c2.2.2.1 (t := 58) rfl h (fun h => ?_) (fun h => ?_)
      · skip
        exact kz_weak [(0, .ref (w_adr E.2.1 6 0)), (1, va_rf (x1)), (2, .int x2), (3, .int x3), (5, va_rf (x5))] ⟨rfl, ⟨rfl, ⟨rfl, ⟨rfl, ⟨rfl, trivial⟩⟩⟩⟩⟩ rfl (zt_X7_table_p58 hL  h)
      · skip
        refine kz_aloadv (M := kt_M285) (x := x5) kX7_table_c2.2.2.2.1 rfl ?_
        refine kz_nz0 (x := x5) hxp4 ?_
        refine kz_gfi (M := kt_M285) (c := 14) (o := p4) kX7_table_c2.2.2.2.2.1 wf_X7_61 (.inr (by exact hlp4)) ?_
        refine kz_if_eq (M := kt_M285) kX7_table_c2.2.2.2.2.2.1 (t := 62) rfl h (fun h => ?_) (fun h => ?_)
        · skip
          exact kz_weak [(0, .ref (w_adr E.2.1 6 0)), (1, va_rf (x1)), (2, .int x2), (3, .int x3), (5, va_rf (x5))] ⟨rfl, ⟨rfl, ⟨rfl, ⟨rfl, ⟨rfl, trivial⟩⟩⟩⟩⟩ rfl (zt_X7_table_p62 hL  h)
        · skip
          refine kz_iload_n (M := kt_M285) kX7_table_c2.2.2.2.2.2.2.1 rfl ?_
          refine kz_if_eq (M := kt_M285) kX7_table_c2.2.2.2.2.2.2.2.1 (t := 62) rfl h (fun h => ?_) (fun h => ?_)
          · skip
            exact kz_weak [(0, .ref (w_adr E.2.1 6 0)), (1, va_rf (x1)), (2, .int x2), (3, .int x3), (5, va_rf (x5))] ⟨rfl, ⟨rfl, ⟨rfl, ⟨rfl, ⟨rfl, trivial⟩⟩⟩⟩⟩ rfl (zt_X7_table_p62 hL  h)
          · skip
            refine kz_aloadv (M := kt_M285) (x := x5) kX7_table_c3.1 rfl ?_
            refine kz_nz0 (x := x5) hxp4 ?_
            refine kz_gfi (M := kt_M285) (c := 14) (o := p4) kX7_table_c3.2.1 wf_X7_61 (.inr (by exact hlp4)) ?_
            refine kz_iload_n (M := kt_M285) kX7_table_c3.2.2.1 rfl ?_
            refine kz_icmp_eq (M := kt_M285) kX7_table_c3.2.2.2.1 (t := 62) rfl h (fun h => ?_) (fun h => ?_)
            · skip
              exact kz_weak [(0, .ref (w_adr E.2.1 6 0)), (1, va_rf (x1)), (2, .int x2), (3, .int x3), (5, va_rf (x5))] ⟨rfl, ⟨rfl, ⟨rfl, ⟨rfl, ⟨rfl, trivial⟩⟩⟩⟩⟩ rfl (zt_X7_table_p62 hL  h)
            · skip
              exact kz_weak [(0, .ref (w_adr E.2.1 6 0)), (1, va_rf (x1)), (2, .int x2), (3, .int x3), (5, va_rf (x5))] ⟨rfl, ⟨rfl, ⟨rfl, ⟨rfl, ⟨rfl, trivial⟩⟩⟩⟩⟩ rfl (zt_X7_table_p58 hL  h)
def zb_X7_table_p0 (E : zE) (L : Nat) (Q : kx_Rs → wS → Prop) (x1 : Option Nat) (w : wS) : Prop := (∃ p1, x1 = some p1 ∧ w_l w E.2.1 14 p1 ∧ zL_X7_table_p13 E L Q x1 0 0 0 (w_p w 14 p1 3) w)
theorem zt_X7_table_p0 {E : zE} {L : Nat} {Q : kx_Rs → wS → Prop} {x1 : Option Nat} {w : wS} (hL : 21 ≤ L) (h : zb_X7_table_p0 E L Q x1 w) : kzE E L kt_M285 0 [(0, .ref (w_adr E.2.1 6 0)), (1, va_rf (x1))] [] w Q := by
  unfold zb_X7_table_p0 at h
  refine kz_ic (M := kt_M285) 0 kX7_table_c0.1 rfl ?_
  refine kz_sti_n (M := kt_M285) [(0, .ref (w_adr E.2.1 6 0)), (1, va_rf (x1))] kX7_table_c0.2.1 (Nat.le_of_ble_eq_true rfl) ⟨⟨rfl, rfl, .inl rfl⟩, ⟨⟨rfl, rfl, .inr (w_cat (x1))⟩, trivial⟩⟩ rfl ?_
  refine kz_ic (M := kt_M285) 0 kX7_table_c0.2.2.1 rfl ?_
  refine kz_sti_n (M := kt_M285) [(0, .ref (w_adr E.2.1 6 0)), (1, va_rf (x1)), (2, .int 0)] kX7_table_c0.2.2.2.1 (Nat.le_of_ble_eq_true rfl) ⟨⟨rfl, rfl, .inl rfl⟩, ⟨⟨rfl, rfl, .inl rfl⟩, ⟨⟨rfl, rfl, .inr rfl⟩, trivial⟩⟩⟩ rfl ?_
  refine kz_ic (M := kt_M285) 0 kX7_table_c0.2.2.2.2.1 rfl ?_
  refine kz_sti (M := kt_M285) [(0, .ref (w_adr E.2.1 6 0)), (1, va_rf (x1)), (2, .int 0), (3, .int 0)] kX7_table_c0.2.2.2.2.2.1 (Nat.le_of_ble_eq_true rfl) ⟨⟨rfl, rfl, .inl rfl⟩, ⟨⟨rfl, rfl, .inl rfl⟩, ⟨⟨rfl, rfl, .inl rfl⟩, ⟨⟨rfl, rfl, .inr rfl⟩, trivial⟩⟩⟩⟩ rfl ?_
  refine kz_aload_nv (M := kt_M285) (x := x1) kX7_table_c0.2.2.2.2.2.2.1 rfl ?_
  obtain ⟨p1, hxp1, hlp1, h⟩ := h
  refine kz_nz0 (x := x1) hxp1 ?_
  refine kz_gfp (M := kt_M285) (c := 14) (o := p1) kX7_table_c0.2.2.2.2.2.2.2.1 wf_X7_34 (.inr (by exact hlp1)) ?_
  refine kz_stv (M := kt_M285) (x := w_p w 14 p1 3) [(0, .ref (w_adr E.2.1 6 0)), (1, va_rf (x1)), (2, .int 0), (3, .int 0), (4, .int 0)] kX7_table_c1.1 (Nat.le_of_ble_eq_true rfl) ⟨⟨rfl, rfl, .inl rfl⟩, ⟨⟨rfl, rfl, .inl rfl⟩, ⟨⟨rfl, rfl, .inl rfl⟩, ⟨⟨rfl, rfl, .inl rfl⟩, ⟨⟨rfl, rfl, .inr rfl⟩, trivial⟩⟩⟩⟩⟩ rfl ?_
  exact kz_weak [(0, .ref (w_adr E.2.1 6 0)), (1, va_rf (x1)), (2, .int 0), (3, .int 0), (4, .int 0), (5, va_rf (w_p w 14 p1 3))] ⟨rfl, ⟨rfl, ⟨rfl, ⟨rfl, ⟨rfl, ⟨rfl, trivial⟩⟩⟩⟩⟩⟩ rfl h
def zb_X7_element_p66 (E : zE) (L : Nat) (Q : kx_Rs → wS → Prop) (x1 : Option Nat) (x2 : Option Nat) (y0 : Int32) (y1 : Option Nat) (w : wS) : Prop := (∃ p1, y1 = some p1 ∧ w_l w E.2.1 14 p1 ∧ ((y0 = 0 ∨ y0 = 1) ∧ (∃ p2, x2 = some p2 ∧ w_l (ws_i w 14 p1 21 y0) E.2.1 15 p2 ∧ (∃ p3, x1 = some p3 ∧ w_l (ws_i w 14 p1 21 y0) E.2.1 14 p3 ∧ Q (.inl none) (ws_i (ws_i w 14 p1 21 y0) 14 p3 19 (w_i w 15 p2 7))))))
theorem zt_X7_element_p66 {E : zE} {L : Nat} {Q : kx_Rs → wS → Prop} {x1 : Option Nat} {x2 : Option Nat} {y0 : Int32} {y1 : Option Nat} {w : wS} (hL : 22 ≤ L) (h : zb_X7_element_p66 E L Q x1 x2 y0 y1 w) : kzE E L kt_M265 66 [(0, .ref (w_adr E.2.1 6 0)), (1, va_rf (x1)), (2, va_rf (x2))] [.int y0, va_rf (y1)] w Q := by
  unfold zb_X7_element_p66 at h
  obtain ⟨p1, hxp1, hlp1, h⟩ := h
  refine kz_nz1 (x := y1) hxp1 ?_
  obtain ⟨h0, h⟩ := h
  refine kz_pfz (M := kt_M265) (c := 14) (o := p1) kX7_element_c4.2.2.1 wq_X7_68 (.inr (by exact hlp1)) h0 ?_
  refine kz_aload_nv (M := kt_M265) (x := x1) kX7_element_c4.2.2.2.1 rfl ?_
  refine kz_aload_nv (M := kt_M265) (x := x2) kX7_element_c4.2.2.2.2.1 rfl ?_
  obtain ⟨p2, hxp2, hlp2, h⟩ := h
  refine kz_nz0 (x := x2) hxp2 ?_
  refine kz_gfiR (M := kt_M265) (c := 15) (o := p2) (w_i w 15 p2 7) kX7_element_c4.2.2.2.2.2.1 wf_X7_137 (.inr (by exact hlp2)) (rd_i_i rfl) ?_
  obtain ⟨p3, hxp3, hlp3, h⟩ := h
  refine kz_nz1 (x := x1) hxp3 ?_
  refine kz_pfi (M := kt_M265) (c := 14) (o := p3) kX7_element_c4.2.2.2.2.2.2.1 wq_X7_74 (.inr (by exact hlp3)) ?_
  exact kz_ret (M := kt_M265) kX7_element_c4.2.2.2.2.2.2.2.1 rfl h
def zb_X7_element_p65 (E : zE) (L : Nat) (Q : kx_Rs → wS → Prop) (x1 : Option Nat) (x2 : Option Nat) (y0 : Option Nat) (w : wS) : Prop := zb_X7_element_p66 E L Q x1 x2 0 y0 w
theorem zt_X7_element_p65 {E : zE} {L : Nat} {Q : kx_Rs → wS → Prop} {x1 : Option Nat} {x2 : Option Nat} {y0 : Option Nat} {w : wS} (hL : 22 ≤ L) (h : zb_X7_element_p65 E L Q x1 x2 y0 w) : kzE E L kt_M265 65 [(0, .ref (w_adr E.2.1 6 0)), (1, va_rf (x1)), (2, va_rf (x2))] [va_rf (y0)] w Q := by
  unfold zb_X7_element_p65 at h
  refine kz_ic (M := kt_M265) 0 kX7_element_c4.2.1 rfl ?_
  exact kz_weak [(0, .ref (w_adr E.2.1 6 0)), (1, va_rf (x1)), (2, va_rf (x2))] ⟨rfl, ⟨rfl, ⟨rfl, trivial⟩⟩⟩ rfl (zt_X7_element_p66 hL  h)
def zb_X7_element_p16 (E : zE) (L : Nat) (Q : kx_Rs → wS → Prop) (x1 : Option Nat) (w : wS) : Prop := zw E (L - 22) kt_M279 [.ref (w_adr E.2.1 6 0), va_rf (x1)] w (wk0 (fun w1 => wle w w1 → Q (.inl none) w1) (fun e w => Q (.inr e) w))
theorem zt_X7_element_p16 {E : zE} {L : Nat} {Q : kx_Rs → wS → Prop} {x1 : Option Nat} {w : wS} (hL : 22 ≤ L) (h : zb_X7_element_p16 E L Q x1 w) : kzE E L kt_M265 16 [(0, .ref (w_adr E.2.1 6 0)), (1, va_rf (x1))] [] w Q := by
  unfold zb_X7_element_p16 at h
  refine kz_aload_n (M := kt_M265) kX7_element_c1.1 rfl ?_
  refine kz_aload_nv (M := kt_M265) (x := x1) kX7_element_c1.2.1 rfl ?_
  refine kz_cv0 (M := kt_M265) (c := 6) (o := 0) (As := [va_rf (x1)]) (rest := []) kX7_element_c1.2.2.1 wl_X7_138 wMv_279 rfl (.inl rfl) rfl (Nat.le_trans (Nat.le_of_ble_eq_true rfl) hL) (by simp [lg_sl, w_cat, z_ci, z_cr, z_cl, z_cn, kt_M279]) (Nat.le_of_ble_eq_true rfl) h (fun w1 hle h => ?_) (fun _ _ _ h => kzx_no rfl h)
  have h := h hle
  exact kz_ret (M := kt_M265) kX7_element_c1.2.2.2.1 rfl h
def zb_X7_element_p0 (E : zE) (L : Nat) (Q : kx_Rs → wS → Prop) (x1 : Option Nat) (w : wS) : Prop := (∃ p1, x1 = some p1 ∧ w_l w E.2.1 14 p1 ∧ (if ¬ (w_p w 14 p1 3) = none then zb_X7_element_p16 E L Q x1 w else (if ¬ (w_p w 14 p1 16) = none then (∃ p2, w_p w 14 p1 16 = some p2 ∧ w_l w E.2.1 15 p2 ∧ ((w_i w 15 p2 9 = 0 ∨ w_i w 15 p2 9 = 1) ∧ (if w_i w 15 p2 10 = 0 then zb_X7_element_p65 E L Q x1 (w_p w 14 p1 16) x1 (ws_i (ws_i (ws_i w 14 p1 17 (w_i w 15 p2 5)) 14 p1 20 (w_i w 15 p2 9)) 14 p1 18 (w_i w 15 p2 6)) else (if ¬ w_i w 15 p2 9 = 0 then zb_X7_element_p65 E L Q x1 (w_p w 14 p1 16) x1 (ws_i (ws_i (ws_i w 14 p1 17 (w_i w 15 p2 5)) 14 p1 20 (w_i w 15 p2 9)) 14 p1 18 (w_i w 15 p2 6)) else zb_X7_element_p66 E L Q x1 (w_p w 14 p1 16) 1 x1 (ws_i (ws_i (ws_i w 14 p1 17 (w_i w 15 p2 5)) 14 p1 20 (w_i w 15 p2 9)) 14 p1 18 (w_i w 15 p2 6)))))) else zb_X7_element_p16 E L Q x1 w)))
theorem zt_X7_element_p0 {E : zE} {L : Nat} {Q : kx_Rs → wS → Prop} {x1 : Option Nat} {w : wS} (hL : 22 ≤ L) (h : zb_X7_element_p0 E L Q x1 w) : kzE E L kt_M265 0 [(0, .ref (w_adr E.2.1 6 0)), (1, va_rf (x1))] [] w Q := by
  unfold zb_X7_element_p0 at h
  refine kz_aload_nv (M := kt_M265) (x := x1) kX7_element_c0.1 rfl ?_
  obtain ⟨p1, hxp1, hlp1, h⟩ := h
  refine kz_nz0 (x := x1) hxp1 ?_
  refine kz_gfp (M := kt_M265) (c := 14) (o := p1) kX7_element_c0.2.1 wf_X7_103 (.inr (by exact hlp1)) ?_
  refine kz_stv_n (M := kt_M265) (x := w_p w 14 p1 16) [(0, .ref (w_adr E.2.1 6 0)), (1, va_rf (x1))] kX7_element_c0.2.2.1 (Nat.le_of_ble_eq_true rfl) ⟨⟨rfl, rfl, .inl rfl⟩, ⟨⟨rfl, rfl, .inr (w_cat (x1))⟩, trivial⟩⟩ rfl ?_
  refine kz_aload_nv (M := kt_M265) (x := x1) kX7_element_c0.2.2.2.1 rfl ?_
  refine kz_nz0 (x := x1) hxp1 ?_
  refine kz_gfp (M := kt_M265) (c := 14) (o := p1) kX7_element_c0.2.2.2.2.1 wf_X7_34 (.inr (by exact hlp1)) ?_
  refine kz_ifnonnull (M := kt_M265) (x := w_p w 14 p1 3) kX7_element_c0.2.2.2.2.2.1 (t := 16) rfl h (fun h => ?_) (fun h => ?_)
  · skip
    exact kz_weak [(0, .ref (w_adr E.2.1 6 0)), (1, va_rf (x1))] ⟨rfl, ⟨rfl, trivial⟩⟩ rfl (zt_X7_element_p16 hL  h)
  · skip
    refine kz_aload_nv (M := kt_M265) (x := w_p w 14 p1 16) kX7_element_c0.2.2.2.2.2.2.1 rfl ?_
    refine kz_ifnonnull (M := kt_M265) (x := w_p w 14 p1 16) kX7_element_c0.2.2.2.2.2.2.2.1 (t := 22) rfl h (fun h => ?_) (fun h => ?_)
    · skip
      refine kz_aload_nv (M := kt_M265) (x := x1) kX7_element_c1.2.2.2.2.1 rfl ?_
      refine kz_aload_nv (M := kt_M265) (x := w_p w 14 p1 16) kX7_element_c1.2.2.2.2.2.1 rfl ?_
      obtain ⟨p2, hxp2, hlp2, h⟩ := h
      refine kz_nz0 (x := w_p w 14 p1 16) hxp2 ?_
      refine kz_gfi (M := kt_M265) (c := 15) (o := p2) kX7_element_c1.2.2.2.2.2.2.1 wf_X7_134 (.inr (by exact hlp2)) ?_
      refine kz_nz1 (x := x1) hxp1 ?_
      refine kz_pfi (M := kt_M265) (c := 14) (o := p1) kX7_element_c1.2.2.2.2.2.2.2.1 wq_X7_61 (.inr (by exact hlp1)) ?_
      refine kz_aload_nv (M := kt_M265) (x := x1) kX7_element_c2.1 rfl ?_
      refine kz_aload_nv (M := kt_M265) (x := w_p w 14 p1 16) kX7_element_c2.2.1 rfl ?_
      refine kz_nz0 (x := w_p w 14 p1 16) hxp2 ?_
      refine kz_gfiR (M := kt_M265) (c := 15) (o := p2) (w_i w 15 p2 9) kX7_element_c2.2.2.1 wf_X7_135 (.inr (by exact hlp2)) (rd_i_i rfl) ?_
      refine kz_nz1 (x := x1) hxp1 ?_
      obtain ⟨h0, h⟩ := h
      refine kz_pfz (M := kt_M265) (c := 14) (o := p1) kX7_element_c2.2.2.2.1 wq_X7_64 (.inr (by exact hlp1)) h0 ?_
      refine kz_aload_nv (M := kt_M265) (x := x1) kX7_element_c2.2.2.2.2.1 rfl ?_
      refine kz_aload_nv (M := kt_M265) (x := w_p w 14 p1 16) kX7_element_c2.2.2.2.2.2.1 rfl ?_
      refine kz_nz0 (x := w_p w 14 p1 16) hxp2 ?_
      refine kz_gfiR (M := kt_M265) (c := 15) (o := p2) (w_i w 15 p2 6) kX7_element_c2.2.2.2.2.2.2.1 wf_X7_107 (.inr (by exact hlp2)) ((rd_i_i rfl).trans (rd_i_i rfl)) ?_
      refine kz_nz1 (x := x1) hxp1 ?_
      refine kz_pfi (M := kt_M265) (c := 14) (o := p1) kX7_element_c2.2.2.2.2.2.2.2.1 wq_X7_133 (.inr (by exact hlp1)) ?_
      refine kz_aload_nv (M := kt_M265) (x := x1) kX7_element_c3.1 rfl ?_
      refine kz_aload_nv (M := kt_M265) (x := w_p w 14 p1 16) kX7_element_c3.2.1 rfl ?_
      refine kz_nz0 (x := w_p w 14 p1 16) hxp2 ?_
      refine kz_gfiR (M := kt_M265) (c := 15) (o := p2) (w_i w 15 p2 10) kX7_element_c3.2.2.1 wf_X7_136 (.inr (by exact hlp2)) ((rd_i_i rfl).trans ((rd_i_i rfl).trans (rd_i_i rfl))) ?_
      refine kz_if_eq (M := kt_M265) kX7_element_c3.2.2.2.1 (t := 65) rfl h (fun h => ?_) (fun h => ?_)
      · skip
        exact kz_weak [(0, .ref (w_adr E.2.1 6 0)), (1, va_rf (x1)), (2, va_rf (w_p w 14 p1 16))] ⟨rfl, ⟨rfl, ⟨rfl, trivial⟩⟩⟩ rfl (zt_X7_element_p65 hL  h)
      · skip
        refine kz_aload_nv (M := kt_M265) (x := w_p w 14 p1 16) kX7_element_c3.2.2.2.2.1 rfl ?_
        refine kz_nz0 (x := w_p w 14 p1 16) hxp2 ?_
        refine kz_gfiR (M := kt_M265) (c := 15) (o := p2) (w_i w 15 p2 9) kX7_element_c3.2.2.2.2.2.1 wf_X7_135 (.inr (by exact hlp2)) ((rd_i_i rfl).trans ((rd_i_i rfl).trans (rd_i_i rfl))) ?_
        refine kz_if_ne (M := kt_M265) kX7_element_c3.2.2.2.2.2.2.1 (t := 65) rfl h (fun h => ?_) (fun h => ?_)
        · skip
          exact kz_weak [(0, .ref (w_adr E.2.1 6 0)), (1, va_rf (x1)), (2, va_rf (w_p w 14 p1 16))] ⟨rfl, ⟨rfl, ⟨rfl, trivial⟩⟩⟩ rfl (zt_X7_element_p65 hL  h)
        · skip
          refine kz_ic (M := kt_M265) 1 kX7_element_c3.2.2.2.2.2.2.2.1 rfl ?_
          refine kz_goto (M := kt_M265) kX7_element_c4.1 (t := 66) rfl ?_
          exact kz_weak [(0, .ref (w_adr E.2.1 6 0)), (1, va_rf (x1)), (2, va_rf (w_p w 14 p1 16))] ⟨rfl, ⟨rfl, ⟨rfl, trivial⟩⟩⟩ rfl (zt_X7_element_p66 hL  h)
    · skip
      exact kz_weak [(0, .ref (w_adr E.2.1 6 0)), (1, va_rf (x1))] ⟨rfl, ⟨rfl, trivial⟩⟩ rfl (zt_X7_element_p16 hL  h)
def zb_X7_place_p15 (E : zE) (L : Nat) (Q : kx_Rs → wS → Prop) (x1 : Option Nat) (w : wS) : Prop := (∃ p1, x1 = some p1 ∧ w_l w E.2.1 14 p1 ∧ (if ¬ (w_p w 14 p1 16) = none then (∃ p2, w_p w 14 p1 16 = some p2 ∧ w_l w E.2.1 15 p2 ∧ ((w_i w 15 p2 9 = 0 ∨ w_i w 15 p2 9 = 1) ∧ (if ¬ (w_p w 14 p1 3) = none then zw E (L - 24) kt_M270 [.ref (w_adr E.2.1 6 0), va_rf (x1), va_rf (w_p w 14 p1 16)] (ws_i (ws_i (ws_i (ws_i (ws_i w 14 p1 17 (w_i w 15 p2 5)) 14 p1 20 (w_i w 15 p2 9)) 14 p1 18 (w_i w 15 p2 6)) 14 p1 20 0) 14 p1 18 (-1)) (wk0 (fun w3 => wle (ws_i (ws_i (ws_i (ws_i (ws_i w 14 p1 17 (w_i w 15 p2 5)) 14 p1 20 (w_i w 15 p2 9)) 14 p1 18 (w_i w 15 p2 6)) 14 p1 20 0) 14 p1 18 (-1)) w3 → Q (.inl none) w3) (fun e w => Q (.inr e) w)) else Q (.inl none) (ws_i (ws_i (ws_i w 14 p1 17 (w_i w 15 p2 5)) 14 p1 20 (w_i w 15 p2 9)) 14 p1 18 (w_i w 15 p2 6))))) else Q (.inl none) w))
theorem zt_X7_place_p15 {E : zE} {L : Nat} {Q : kx_Rs → wS → Prop} {x1 : Option Nat} {w : wS} (hL : 24 ≤ L) (h : zb_X7_place_p15 E L Q x1 w) : kzE E L kt_M279 15 [(0, .ref (w_adr E.2.1 6 0)), (1, va_rf (x1))] [] w Q := by
  unfold zb_X7_place_p15 at h
  refine kz_aload_nv (M := kt_M279) (x := x1) kX7_place_c0.2.2.2.2.2.2.2.1 rfl ?_
  obtain ⟨p1, hxp1, hlp1, h⟩ := h
  refine kz_nz0 (x := x1) hxp1 ?_
  refine kz_gfp (M := kt_M279) (c := 14) (o := p1) kX7_place_c1.1 wf_X7_103 (.inr (by exact hlp1)) ?_
  refine kz_stv_n (M := kt_M279) (x := w_p w 14 p1 16) [(0, .ref (w_adr E.2.1 6 0)), (1, va_rf (x1))] kX7_place_c1.2.1 (Nat.le_of_ble_eq_true rfl) ⟨⟨rfl, rfl, .inl rfl⟩, ⟨⟨rfl, rfl, .inr (w_cat (x1))⟩, trivial⟩⟩ rfl ?_
  refine kz_aload_nv (M := kt_M279) (x := w_p w 14 p1 16) kX7_place_c1.2.2.1 rfl ?_
  refine kz_ifnonnull (M := kt_M279) (x := w_p w 14 p1 16) kX7_place_c1.2.2.2.1 (t := 25) rfl h (fun h => ?_) (fun h => ?_)
  · skip
    refine kz_aload_nv (M := kt_M279) (x := x1) kX7_place_c1.2.2.2.2.2.1 rfl ?_
    refine kz_aload_nv (M := kt_M279) (x := w_p w 14 p1 16) kX7_place_c1.2.2.2.2.2.2.1 rfl ?_
    obtain ⟨p2, hxp2, hlp2, h⟩ := h
    refine kz_nz0 (x := w_p w 14 p1 16) hxp2 ?_
    refine kz_gfi (M := kt_M279) (c := 15) (o := p2) kX7_place_c1.2.2.2.2.2.2.2.1 wf_X7_134 (.inr (by exact hlp2)) ?_
    refine kz_nz1 (x := x1) hxp1 ?_
    refine kz_pfi (M := kt_M279) (c := 14) (o := p1) kX7_place_c2.1 wq_X7_61 (.inr (by exact hlp1)) ?_
    refine kz_aload_nv (M := kt_M279) (x := x1) kX7_place_c2.2.1 rfl ?_
    refine kz_aload_nv (M := kt_M279) (x := w_p w 14 p1 16) kX7_place_c2.2.2.1 rfl ?_
    refine kz_nz0 (x := w_p w 14 p1 16) hxp2 ?_
    refine kz_gfiR (M := kt_M279) (c := 15) (o := p2) (w_i w 15 p2 9) kX7_place_c2.2.2.2.1 wf_X7_135 (.inr (by exact hlp2)) (rd_i_i rfl) ?_
    refine kz_nz1 (x := x1) hxp1 ?_
    obtain ⟨h0, h⟩ := h
    refine kz_pfz (M := kt_M279) (c := 14) (o := p1) kX7_place_c2.2.2.2.2.1 wq_X7_64 (.inr (by exact hlp1)) h0 ?_
    refine kz_aload_nv (M := kt_M279) (x := x1) kX7_place_c2.2.2.2.2.2.1 rfl ?_
    refine kz_aload_nv (M := kt_M279) (x := w_p w 14 p1 16) kX7_place_c2.2.2.2.2.2.2.1 rfl ?_
    refine kz_nz0 (x := w_p w 14 p1 16) hxp2 ?_
    refine kz_gfiR (M := kt_M279) (c := 15) (o := p2) (w_i w 15 p2 6) kX7_place_c2.2.2.2.2.2.2.2.1 wf_X7_107 (.inr (by exact hlp2)) ((rd_i_i rfl).trans (rd_i_i rfl)) ?_
    refine kz_nz1 (x := x1) hxp1 ?_
    refine kz_pfi (M := kt_M279) (c := 14) (o := p1) kX7_place_c3.1 wq_X7_133 (.inr (by exact hlp1)) ?_
    refine kz_aload_nv (M := kt_M279) (x := x1) kX7_place_c3.2.1 rfl ?_
    refine kz_nz0 (x := x1) hxp1 ?_
    refine kz_gfpR (M := kt_M279) (c := 14) (o := p1) (w_p w 14 p1 3) kX7_place_c3.2.2.1 wf_X7_34 (.inr (by exact hlp1)) (rd_p_i.trans (rd_p_i.trans rd_p_i)) ?_
    refine kz_ifnonnull (M := kt_M279) (x := w_p w 14 p1 3) kX7_place_c3.2.2.2.1 (t := 57) rfl h (fun h => ?_) (fun h => ?_)
    · skip
      refine kz_aload_nv (M := kt_M279) (x := x1) kX7_place_c3.2.2.2.2.2.1 rfl ?_
      refine kz_ic (M := kt_M279) 0 kX7_place_c3.2.2.2.2.2.2.1 rfl ?_
      refine kz_nz1 (x := x1) hxp1 ?_
      refine kz_pfz (M := kt_M279) (c := 14) (o := p1) kX7_place_c3.2.2.2.2.2.2.2.1 wq_X7_64 (.inr (by exact hlp1)) (by decide) ?_
      refine kz_aload_nv (M := kt_M279) (x := x1) kX7_place_c4.1 rfl ?_
      refine kz_ic (M := kt_M279) (-1) kX7_place_c4.2.1 rfl ?_
      refine kz_nz1 (x := x1) hxp1 ?_
      refine kz_pfi (M := kt_M279) (c := 14) (o := p1) kX7_place_c4.2.2.1 wq_X7_133 (.inr (by exact hlp1)) ?_
      refine kz_aload_n (M := kt_M279) kX7_place_c4.2.2.2.1 rfl ?_
      refine kz_aload_nv (M := kt_M279) (x := x1) kX7_place_c4.2.2.2.2.1 rfl ?_
      refine kz_aload_nv (M := kt_M279) (x := w_p w 14 p1 16) kX7_place_c4.2.2.2.2.2.1 rfl ?_
      refine kz_cv0 (M := kt_M279) (c := 6) (o := 0) (As := [va_rf (x1), va_rf (w_p w 14 p1 16)]) (rest := []) kX7_place_c4.2.2.2.2.2.2.1 wl_X7_280 wMv_270 rfl (.inl rfl) rfl (Nat.le_trans (Nat.le_of_ble_eq_true rfl) hL) (by simp [lg_sl, w_cat, z_ci, z_cr, z_cl, z_cn, kt_M270]) (Nat.le_of_ble_eq_true rfl) h (fun w3 hle h => ?_) (fun _ _ _ h => kzx_no rfl h)
      have h := h hle
      have hlp1 := w_l_le hlp1 hle
      have hlp2 := w_l_le hlp2 hle
      exact kz_ret (M := kt_M279) kX7_place_c4.2.2.2.2.2.2.2.1 rfl h
    · skip
      exact kz_ret (M := kt_M279) kX7_place_c3.2.2.2.2.1 rfl h
  · skip
    exact kz_ret (M := kt_M279) kX7_place_c1.2.2.2.2.1 rfl h
def zb_X7_place_p0 (E : zE) (L : Nat) (Q : kx_Rs → wS → Prop) (x1 : Option Nat) (w : wS) : Prop := (∃ p1, x1 = some p1 ∧ w_l w E.2.1 14 p1 ∧ (if (w_p w 14 p1 3) = none then zb_X7_place_p15 E L Q x1 w else zw E (L - 21) kt_M266 [.ref (w_adr E.2.1 6 0), va_rf (w_p w 14 p1 3)] w (wk0 (fun w2 => wle w w2 → zb_X7_place_p15 E L Q x1 w2) (fun e w => Q (.inr e) w))))
theorem zt_X7_place_p0 {E : zE} {L : Nat} {Q : kx_Rs → wS → Prop} {x1 : Option Nat} {w : wS} (hL : 24 ≤ L) (h : zb_X7_place_p0 E L Q x1 w) : kzE E L kt_M279 0 [(0, .ref (w_adr E.2.1 6 0)), (1, va_rf (x1))] [] w Q := by
  unfold zb_X7_place_p0 at h
  refine kz_aload_nv (M := kt_M279) (x := x1) kX7_place_c0.1 rfl ?_
  obtain ⟨p1, hxp1, hlp1, h⟩ := h
  refine kz_nz0 (x := x1) hxp1 ?_
  refine kz_gfp (M := kt_M279) (c := 14) (o := p1) kX7_place_c0.2.1 wf_X7_34 (.inr (by exact hlp1)) ?_
  refine kz_ifnull (M := kt_M279) (x := w_p w 14 p1 3) kX7_place_c0.2.2.1 (t := 15) rfl h (fun h => ?_) (fun h => ?_)
  · skip
    exact kz_weak [(0, .ref (w_adr E.2.1 6 0)), (1, va_rf (x1))] ⟨rfl, ⟨rfl, trivial⟩⟩ rfl (zt_X7_place_p15 hL  h)
  · skip
    refine kz_aload_n (M := kt_M279) kX7_place_c0.2.2.2.1 rfl ?_
    refine kz_aload_nv (M := kt_M279) (x := x1) kX7_place_c0.2.2.2.2.1 rfl ?_
    refine kz_nz0 (x := x1) hxp1 ?_
    refine kz_gfp (M := kt_M279) (c := 14) (o := p1) kX7_place_c0.2.2.2.2.2.1 wf_X7_34 (.inr (by exact hlp1)) ?_
    refine kz_cv0 (M := kt_M279) (c := 6) (o := 0) (As := [va_rf (w_p w 14 p1 3)]) (rest := []) kX7_place_c0.2.2.2.2.2.2.1 wl_X7_71 wMv_266 rfl (.inl rfl) rfl (Nat.le_trans (Nat.le_of_ble_eq_true rfl) hL) (by simp [lg_sl, w_cat, z_ci, z_cr, z_cl, z_cn, kt_M266]) (Nat.le_of_ble_eq_true rfl) h (fun w2 hle h => ?_) (fun _ _ _ h => kzx_no rfl h)
    have h := h hle
    have hlp1 := w_l_le hlp1 hle
    exact kz_weak [(0, .ref (w_adr E.2.1 6 0)), (1, va_rf (x1))] ⟨rfl, ⟨rfl, trivial⟩⟩ rfl (zt_X7_place_p15 hL  h)
def zb_X7_index_p122 (E : zE) (L : Nat) (Q : kx_Rs → wS → Prop) (w : wS) : Prop := Q (.inl none) w
theorem zt_X7_index_p122 {E : zE} {L : Nat} {Q : kx_Rs → wS → Prop} {w : wS} (hL : 22 ≤ L) (h : zb_X7_index_p122 E L Q  w) : kzE E L kt_M270 122 [(0, .ref (w_adr E.2.1 6 0))] [] w Q := by
  unfold zb_X7_index_p122 at h
  exact kz_ret (M := kt_M270) kX7_index_c7.2.2.2.1 rfl h
def zb_X7_index_p99 (E : zE) (L : Nat) (Q : kx_Rs → wS → Prop) (x1 : Option Nat) (w : wS) : Prop := (∃ p1, x1 = some p1 ∧ w_l w E.2.1 14 p1 ∧ zw E (L - 22) kt_M56 [.ref (w_adr E.2.1 2 0), .int 9, .int (w_i w 14 p1 2)] w (wk0 (fun w2 => wle w w2 → zb_X7_index_p122 E L Q (ws_i (ws_i w2 14 p1 17 0) 14 p1 11 1)) (fun e w => Q (.inr e) w)))
theorem zt_X7_index_p99 {E : zE} {L : Nat} {Q : kx_Rs → wS → Prop} {x1 : Option Nat} {w : wS} (hL : 22 ≤ L) (h : zb_X7_index_p99 E L Q x1 w) : kzE E L kt_M270 99 [(0, .ref (w_adr E.2.1 6 0)), (1, va_rf (x1))] [] w Q := by
  unfold zb_X7_index_p99 at h
  refine kz_aload_n (M := kt_M270) kX7_index_c5.2.2.2.2.2.2.2.1 rfl ?_
  refine kz_gfc (M := kt_M270) (x := 8) (c := 6) (o := 0) kX7_index_c6.1 wf_X7_15 (.inl rfl) ?_
  refine kz_bi (M := kt_M270) 9 kX7_index_c6.2.1 rfl ?_
  refine kz_aload_nv (M := kt_M270) (x := x1) kX7_index_c6.2.2.1 rfl ?_
  obtain ⟨p1, hxp1, hlp1, h⟩ := h
  refine kz_nz0 (x := x1) hxp1 ?_
  refine kz_gfi (M := kt_M270) (c := 14) (o := p1) kX7_index_c6.2.2.2.1 wf_X7_52 (.inr (by exact hlp1)) ?_
  refine kz_cv0 (M := kt_M270) (c := 2) (o := 0) (As := [.int 9, .int (w_i w 14 p1 2)]) (rest := []) kX7_index_c6.2.2.2.2.1 wl_X7_55 wMv_56 rfl (.inl rfl) rfl (Nat.le_trans (Nat.le_of_ble_eq_true rfl) hL) (Nat.le_of_ble_eq_true rfl) (Nat.le_of_ble_eq_true rfl) h (fun w2 hle h => ?_) (fun _ _ _ h => kzx_no rfl h)
  have h := h hle
  have hlp1 := w_l_le hlp1 hle
  refine kz_aload_nv (M := kt_M270) (x := x1) kX7_index_c6.2.2.2.2.2.1 rfl ?_
  refine kz_ic (M := kt_M270) 0 kX7_index_c6.2.2.2.2.2.2.1 rfl ?_
  refine kz_nz1 (x := x1) hxp1 ?_
  refine kz_pfi (M := kt_M270) (c := 14) (o := p1) kX7_index_c6.2.2.2.2.2.2.2.1 wq_X7_61 (.inr (by exact hlp1)) ?_
  refine kz_aload_nv (M := kt_M270) (x := x1) kX7_index_c7.1 rfl ?_
  refine kz_ic (M := kt_M270) 1 kX7_index_c7.2.1 rfl ?_
  refine kz_nz1 (x := x1) hxp1 ?_
  refine kz_pfz (M := kt_M270) (c := 14) (o := p1) kX7_index_c7.2.2.1 wq_X7_141 (.inr (by exact hlp1)) (by decide) ?_
  exact kz_weak [(0, .ref (w_adr E.2.1 6 0))] ⟨rfl, trivial⟩ rfl (zt_X7_index_p122 hL  h)
def zb_X7_index_p39 (E : zE) (L : Nat) (Q : kx_Rs → wS → Prop) (x1 : Option Nat) (x2 : Option Nat) (x3 : Option Nat) (y0 : Int32) (w : wS) : Prop := (if y0 = 0 then (∃ p1, x3 = some p1 ∧ w_l w E.2.1 14 p1 ∧ (if w_i w 14 p1 21 = 0 then zb_X7_index_p122 E L Q w else (if ¬ w_i w 14 p1 11 = 0 then zb_X7_index_p122 E L Q w else (if w_i w 14 p1 19 < 0 then zb_X7_index_p99 E L Q x1 w else (∃ p2, x2 = some p2 ∧ w_l w E.2.1 15 p2 ∧ (if w_i w 15 p2 6 = (-1) then zb_X7_index_p122 E L Q w else (if w_i w 14 p1 19 < w_i w 15 p2 6 then zb_X7_index_p122 E L Q w else zb_X7_index_p99 E L Q x1 w))))))) else zw E (L - 21) kt_M290 [.ref (w_adr E.2.1 6 0), va_rf (x1)] w (wk0 (fun w3 => wle w w3 → (∃ p5, x1 = some p5 ∧ w_l w3 E.2.1 14 p5 ∧ zb_X7_index_p122 E L Q (ws_i w3 14 p5 11 1))) (fun e w => Q (.inr e) w)))
theorem zt_X7_index_p39 {E : zE} {L : Nat} {Q : kx_Rs → wS → Prop} {x1 : Option Nat} {x2 : Option Nat} {x3 : Option Nat} {y0 : Int32} {w : wS} (hL : 22 ≤ L) (h : zb_X7_index_p39 E L Q x1 x2 x3 y0 w) : kzE E L kt_M270 39 [(0, .ref (w_adr E.2.1 6 0)), (1, va_rf (x1)), (2, va_rf (x2)), (3, va_rf (x3))] [.int y0] w Q := by
  unfold zb_X7_index_p39 at h
  refine kz_sti (M := kt_M270) [(0, .ref (w_adr E.2.1 6 0)), (1, va_rf (x1)), (2, va_rf (x2)), (3, va_rf (x3))] kX7_index_c2.2.2.2.1 (Nat.le_of_ble_eq_true rfl) ⟨⟨rfl, rfl, .inl rfl⟩, ⟨⟨rfl, rfl, .inl rfl⟩, ⟨⟨rfl, rfl, .inl rfl⟩, ⟨⟨rfl, rfl, .inr (w_cat (x3))⟩, trivial⟩⟩⟩⟩ rfl ?_
  refine kz_iload (M := kt_M270) kX7_index_c2.2.2.2.2.1 rfl ?_
  refine kz_if_eq (M := kt_M270) kX7_index_c2.2.2.2.2.2.1 (t := 59) rfl h (fun h => ?_) (fun h => ?_)
  · skip
    refine kz_aload_nv (M := kt_M270) (x := x3) kX7_index_c3.2.2.2.2.2.1 rfl ?_
    obtain ⟨p1, hxp1, hlp1, h⟩ := h
    refine kz_nz0 (x := x3) hxp1 ?_
    refine kz_gfi (M := kt_M270) (c := 14) (o := p1) kX7_index_c3.2.2.2.2.2.2.1 wf_X7_68 (.inr (by exact hlp1)) ?_
    refine kz_if_eq (M := kt_M270) kX7_index_c3.2.2.2.2.2.2.2.1 (t := 122) rfl h (fun h => ?_) (fun h => ?_)
    · skip
      exact kz_weak [(0, .ref (w_adr E.2.1 6 0))] ⟨rfl, trivial⟩ rfl (zt_X7_index_p122 hL  h)
    · skip
      refine kz_aload_nv (M := kt_M270) (x := x3) kX7_index_c4.1 rfl ?_
      refine kz_nz0 (x := x3) hxp1 ?_
      refine kz_gfi (M := kt_M270) (c := 14) (o := p1) kX7_index_c4.2.1 wf_X7_141 (.inr (by exact hlp1)) ?_
      refine kz_if_ne (M := kt_M270) kX7_index_c4.2.2.1 (t := 122) rfl h (fun h => ?_) (fun h => ?_)
      · skip
        exact kz_weak [(0, .ref (w_adr E.2.1 6 0))] ⟨rfl, trivial⟩ rfl (zt_X7_index_p122 hL  h)
      · skip
        refine kz_aload_nv (M := kt_M270) (x := x3) kX7_index_c4.2.2.2.1 rfl ?_
        refine kz_nz0 (x := x3) hxp1 ?_
        refine kz_gfi (M := kt_M270) (c := 14) (o := p1) kX7_index_c4.2.2.2.2.1 wf_X7_74 (.inr (by exact hlp1)) ?_
        refine kz_if_lt (M := kt_M270) kX7_index_c4.2.2.2.2.2.1 (t := 99) rfl h (fun h => ?_) (fun h => ?_)
        · skip
          exact kz_weak [(0, .ref (w_adr E.2.1 6 0)), (1, va_rf (x1))] ⟨rfl, ⟨rfl, trivial⟩⟩ rfl (zt_X7_index_p99 hL  h)
        · skip
          refine kz_aload_nv (M := kt_M270) (x := x2) kX7_index_c4.2.2.2.2.2.2.1 rfl ?_
          obtain ⟨p2, hxp2, hlp2, h⟩ := h
          refine kz_nz0 (x := x2) hxp2 ?_
          refine kz_gfi (M := kt_M270) (c := 15) (o := p2) kX7_index_c4.2.2.2.2.2.2.2.1 wf_X7_107 (.inr (by exact hlp2)) ?_
          refine kz_ic (M := kt_M270) (-1) kX7_index_c5.1 rfl ?_
          refine kz_icmp_eq (M := kt_M270) kX7_index_c5.2.1 (t := 122) rfl h (fun h => ?_) (fun h => ?_)
          · skip
            exact kz_weak [(0, .ref (w_adr E.2.1 6 0))] ⟨rfl, trivial⟩ rfl (zt_X7_index_p122 hL  h)
          · skip
            refine kz_aload_nv (M := kt_M270) (x := x3) kX7_index_c5.2.2.1 rfl ?_
            refine kz_nz0 (x := x3) hxp1 ?_
            refine kz_gfi (M := kt_M270) (c := 14) (o := p1) kX7_index_c5.2.2.2.1 wf_X7_74 (.inr (by exact hlp1)) ?_
            refine kz_aload_nv (M := kt_M270) (x := x2) kX7_index_c5.2.2.2.2.1 rfl ?_
            refine kz_nz0 (x := x2) hxp2 ?_
            refine kz_gfi (M := kt_M270) (c := 15) (o := p2) kX7_index_c5.2.2.2.2.2.1 wf_X7_107 (.inr (by exact hlp2)) ?_
            refine kz_icmp_lt (M := kt_M270) kX7_index_c5.2.2.2.2.2.2.1 (t := 122) rfl h (fun h => ?_) (fun h => ?_)
            · skip
              exact kz_weak [(0, .ref (w_adr E.2.1 6 0))] ⟨rfl, trivial⟩ rfl (zt_X7_index_p122 hL  h)
            · skip
              exact kz_weak [(0, .ref (w_adr E.2.1 6 0)), (1, va_rf (x1))] ⟨rfl, ⟨rfl, trivial⟩⟩ rfl (zt_X7_index_p99 hL  h)
  · skip
    refine kz_aload_n (M := kt_M270) kX7_index_c2.2.2.2.2.2.2.1 rfl ?_
    refine kz_aload_nv (M := kt_M270) (x := x1) kX7_index_c2.2.2.2.2.2.2.2.1 rfl ?_
    refine kz_cv0 (M := kt_M270) (c := 6) (o := 0) (As := [va_rf (x1)]) (rest := []) kX7_index_c3.1 wl_X7_283 wMv_290 rfl (.inl rfl) rfl (Nat.le_trans (Nat.le_of_ble_eq_true rfl) hL) (by simp [lg_sl, w_cat, z_ci, z_cr, z_cl, z_cn, kt_M290]) (Nat.le_of_ble_eq_true rfl) h (fun w3 hle h => ?_) (fun _ _ _ h => kzx_no rfl h)
    have h := h hle
    refine kz_aload_nv (M := kt_M270) (x := x1) kX7_index_c3.2.1 rfl ?_
    refine kz_ic (M := kt_M270) 1 kX7_index_c3.2.2.1 rfl ?_
    obtain ⟨p5, hxp5, hlp5, h⟩ := h
    refine kz_nz1 (x := x1) hxp5 ?_
    refine kz_pfz (M := kt_M270) (c := 14) (o := p5) kX7_index_c3.2.2.2.1 wq_X7_141 (.inr (by exact hlp5)) (by decide) ?_
    refine kz_goto (M := kt_M270) kX7_index_c3.2.2.2.2.1 (t := 122) rfl ?_
    exact kz_weak [(0, .ref (w_adr E.2.1 6 0))] ⟨rfl, trivial⟩ rfl (zt_X7_index_p122 hL  h)
def zb_X7_index_p38 (E : zE) (L : Nat) (Q : kx_Rs → wS → Prop) (x1 : Option Nat) (x2 : Option Nat) (x3 : Option Nat) (w : wS) : Prop := zb_X7_index_p39 E L Q x1 x2 x3 0 w
theorem zt_X7_index_p38 {E : zE} {L : Nat} {Q : kx_Rs → wS → Prop} {x1 : Option Nat} {x2 : Option Nat} {x3 : Option Nat} {w : wS} (hL : 22 ≤ L) (h : zb_X7_index_p38 E L Q x1 x2 x3 w) : kzE E L kt_M270 38 [(0, .ref (w_adr E.2.1 6 0)), (1, va_rf (x1)), (2, va_rf (x2)), (3, va_rf (x3))] [] w Q := by
  unfold zb_X7_index_p38 at h
  refine kz_ic (M := kt_M270) 0 kX7_index_c2.2.2.1 rfl ?_
  exact kz_weak [(0, .ref (w_adr E.2.1 6 0)), (1, va_rf (x1)), (2, va_rf (x2)), (3, va_rf (x3))] ⟨rfl, ⟨rfl, ⟨rfl, ⟨rfl, trivial⟩⟩⟩⟩ rfl (zt_X7_index_p39 hL  h)
def zb_X7_index_p34 (E : zE) (L : Nat) (Q : kx_Rs → wS → Prop) (x1 : Option Nat) (x2 : Option Nat) (x3 : Option Nat) (w : wS) : Prop := zb_X7_index_p39 E L Q x1 x2 x3 1 w
theorem zt_X7_index_p34 {E : zE} {L : Nat} {Q : kx_Rs → wS → Prop} {x1 : Option Nat} {x2 : Option Nat} {x3 : Option Nat} {w : wS} (hL : 22 ≤ L) (h : zb_X7_index_p34 E L Q x1 x2 x3 w) : kzE E L kt_M270 34 [(0, .ref (w_adr E.2.1 6 0)), (1, va_rf (x1)), (2, va_rf (x2)), (3, va_rf (x3))] [] w Q := by
  unfold zb_X7_index_p34 at h
  refine kz_ic (M := kt_M270) 1 kX7_index_c2.1 rfl ?_
  refine kz_goto (M := kt_M270) kX7_index_c2.2.1 (t := 39) rfl ?_
  exact kz_weak [(0, .ref (w_adr E.2.1 6 0)), (1, va_rf (x1)), (2, va_rf (x2)), (3, va_rf (x3))] ⟨rfl, ⟨rfl, ⟨rfl, ⟨rfl, trivial⟩⟩⟩⟩ rfl (zt_X7_index_p39 hL  h)
def zb_X7_index_p0 (E : zE) (L : Nat) (Q : kx_Rs → wS → Prop) (x1 : Option Nat) (x2 : Option Nat) (w : wS) : Prop := (∃ p1, x1 = some p1 ∧ w_l w E.2.1 14 p1 ∧ (∃ p2, x2 = some p2 ∧ w_l w E.2.1 15 p2 ∧ (if w_i w 15 p2 9 = 0 then zb_X7_index_p34 E L Q x1 x2 (w_p w 14 p1 3) w else (∃ p3, w_p w 14 p1 3 = some p3 ∧ w_l w E.2.1 14 p3 ∧ (if w_i w 14 p3 17 = 0 then zb_X7_index_p38 E L Q x1 x2 (w_p w 14 p1 3) w else (if ¬ w_i w 14 p3 17 = 1 then zb_X7_index_p34 E L Q x1 x2 (w_p w 14 p1 3) w else (if w_i w 14 p3 20 = 0 then zb_X7_index_p38 E L Q x1 x2 (w_p w 14 p1 3) w else zb_X7_index_p34 E L Q x1 x2 (w_p w 14 p1 3) w)))))))
theorem zt_X7_index_p0 {E : zE} {L : Nat} {Q : kx_Rs → wS → Prop} {x1 : Option Nat} {x2 : Option Nat} {w : wS} (hL : 22 ≤ L) (h : zb_X7_index_p0 E L Q x1 x2 w) : kzE E L kt_M270 0 [(0, .ref (w_adr E.2.1 6 0)), (1, va_rf (x1)), (2, va_rf (x2))] [] w Q := by
  unfold zb_X7_index_p0 at h
  refine kz_aload_nv (M := kt_M270) (x := x1) kX7_index_c0.1 rfl ?_
  obtain ⟨p1, hxp1, hlp1, h⟩ := h
  refine kz_nz0 (x := x1) hxp1 ?_
  refine kz_gfp (M := kt_M270) (c := 14) (o := p1) kX7_index_c0.2.1 wf_X7_34 (.inr (by exact hlp1)) ?_
  refine kz_stv_n (M := kt_M270) (x := w_p w 14 p1 3) [(0, .ref (w_adr E.2.1 6 0)), (1, va_rf (x1)), (2, va_rf (x2))] kX7_index_c0.2.2.1 (Nat.le_of_ble_eq_true rfl) ⟨⟨rfl, rfl, .inl rfl⟩, ⟨⟨rfl, rfl, .inl rfl⟩, ⟨⟨rfl, rfl, .inr (w_cat (x2))⟩, trivial⟩⟩⟩ rfl ?_
  refine kz_aload_nv (M := kt_M270) (x := x2) kX7_index_c0.2.2.2.1 rfl ?_
  obtain ⟨p2, hxp2, hlp2, h⟩ := h
  refine kz_nz0 (x := x2) hxp2 ?_
  refine kz_gfi (M := kt_M270) (c := 15) (o := p2) kX7_index_c0.2.2.2.2.1 wf_X7_135 (.inr (by exact hlp2)) ?_
  refine kz_if_eq (M := kt_M270) kX7_index_c0.2.2.2.2.2.1 (t := 34) rfl h (fun h => ?_) (fun h => ?_)
  · skip
    exact kz_weak [(0, .ref (w_adr E.2.1 6 0)), (1, va_rf (x1)), (2, va_rf (x2)), (3, va_rf (w_p w 14 p1 3))] ⟨rfl, ⟨rfl, ⟨rfl, ⟨rfl, trivial⟩⟩⟩⟩ rfl (zt_X7_index_p34 hL  h)
  · skip
    refine kz_aload_nv (M := kt_M270) (x := w_p w 14 p1 3) kX7_index_c0.2.2.2.2.2.2.1 rfl ?_
    obtain ⟨p3, hxp3, hlp3, h⟩ := h
    refine kz_nz0 (x := w_p w 14 p1 3) hxp3 ?_
    refine kz_gfi (M := kt_M270) (c := 14) (o := p3) kX7_index_c0.2.2.2.2.2.2.2.1 wf_X7_61 (.inr (by exact hlp3)) ?_
    refine kz_if_eq (M := kt_M270) kX7_index_c1.1 (t := 38) rfl h (fun h => ?_) (fun h => ?_)
    · skip
      exact kz_weak [(0, .ref (w_adr E.2.1 6 0)), (1, va_rf (x1)), (2, va_rf (x2)), (3, va_rf (w_p w 14 p1 3))] ⟨rfl, ⟨rfl, ⟨rfl, ⟨rfl, trivial⟩⟩⟩⟩ rfl (zt_X7_index_p38 hL  h)
    · skip
      refine kz_aload_nv (M := kt_M270) (x := w_p w 14 p1 3) kX7_index_c1.2.1 rfl ?_
      refine kz_nz0 (x := w_p w 14 p1 3) hxp3 ?_
      refine kz_gfi (M := kt_M270) (c := 14) (o := p3) kX7_index_c1.2.2.1 wf_X7_61 (.inr (by exact hlp3)) ?_
      refine kz_ic (M := kt_M270) 1 kX7_index_c1.2.2.2.1 rfl ?_
      refine kz_icmp_ne (M := kt_M270) kX7_index_c1.2.2.2.2.1 (t := 34) rfl h (fun h => ?_) (fun h => ?_)
      · skip
        exact kz_weak [(0, .ref (w_adr E.2.1 6 0)), (1, va_rf (x1)), (2, va_rf (x2)), (3, va_rf (w_p w 14 p1 3))] ⟨rfl, ⟨rfl, ⟨rfl, ⟨rfl, trivial⟩⟩⟩⟩ rfl (zt_X7_index_p34 hL  h)
      · skip
        refine kz_aload_nv (M := kt_M270) (x := w_p w 14 p1 3) kX7_index_c1.2.2.2.2.2.1 rfl ?_
        refine kz_nz0 (x := w_p w 14 p1 3) hxp3 ?_
        refine kz_gfi (M := kt_M270) (c := 14) (o := p3) kX7_index_c1.2.2.2.2.2.2.1 wf_X7_64 (.inr (by exact hlp3)) ?_
        refine kz_if_eq (M := kt_M270) kX7_index_c1.2.2.2.2.2.2.2.1 (t := 38) rfl h (fun h => ?_) (fun h => ?_)
        · skip
          exact kz_weak [(0, .ref (w_adr E.2.1 6 0)), (1, va_rf (x1)), (2, va_rf (x2)), (3, va_rf (w_p w 14 p1 3))] ⟨rfl, ⟨rfl, ⟨rfl, ⟨rfl, trivial⟩⟩⟩⟩ rfl (zt_X7_index_p38 hL  h)
        · skip
          exact kz_weak [(0, .ref (w_adr E.2.1 6 0)), (1, va_rf (x1)), (2, va_rf (x2)), (3, va_rf (w_p w 14 p1 3))] ⟨rfl, ⟨rfl, ⟨rfl, ⟨rfl, trivial⟩⟩⟩⟩ rfl (zt_X7_index_p34 hL  h)
def zL_X7_arguments_p27 (E : zE) (L : Nat) (Q : kx_Rs → wS → Prop) (x1 : Option Nat) (x2 : Option Nat) (x3 : Option Nat) (w : wS) : Prop := kzE E L kt_M259 27 [(0, .ref (w_adr E.2.1 6 0)), (1, va_rf (x1)), (2, va_rf (x2)), (3, va_rf (x3))] [] w Q
def zb_X7_arguments_p167 (E : zE) (L : Nat) (Q : kx_Rs → wS → Prop) (w : wS) : Prop := Q (.inl none) w
theorem zt_X7_arguments_p167 {E : zE} {L : Nat} {Q : kx_Rs → wS → Prop} {w : wS} (hL : 26 ≤ L) (h : zb_X7_arguments_p167 E L Q  w) : kzE E L kt_M259 167 [(0, .ref (w_adr E.2.1 6 0))] [] w Q := by
  unfold zb_X7_arguments_p167 at h
  exact kz_ret (M := kt_M259) kX7_arguments_c10.1 rfl h
def zb_X7_arguments_p146 (E : zE) (L : Nat) (Q : kx_Rs → wS → Prop) (x1 : Option Nat) (x2 : Option Nat) (y0 : Option Nat) (w : wS) : Prop := zL_X7_arguments_p27 E L Q x1 x2 y0 w
theorem zt_X7_arguments_p146 {E : zE} {L : Nat} {Q : kx_Rs → wS → Prop} {x1 : Option Nat} {x2 : Option Nat} {y0 : Option Nat} {w : wS} (hL : 26 ≤ L) (h : zb_X7_arguments_p146 E L Q x1 x2 y0 w) : kzE E L kt_M259 146 [(0, .ref (w_adr E.2.1 6 0)), (1, va_rf (x1)), (2, va_rf (x2))] [va_rf (y0)] w Q := by
  unfold zb_X7_arguments_p146 at h
  refine kz_stv_n (M := kt_M259) (x := y0) [(0, .ref (w_adr E.2.1 6 0)), (1, va_rf (x1)), (2, va_rf (x2))] kX7_arguments_c8.2.2.2.2.2.2.1 (Nat.le_of_ble_eq_true rfl) ⟨⟨rfl, rfl, .inl rfl⟩, ⟨⟨rfl, rfl, .inl rfl⟩, ⟨⟨rfl, rfl, .inr (w_cat (x2))⟩, trivial⟩⟩⟩ rfl ?_
  refine kz_goto (M := kt_M259) kX7_arguments_c8.2.2.2.2.2.2.2.1 (t := 27) rfl ?_
  exact kz_weak [(0, .ref (w_adr E.2.1 6 0)), (1, va_rf (x1)), (2, va_rf (x2)), (3, va_rf (y0))] ⟨rfl, ⟨rfl, ⟨rfl, ⟨rfl, trivial⟩⟩⟩⟩ rfl h
def zb_X7_arguments_p134 (E : zE) (L : Nat) (Q : kx_Rs → wS → Prop) (x1 : Option Nat) (x2 : Option Nat) (x3 : Option Nat) (w : wS) : Prop := (if ¬ x3 = none then (∃ p1, x3 = some p1 ∧ w_l w E.2.1 14 p1 ∧ zb_X7_arguments_p146 E L Q x1 x2 (w_p w 14 p1 7) w) else zb_X7_arguments_p146 E L Q x1 x2 none w)
theorem zt_X7_arguments_p134 {E : zE} {L : Nat} {Q : kx_Rs → wS → Prop} {x1 : Option Nat} {x2 : Option Nat} {x3 : Option Nat} {w : wS} (hL : 26 ≤ L) (h : zb_X7_arguments_p134 E L Q x1 x2 x3 w) : kzE E L kt_M259 134 [(0, .ref (w_adr E.2.1 6 0)), (1, va_rf (x1)), (2, va_rf (x2)), (3, va_rf (x3))] [] w Q := by
  unfold zb_X7_arguments_p134 at h
  refine kz_aload_nv (M := kt_M259) (x := x3) kX7_arguments_c8.1 rfl ?_
  refine kz_ifnonnull (M := kt_M259) (x := x3) kX7_arguments_c8.2.1 (t := 142) rfl h (fun h => ?_) (fun h => ?_)
  · skip
    refine kz_aload_nv (M := kt_M259) (x := x3) kX7_arguments_c8.2.2.2.2.1 rfl ?_
    obtain ⟨p1, hxp1, hlp1, h⟩ := h
    refine kz_nz0 (x := x3) hxp1 ?_
    refine kz_gfp (M := kt_M259) (c := 14) (o := p1) kX7_arguments_c8.2.2.2.2.2.1 wf_X7_43 (.inr (by exact hlp1)) ?_
    exact kz_weak [(0, .ref (w_adr E.2.1 6 0)), (1, va_rf (x1)), (2, va_rf (x2))] ⟨rfl, ⟨rfl, ⟨rfl, trivial⟩⟩⟩ rfl (zt_X7_arguments_p146 hL  h)
  · skip
    refine kz_null (M := kt_M259) kX7_arguments_c8.2.2.1 ?_
    refine kz_goto (M := kt_M259) kX7_arguments_c8.2.2.2.1 (t := 146) rfl ?_
    exact kz_weak [(0, .ref (w_adr E.2.1 6 0)), (1, va_rf (x1)), (2, va_rf (x2))] ⟨rfl, ⟨rfl, ⟨rfl, trivial⟩⟩⟩ rfl (zt_X7_arguments_p146 hL  h)
def zb_X7_arguments_p105 (E : zE) (L : Nat) (Q : kx_Rs → wS → Prop) (x1 : Option Nat) (x2 : Option Nat) (x3 : Option Nat) (w : wS) : Prop := (∃ p1, x2 = some p1 ∧ w_l w E.2.1 14 p1 ∧ (if ¬ x3 = none then zb_X7_arguments_p134 E L Q x1 (w_p w 14 p1 7) x3 w else (∃ p2, x1 = some p2 ∧ w_l w E.2.1 14 p2 ∧ (if (w_p w 14 p2 16) = none then zb_X7_arguments_p134 E L Q x1 (w_p w 14 p1 7) x3 w else zw E (L - 22) kt_M56 [.ref (w_adr E.2.1 2 0), .int 8, .int (w_i w 14 p2 2)] w (wk0 (fun w3 => wle w w3 → zb_X7_arguments_p134 E L Q x1 (w_p w 14 p1 7) x3 w3) (fun e w => Q (.inr e) w))))))
theorem zt_X7_arguments_p105 {E : zE} {L : Nat} {Q : kx_Rs → wS → Prop} {x1 : Option Nat} {x2 : Option Nat} {x3 : Option Nat} {w : wS} (hL : 26 ≤ L) (h : zb_X7_arguments_p105 E L Q x1 x2 x3 w) : kzE E L kt_M259 105 [(0, .ref (w_adr E.2.1 6 0)), (1, va_rf (x1)), (2, va_rf (x2)), (3, va_rf (x3))] [] w Q := by
  unfold zb_X7_arguments_p105 at h
  refine kz_aload_nv (M := kt_M259) (x := x2) kX7_arguments_c6.2.2.1 rfl ?_
  obtain ⟨p1, hxp1, hlp1, h⟩ := h
  refine kz_nz0 (x := x2) hxp1 ?_
  refine kz_gfp (M := kt_M259) (c := 14) (o := p1) kX7_arguments_c6.2.2.2.1 wf_X7_43 (.inr (by exact hlp1)) ?_
  refine kz_stv_n (M := kt_M259) (x := w_p w 14 p1 7) [(0, .ref (w_adr E.2.1 6 0)), (1, va_rf (x1)), (3, va_rf (x3))] kX7_arguments_c6.2.2.2.2.1 (Nat.le_of_ble_eq_true rfl) ⟨⟨rfl, rfl, .inl rfl⟩, ⟨⟨rfl, rfl, .inr (w_cat (x1))⟩, ⟨⟨rfl, rfl, .inl rfl⟩, trivial⟩⟩⟩ rfl ?_
  refine kz_aload_nv (M := kt_M259) (x := x3) kX7_arguments_c6.2.2.2.2.2.1 rfl ?_
  refine kz_ifnonnull (M := kt_M259) (x := x3) kX7_arguments_c6.2.2.2.2.2.2.1 (t := 134) rfl h (fun h => ?_) (fun h => ?_)
  · skip
    exact kz_weak [(0, .ref (w_adr E.2.1 6 0)), (1, va_rf (x1)), (2, va_rf (w_p w 14 p1 7)), (3, va_rf (x3))] ⟨rfl, ⟨rfl, ⟨rfl, ⟨rfl, trivial⟩⟩⟩⟩ rfl (zt_X7_arguments_p134 hL  h)
  · skip
    refine kz_aload_nv (M := kt_M259) (x := x1) kX7_arguments_c6.2.2.2.2.2.2.2.1 rfl ?_
    obtain ⟨p2, hxp2, hlp2, h⟩ := h
    refine kz_nz0 (x := x1) hxp2 ?_
    refine kz_gfp (M := kt_M259) (c := 14) (o := p2) kX7_arguments_c7.1 wf_X7_103 (.inr (by exact hlp2)) ?_
    refine kz_ifnull (M := kt_M259) (x := w_p w 14 p2 16) kX7_arguments_c7.2.1 (t := 134) rfl h (fun h => ?_) (fun h => ?_)
    · skip
      exact kz_weak [(0, .ref (w_adr E.2.1 6 0)), (1, va_rf (x1)), (2, va_rf (w_p w 14 p1 7)), (3, va_rf (x3))] ⟨rfl, ⟨rfl, ⟨rfl, ⟨rfl, trivial⟩⟩⟩⟩ rfl (zt_X7_arguments_p134 hL  h)
    · skip
      refine kz_aload_n (M := kt_M259) kX7_arguments_c7.2.2.1 rfl ?_
      refine kz_gfc (M := kt_M259) (x := 8) (c := 6) (o := 0) kX7_arguments_c7.2.2.2.1 wf_X7_15 (.inl rfl) ?_
      refine kz_bi (M := kt_M259) 8 kX7_arguments_c7.2.2.2.2.1 rfl ?_
      refine kz_aload_nv (M := kt_M259) (x := x1) kX7_arguments_c7.2.2.2.2.2.1 rfl ?_
      refine kz_nz0 (x := x1) hxp2 ?_
      refine kz_gfi (M := kt_M259) (c := 14) (o := p2) kX7_arguments_c7.2.2.2.2.2.2.1 wf_X7_52 (.inr (by exact hlp2)) ?_
      refine kz_cv0 (M := kt_M259) (c := 2) (o := 0) (As := [.int 8, .int (w_i w 14 p2 2)]) (rest := []) kX7_arguments_c7.2.2.2.2.2.2.2.1 wl_X7_55 wMv_56 rfl (.inl rfl) rfl (Nat.le_trans (Nat.le_of_ble_eq_true rfl) hL) (Nat.le_of_ble_eq_true rfl) (Nat.le_of_ble_eq_true rfl) h (fun w3 hle h => ?_) (fun _ _ _ h => kzx_no rfl h)
      have h := h hle
      have hlp1 := w_l_le hlp1 hle
      have hlp2 := w_l_le hlp2 hle
      exact kz_weak [(0, .ref (w_adr E.2.1 6 0)), (1, va_rf (x1)), (2, va_rf (w_p w 14 p1 7)), (3, va_rf (x3))] ⟨rfl, ⟨rfl, ⟨rfl, ⟨rfl, trivial⟩⟩⟩⟩ rfl (zt_X7_arguments_p134 hL  h)
def zb_X7_arguments_p93 (E : zE) (L : Nat) (Q : kx_Rs → wS → Prop) (x1 : Option Nat) (x2 : Option Nat) (x3 : Option Nat) (x4 : Int32) (w : wS) : Prop := (if x3 = none then zb_X7_arguments_p105 E L Q x1 x2 x3 w else zw E (L - 26) kt_M258 [.ref (w_adr E.2.1 6 0), va_rf (x2), va_rf (x3), .int x4] w (wk0 (fun w1 => wle w w1 → zb_X7_arguments_p105 E L Q x1 x2 x3 w1) (fun e w => Q (.inr e) w)))
theorem zt_X7_arguments_p93 {E : zE} {L : Nat} {Q : kx_Rs → wS → Prop} {x1 : Option Nat} {x2 : Option Nat} {x3 : Option Nat} {x4 : Int32} {w : wS} (hL : 26 ≤ L) (h : zb_X7_arguments_p93 E L Q x1 x2 x3 x4 w) : kzE E L kt_M259 93 [(0, .ref (w_adr E.2.1 6 0)), (1, va_rf (x1)), (2, va_rf (x2)), (3, va_rf (x3)), (4, .int x4)] [] w Q := by
  unfold zb_X7_arguments_p93 at h
  refine kz_aload_nv (M := kt_M259) (x := x3) kX7_arguments_c5.2.2.2.1 rfl ?_
  refine kz_ifnull (M := kt_M259) (x := x3) kX7_arguments_c5.2.2.2.2.1 (t := 105) rfl h (fun h => ?_) (fun h => ?_)
  · skip
    exact kz_weak [(0, .ref (w_adr E.2.1 6 0)), (1, va_rf (x1)), (2, va_rf (x2)), (3, va_rf (x3))] ⟨rfl, ⟨rfl, ⟨rfl, ⟨rfl, trivial⟩⟩⟩⟩ rfl (zt_X7_arguments_p105 hL  h)
  · skip
    refine kz_aload_n (M := kt_M259) kX7_arguments_c5.2.2.2.2.2.1 rfl ?_
    refine kz_aload_nv (M := kt_M259) (x := x2) kX7_arguments_c5.2.2.2.2.2.2.1 rfl ?_
    refine kz_aload_nv (M := kt_M259) (x := x3) kX7_arguments_c5.2.2.2.2.2.2.2.1 rfl ?_
    refine kz_iload (M := kt_M259) kX7_arguments_c6.1 rfl ?_
    refine kz_cv0 (M := kt_M259) (c := 6) (o := 0) (As := [va_rf (x2), va_rf (x3), .int x4]) (rest := []) kX7_arguments_c6.2.1 wl_X7_270 wMv_258 rfl (.inl rfl) rfl (Nat.le_trans (Nat.le_of_ble_eq_true rfl) hL) (by simp [lg_sl, w_cat, z_ci, z_cr, z_cl, z_cn, kt_M258]) (Nat.le_of_ble_eq_true rfl) h (fun w1 hle h => ?_) (fun _ _ _ h => kzx_no rfl h)
    have h := h hle
    exact kz_weak [(0, .ref (w_adr E.2.1 6 0)), (1, va_rf (x1)), (2, va_rf (x2)), (3, va_rf (x3))] ⟨rfl, ⟨rfl, ⟨rfl, ⟨rfl, trivial⟩⟩⟩⟩ rfl (zt_X7_arguments_p105 hL  h)
def zb_X7_arguments_p73 (E : zE) (L : Nat) (Q : kx_Rs → wS → Prop) (x1 : Option Nat) (x2 : Option Nat) (x3 : Option Nat) (y0 : Int32) (w : wS) : Prop := (if y0 = 0 then zw E (L - 21) kt_M266 [.ref (w_adr E.2.1 6 0), va_rf (x2)] w (wk0 (fun w1 => wle w w1 → zb_X7_arguments_p93 E L Q x1 x2 x3 y0 w1) (fun e w => Q (.inr e) w)) else zw E (L - 22) kt_M279 [.ref (w_adr E.2.1 6 0), va_rf (x2)] w (wk0 (fun w3 => wle w w3 → zb_X7_arguments_p93 E L Q x1 x2 x3 y0 w3) (fun e w => Q (.inr e) w)))
theorem zt_X7_arguments_p73 {E : zE} {L : Nat} {Q : kx_Rs → wS → Prop} {x1 : Option Nat} {x2 : Option Nat} {x3 : Option Nat} {y0 : Int32} {w : wS} (hL : 26 ≤ L) (h : zb_X7_arguments_p73 E L Q x1 x2 x3 y0 w) : kzE E L kt_M259 73 [(0, .ref (w_adr E.2.1 6 0)), (1, va_rf (x1)), (2, va_rf (x2)), (3, va_rf (x3))] [.int y0] w Q := by
  unfold zb_X7_arguments_p73 at h
  refine kz_sti (M := kt_M259) [(0, .ref (w_adr E.2.1 6 0)), (1, va_rf (x1)), (2, va_rf (x2)), (3, va_rf (x3))] kX7_arguments_c4.2.1 (Nat.le_of_ble_eq_true rfl) ⟨⟨rfl, rfl, .inl rfl⟩, ⟨⟨rfl, rfl, .inl rfl⟩, ⟨⟨rfl, rfl, .inl rfl⟩, ⟨⟨rfl, rfl, .inr (w_cat (x3))⟩, trivial⟩⟩⟩⟩ rfl ?_
  refine kz_iload (M := kt_M259) kX7_arguments_c4.2.2.1 rfl ?_
  refine kz_if_eq (M := kt_M259) kX7_arguments_c4.2.2.2.1 (t := 88) rfl h (fun h => ?_) (fun h => ?_)
  · skip
    refine kz_aload_n (M := kt_M259) kX7_arguments_c5.1 rfl ?_
    refine kz_aload_nv (M := kt_M259) (x := x2) kX7_arguments_c5.2.1 rfl ?_
    refine kz_cv0 (M := kt_M259) (c := 6) (o := 0) (As := [va_rf (x2)]) (rest := []) kX7_arguments_c5.2.2.1 wl_X7_71 wMv_266 rfl (.inl rfl) rfl (Nat.le_trans (Nat.le_of_ble_eq_true rfl) hL) (by simp [lg_sl, w_cat, z_ci, z_cr, z_cl, z_cn, kt_M266]) (Nat.le_of_ble_eq_true rfl) h (fun w1 hle h => ?_) (fun _ _ _ h => kzx_no rfl h)
    have h := h hle
    exact kz_weak [(0, .ref (w_adr E.2.1 6 0)), (1, va_rf (x1)), (2, va_rf (x2)), (3, va_rf (x3)), (4, .int y0)] ⟨rfl, ⟨rfl, ⟨rfl, ⟨rfl, ⟨rfl, trivial⟩⟩⟩⟩⟩ rfl (zt_X7_arguments_p93 hL  h)
  · skip
    refine kz_aload_n (M := kt_M259) kX7_arguments_c4.2.2.2.2.1 rfl ?_
    refine kz_aload_nv (M := kt_M259) (x := x2) kX7_arguments_c4.2.2.2.2.2.1 rfl ?_
    refine kz_cv0 (M := kt_M259) (c := 6) (o := 0) (As := [va_rf (x2)]) (rest := []) kX7_arguments_c4.2.2.2.2.2.2.1 wl_X7_138 wMv_279 rfl (.inl rfl) rfl (Nat.le_trans (Nat.le_of_ble_eq_true rfl) hL) (by simp [lg_sl, w_cat, z_ci, z_cr, z_cl, z_cn, kt_M279]) (Nat.le_of_ble_eq_true rfl) h (fun w3 hle h => ?_) (fun _ _ _ h => kzx_no rfl h)
    have h := h hle
    refine kz_goto (M := kt_M259) kX7_arguments_c4.2.2.2.2.2.2.2.1 (t := 93) rfl ?_
    exact kz_weak [(0, .ref (w_adr E.2.1 6 0)), (1, va_rf (x1)), (2, va_rf (x2)), (3, va_rf (x3)), (4, .int y0)] ⟨rfl, ⟨rfl, ⟨rfl, ⟨rfl, ⟨rfl, trivial⟩⟩⟩⟩⟩ rfl (zt_X7_arguments_p93 hL  h)
def zb_X7_arguments_p72 (E : zE) (L : Nat) (Q : kx_Rs → wS → Prop) (x1 : Option Nat) (x2 : Option Nat) (x3 : Option Nat) (w : wS) : Prop := zb_X7_arguments_p73 E L Q x1 x2 x3 0 w
theorem zt_X7_arguments_p72 {E : zE} {L : Nat} {Q : kx_Rs → wS → Prop} {x1 : Option Nat} {x2 : Option Nat} {x3 : Option Nat} {w : wS} (hL : 26 ≤ L) (h : zb_X7_arguments_p72 E L Q x1 x2 x3 w) : kzE E L kt_M259 72 [(0, .ref (w_adr E.2.1 6 0)), (1, va_rf (x1)), (2, va_rf (x2)), (3, va_rf (x3))] [] w Q := by
  unfold zb_X7_arguments_p72 at h
  refine kz_ic (M := kt_M259) 0 kX7_arguments_c4.1 rfl ?_
  exact kz_weak [(0, .ref (w_adr E.2.1 6 0)), (1, va_rf (x1)), (2, va_rf (x2)), (3, va_rf (x3))] ⟨rfl, ⟨rfl, ⟨rfl, ⟨rfl, trivial⟩⟩⟩⟩ rfl (zt_X7_arguments_p73 hL  h)
def zb_X7_arguments_p27 (E : zE) (L : Nat) (Q : kx_Rs → wS → Prop) (x1 : Option Nat) (x2 : Option Nat) (x3 : Option Nat) (w : wS) : Prop := (if x2 = none then (if x3 = none then zb_X7_arguments_p167 E L Q w else (∃ p1, x1 = some p1 ∧ w_l w E.2.1 14 p1 ∧ zw E (L - 22) kt_M56 [.ref (w_adr E.2.1 2 0), .int 8, .int (w_i w 14 p1 2)] w (wk0 (fun w2 => wle w w2 → zb_X7_arguments_p167 E L Q w2) (fun e w => Q (.inr e) w)))) else (∃ p4, x2 = some p4 ∧ w_l w E.2.1 14 p4 ∧ (if ¬ w_p w 14 p4 0 = some (E.1.1 18) then zb_X7_arguments_p72 E L Q x1 x2 x3 w else (if ¬ w_i w 14 p4 12 = 0 then zb_X7_arguments_p72 E L Q x1 x2 x3 w else (if (w_p w 14 p4 16) = none then zb_X7_arguments_p72 E L Q x1 x2 x3 w else (∃ p5, w_p w 14 p4 16 = some p5 ∧ w_l w E.2.1 15 p5 ∧ (if ¬ w_p w 15 p5 0 = some (E.1.1 53) then zb_X7_arguments_p72 E L Q x1 x2 x3 w else zb_X7_arguments_p73 E L Q x1 x2 x3 1 w)))))))
theorem zt_X7_arguments_p27 {E : zE} {L : Nat} {Q : kx_Rs → wS → Prop} {x1 : Option Nat} {x2 : Option Nat} {x3 : Option Nat} {w : wS} (hL : 26 ≤ L) (h : zb_X7_arguments_p27 E L Q x1 x2 x3 w) : kzE E L kt_M259 27 [(0, .ref (w_adr E.2.1 6 0)), (1, va_rf (x1)), (2, va_rf (x2)), (3, va_rf (x3))] [] w Q := by
  unfold zb_X7_arguments_p27 at h
  refine kz_aload_nv (M := kt_M259) (x := x2) kX7_arguments_c1.2.2.2.2.2.1 rfl ?_
  refine kz_ifnull (M := kt_M259) (x := x2) kX7_arguments_c1.2.2.2.2.2.2.1 (t := 150) rfl h (fun h => ?_) (fun h => ?_)
  · skip
    refine kz_aload_nv (M := kt_M259) (x := x3) kX7_arguments_c9.1 rfl ?_
    refine kz_ifnull (M := kt_M259) (x := x3) kX7_arguments_c9.2.1 (t := 167) rfl h (fun h => ?_) (fun h => ?_)
    · skip
      exact kz_weak [(0, .ref (w_adr E.2.1 6 0))] ⟨rfl, trivial⟩ rfl (zt_X7_arguments_p167 hL  h)
    · skip
      refine kz_aload_n (M := kt_M259) kX7_arguments_c9.2.2.1 rfl ?_
      refine kz_gfc (M := kt_M259) (x := 8) (c := 6) (o := 0) kX7_arguments_c9.2.2.2.1 wf_X7_15 (.inl rfl) ?_
      refine kz_bi (M := kt_M259) 8 kX7_arguments_c9.2.2.2.2.1 rfl ?_
      refine kz_aload_nv (M := kt_M259) (x := x1) kX7_arguments_c9.2.2.2.2.2.1 rfl ?_
      obtain ⟨p1, hxp1, hlp1, h⟩ := h
      refine kz_nz0 (x := x1) hxp1 ?_
      refine kz_gfi (M := kt_M259) (c := 14) (o := p1) kX7_arguments_c9.2.2.2.2.2.2.1 wf_X7_52 (.inr (by exact hlp1)) ?_
      refine kz_cv0 (M := kt_M259) (c := 2) (o := 0) (As := [.int 8, .int (w_i w 14 p1 2)]) (rest := []) kX7_arguments_c9.2.2.2.2.2.2.2.1 wl_X7_55 wMv_56 rfl (.inl rfl) rfl (Nat.le_trans (Nat.le_of_ble_eq_true rfl) hL) (Nat.le_of_ble_eq_true rfl) (Nat.le_of_ble_eq_true rfl) h (fun w2 hle h => ?_) (fun _ _ _ h => kzx_no rfl h)
      have h := h hle
      have hlp1 := w_l_le hlp1 hle
      exact kz_weak [(0, .ref (w_adr E.2.1 6 0))] ⟨rfl, trivial⟩ rfl (zt_X7_arguments_p167 hL  h)
  · skip
    refine kz_aload_nv (M := kt_M259) (x := x2) kX7_arguments_c1.2.2.2.2.2.2.2.1 rfl ?_
    obtain ⟨p4, hxp4, hlp4, h⟩ := h
    refine kz_nz0 (x := x2) hxp4 ?_
    refine kz_gfp (M := kt_M259) (c := 14) (o := p4) kX7_arguments_c2.1 wf_X7_77 (.inr (by exact hlp4)) ?_
    refine kz_getsE (M := kt_M259) (v := va_rf (some (E.1.1 18))) kX7_arguments_c2.2.1 zs_X7_258 ?_
    refine kz_acmp_ne (M := kt_M259) (x := w_p w 14 p4 0) (y := some (E.1.1 18)) kX7_arguments_c2.2.2.1 (t := 72) rfl h (fun h => ?_) (fun h => ?_)
    · skip
      exact kz_weak [(0, .ref (w_adr E.2.1 6 0)), (1, va_rf (x1)), (2, va_rf (x2)), (3, va_rf (x3))] ⟨rfl, ⟨rfl, ⟨rfl, ⟨rfl, trivial⟩⟩⟩⟩ rfl (zt_X7_arguments_p72 hL  h)
    · skip
      refine kz_aload_nv (M := kt_M259) (x := x2) kX7_arguments_c2.2.2.2.1 rfl ?_
      refine kz_nz0 (x := x2) hxp4 ?_
      refine kz_gfi (M := kt_M259) (c := 14) (o := p4) kX7_arguments_c2.2.2.2.2.1 wf_X7_261 (.inr (by exact hlp4)) ?_
      refine kz_if_ne (M := kt_M259) kX7_arguments_c2.2.2.2.2.2.1 (t := 72) rfl h (fun h => ?_) (fun h => ?_)
      · skip
        exact kz_weak [(0, .ref (w_adr E.2.1 6 0)), (1, va_rf (x1)), (2, va_rf (x2)), (3, va_rf (x3))] ⟨rfl, ⟨rfl, ⟨rfl, ⟨rfl, trivial⟩⟩⟩⟩ rfl (zt_X7_arguments_p72 hL  h)
      · skip
        refine kz_aload_nv (M := kt_M259) (x := x2) kX7_arguments_c2.2.2.2.2.2.2.1 rfl ?_
        refine kz_nz0 (x := x2) hxp4 ?_
        refine kz_gfp (M := kt_M259) (c := 14) (o := p4) kX7_arguments_c2.2.2.2.2.2.2.2.1 wf_X7_103 (.inr (by exact hlp4)) ?_
        refine kz_ifnull (M := kt_M259) (x := w_p w 14 p4 16) kX7_arguments_c3.1 (t := 72) rfl h (fun h => ?_) (fun h => ?_)
        · skip
          exact kz_weak [(0, .ref (w_adr E.2.1 6 0)), (1, va_rf (x1)), (2, va_rf (x2)), (3, va_rf (x3))] ⟨rfl, ⟨rfl, ⟨rfl, ⟨rfl, trivial⟩⟩⟩⟩ rfl (zt_X7_arguments_p72 hL  h)
        · skip
          refine kz_aload_nv (M := kt_M259) (x := x2) kX7_arguments_c3.2.1 rfl ?_
          refine kz_nz0 (x := x2) hxp4 ?_
          refine kz_gfp (M := kt_M259) (c := 14) (o := p4) kX7_arguments_c3.2.2.1 wf_X7_103 (.inr (by exact hlp4)) ?_
          obtain ⟨p5, hxp5, hlp5, h⟩ := h
          refine kz_nz0 (x := w_p w 14 p4 16) hxp5 ?_
          refine kz_gfp (M := kt_M259) (c := 15) (o := p5) kX7_arguments_c3.2.2.2.1 wf_X7_238 (.inr (by exact hlp5)) ?_
          refine kz_getsE (M := kt_M259) (v := va_rf (some (E.1.1 53))) kX7_arguments_c3.2.2.2.2.1 zs_X7_267 ?_
          refine kz_acmp_ne (M := kt_M259) (x := w_p w 15 p5 0) (y := some (E.1.1 53)) kX7_arguments_c3.2.2.2.2.2.1 (t := 72) rfl h (fun h => ?_) (fun h => ?_)
          · skip
            exact kz_weak [(0, .ref (w_adr E.2.1 6 0)), (1, va_rf (x1)), (2, va_rf (x2)), (3, va_rf (x3))] ⟨rfl, ⟨rfl, ⟨rfl, ⟨rfl, trivial⟩⟩⟩⟩ rfl (zt_X7_arguments_p72 hL  h)
          · skip
            refine kz_ic (M := kt_M259) 1 kX7_arguments_c3.2.2.2.2.2.2.1 rfl ?_
            refine kz_goto (M := kt_M259) kX7_arguments_c3.2.2.2.2.2.2.2.1 (t := 73) rfl ?_
            exact kz_weak [(0, .ref (w_adr E.2.1 6 0)), (1, va_rf (x1)), (2, va_rf (x2)), (3, va_rf (x3))] ⟨rfl, ⟨rfl, ⟨rfl, ⟨rfl, trivial⟩⟩⟩⟩ rfl (zt_X7_arguments_p73 hL  h)
def zb_X7_arguments_p26 (E : zE) (L : Nat) (Q : kx_Rs → wS → Prop) (x1 : Option Nat) (x2 : Option Nat) (y0 : Option Nat) (w : wS) : Prop := zL_X7_arguments_p27 E L Q x1 x2 y0 w
theorem zt_X7_arguments_p26 {E : zE} {L : Nat} {Q : kx_Rs → wS → Prop} {x1 : Option Nat} {x2 : Option Nat} {y0 : Option Nat} {w : wS} (hL : 26 ≤ L) (h : zb_X7_arguments_p26 E L Q x1 x2 y0 w) : kzE E L kt_M259 26 [(0, .ref (w_adr E.2.1 6 0)), (1, va_rf (x1)), (2, va_rf (x2))] [va_rf (y0)] w Q := by
  unfold zb_X7_arguments_p26 at h
  refine kz_stv_n (M := kt_M259) (x := y0) [(0, .ref (w_adr E.2.1 6 0)), (1, va_rf (x1)), (2, va_rf (x2))] kX7_arguments_c1.2.2.2.2.1 (Nat.le_of_ble_eq_true rfl) ⟨⟨rfl, rfl, .inl rfl⟩, ⟨⟨rfl, rfl, .inl rfl⟩, ⟨⟨rfl, rfl, .inr (w_cat (x2))⟩, trivial⟩⟩⟩ rfl ?_
  exact kz_weak [(0, .ref (w_adr E.2.1 6 0)), (1, va_rf (x1)), (2, va_rf (x2)), (3, va_rf (y0))] ⟨rfl, ⟨rfl, ⟨rfl, ⟨rfl, trivial⟩⟩⟩⟩ rfl h
def zb_X7_arguments_p0 (E : zE) (L : Nat) (Q : kx_Rs → wS → Prop) (x1 : Option Nat) (w : wS) : Prop := (∃ p1, x1 = some p1 ∧ w_l w E.2.1 14 p1 ∧ (if ¬ (w_p w 14 p1 16) = none then (∃ p2, w_p w 14 p1 16 = some p2 ∧ w_l w E.2.1 15 p2 ∧ (∃ p3, w_p w 15 p2 19 = some p3 ∧ w_l w E.2.1 14 p3 ∧ zb_X7_arguments_p26 E L Q x1 (w_p w 14 p1 4) (w_p w 14 p3 3) w)) else zb_X7_arguments_p26 E L Q x1 (w_p w 14 p1 4) none w))
theorem zt_X7_arguments_p0 {E : zE} {L : Nat} {Q : kx_Rs → wS → Prop} {x1 : Option Nat} {w : wS} (hL : 26 ≤ L) (h : zb_X7_arguments_p0 E L Q x1 w) : kzE E L kt_M259 0 [(0, .ref (w_adr E.2.1 6 0)), (1, va_rf (x1))] [] w Q := by
  unfold zb_X7_arguments_p0 at h
  refine kz_aload_nv (M := kt_M259) (x := x1) kX7_arguments_c0.1 rfl ?_
  obtain ⟨p1, hxp1, hlp1, h⟩ := h
  refine kz_nz0 (x := x1) hxp1 ?_
  refine kz_gfp (M := kt_M259) (c := 14) (o := p1) kX7_arguments_c0.2.1 wf_X7_46 (.inr (by exact hlp1)) ?_
  refine kz_stv_n (M := kt_M259) (x := w_p w 14 p1 4) [(0, .ref (w_adr E.2.1 6 0)), (1, va_rf (x1))] kX7_arguments_c0.2.2.1 (Nat.le_of_ble_eq_true rfl) ⟨⟨rfl, rfl, .inl rfl⟩, ⟨⟨rfl, rfl, .inr (w_cat (x1))⟩, trivial⟩⟩ rfl ?_
  refine kz_aload_nv (M := kt_M259) (x := x1) kX7_arguments_c0.2.2.2.1 rfl ?_
  refine kz_nz0 (x := x1) hxp1 ?_
  refine kz_gfp (M := kt_M259) (c := 14) (o := p1) kX7_arguments_c0.2.2.2.2.1 wf_X7_103 (.inr (by exact hlp1)) ?_
  refine kz_ifnonnull (M := kt_M259) (x := w_p w 14 p1 16) kX7_arguments_c0.2.2.2.2.2.1 (t := 16) rfl h (fun h => ?_) (fun h => ?_)
  · skip
    refine kz_aload_nv (M := kt_M259) (x := x1) kX7_arguments_c1.1 rfl ?_
    refine kz_nz0 (x := x1) hxp1 ?_
    refine kz_gfp (M := kt_M259) (c := 14) (o := p1) kX7_arguments_c1.2.1 wf_X7_103 (.inr (by exact hlp1)) ?_
    obtain ⟨p2, hxp2, hlp2, h⟩ := h
    refine kz_nz0 (x := w_p w 14 p1 16) hxp2 ?_
    refine kz_gfp (M := kt_M259) (c := 15) (o := p2) kX7_arguments_c1.2.2.1 wf_X7_264 (.inr (by exact hlp2)) ?_
    obtain ⟨p3, hxp3, hlp3, h⟩ := h
    refine kz_nz0 (x := w_p w 15 p2 19) hxp3 ?_
    refine kz_gfp (M := kt_M259) (c := 14) (o := p3) kX7_arguments_c1.2.2.2.1 wf_X7_34 (.inr (by exact hlp3)) ?_
    exact kz_weak [(0, .ref (w_adr E.2.1 6 0)), (1, va_rf (x1)), (2, va_rf (w_p w 14 p1 4))] ⟨rfl, ⟨rfl, ⟨rfl, trivial⟩⟩⟩ rfl (zt_X7_arguments_p26 hL  h)
  · skip
    refine kz_null (M := kt_M259) kX7_arguments_c0.2.2.2.2.2.2.1 ?_
    refine kz_goto (M := kt_M259) kX7_arguments_c0.2.2.2.2.2.2.2.1 (t := 26) rfl ?_
    exact kz_weak [(0, .ref (w_adr E.2.1 6 0)), (1, va_rf (x1)), (2, va_rf (w_p w 14 p1 4))] ⟨rfl, ⟨rfl, ⟨rfl, trivial⟩⟩⟩ rfl (zt_X7_arguments_p26 hL  h)
def zb_X7_argument_p182 (E : zE) (L : Nat) (Q : kx_Rs → wS → Prop) (w : wS) : Prop := Q (.inl none) w
theorem zt_X7_argument_p182 {E : zE} {L : Nat} {Q : kx_Rs → wS → Prop} {w : wS} (hL : 22 ≤ L) (h : zb_X7_argument_p182 E L Q  w) : kzE E L kt_M258 182 [(0, .ref (w_adr E.2.1 6 0))] [] w Q := by
  unfold zb_X7_argument_p182 at h
  exact kz_ret (M := kt_M258) kX7_argument_c10.1 rfl h
def zb_X7_argument_p169 (E : zE) (L : Nat) (Q : kx_Rs → wS → Prop) (x1 : Option Nat) (w : wS) : Prop := (∃ p1, x1 = some p1 ∧ w_l w E.2.1 14 p1 ∧ zw E (L - 22) kt_M56 [.ref (w_adr E.2.1 2 0), .int 7, .int (w_i w 14 p1 2)] w (wk0 (fun w2 => wle w w2 → zb_X7_argument_p182 E L Q w2) (fun e w => Q (.inr e) w)))
theorem zt_X7_argument_p169 {E : zE} {L : Nat} {Q : kx_Rs → wS → Prop} {x1 : Option Nat} {w : wS} (hL : 22 ≤ L) (h : zb_X7_argument_p169 E L Q x1 w) : kzE E L kt_M258 169 [(0, .ref (w_adr E.2.1 6 0)), (1, va_rf (x1))] [] w Q := by
  unfold zb_X7_argument_p169 at h
  refine kz_aload_n (M := kt_M258) kX7_argument_c9.2.2.1 rfl ?_
  refine kz_gfc (M := kt_M258) (x := 8) (c := 6) (o := 0) kX7_argument_c9.2.2.2.1 wf_X7_15 (.inl rfl) ?_
  refine kz_bi (M := kt_M258) 7 kX7_argument_c9.2.2.2.2.1 rfl ?_
  refine kz_aload_nv (M := kt_M258) (x := x1) kX7_argument_c9.2.2.2.2.2.1 rfl ?_
  obtain ⟨p1, hxp1, hlp1, h⟩ := h
  refine kz_nz0 (x := x1) hxp1 ?_
  refine kz_gfi (M := kt_M258) (c := 14) (o := p1) kX7_argument_c9.2.2.2.2.2.2.1 wf_X7_52 (.inr (by exact hlp1)) ?_
  refine kz_cv0 (M := kt_M258) (c := 2) (o := 0) (As := [.int 7, .int (w_i w 14 p1 2)]) (rest := []) kX7_argument_c9.2.2.2.2.2.2.2.1 wl_X7_55 wMv_56 rfl (.inl rfl) rfl (Nat.le_trans (Nat.le_of_ble_eq_true rfl) hL) (Nat.le_of_ble_eq_true rfl) (Nat.le_of_ble_eq_true rfl) h (fun w2 hle h => ?_) (fun _ _ _ h => kzx_no rfl h)
  have h := h hle
  have hlp1 := w_l_le hlp1 hle
  exact kz_weak [(0, .ref (w_adr E.2.1 6 0))] ⟨rfl, trivial⟩ rfl (zt_X7_argument_p182 hL  h)
def zb_X7_argument_p140 (E : zE) (L : Nat) (Q : kx_Rs → wS → Prop) (x1 : Option Nat) (x4 : Option Nat) (x6 : Int32) (w : wS) : Prop := (if x6 = 0 then zb_X7_argument_p169 E L Q x1 w else (∃ p1, x1 = some p1 ∧ w_l w E.2.1 14 p1 ∧ (∃ p2, x4 = some p2 ∧ w_l w E.2.1 15 p2 ∧ (if ¬ w_i w 14 p1 17 = w_i w 15 p2 5 then zb_X7_argument_p169 E L Q x1 w else (if w_i w 14 p1 20 = w_i w 15 p2 9 then zb_X7_argument_p182 E L Q w else zb_X7_argument_p169 E L Q x1 w)))))
theorem zt_X7_argument_p140 {E : zE} {L : Nat} {Q : kx_Rs → wS → Prop} {x1 : Option Nat} {x4 : Option Nat} {x6 : Int32} {w : wS} (hL : 22 ≤ L) (h : zb_X7_argument_p140 E L Q x1 x4 x6 w) : kzE E L kt_M258 140 [(0, .ref (w_adr E.2.1 6 0)), (1, va_rf (x1)), (4, va_rf (x4)), (6, .int x6)] [] w Q := by
  unfold zb_X7_argument_p140 at h
  refine kz_iload (M := kt_M258) kX7_argument_c7.2.2.2.2.2.2.1 rfl ?_
  refine kz_if_eq (M := kt_M258) kX7_argument_c7.2.2.2.2.2.2.2.1 (t := 169) rfl h (fun h => ?_) (fun h => ?_)
  · skip
    exact kz_weak [(0, .ref (w_adr E.2.1 6 0)), (1, va_rf (x1))] ⟨rfl, ⟨rfl, trivial⟩⟩ rfl (zt_X7_argument_p169 hL  h)
  · skip
    refine kz_aload_nv (M := kt_M258) (x := x1) kX7_argument_c8.1 rfl ?_
    obtain ⟨p1, hxp1, hlp1, h⟩ := h
    refine kz_nz0 (x := x1) hxp1 ?_
    refine kz_gfi (M := kt_M258) (c := 14) (o := p1) kX7_argument_c8.2.1 wf_X7_61 (.inr (by exact hlp1)) ?_
    refine kz_aloadv (M := kt_M258) (x := x4) kX7_argument_c8.2.2.1 rfl ?_
    obtain ⟨p2, hxp2, hlp2, h⟩ := h
    refine kz_nz0 (x := x4) hxp2 ?_
    refine kz_gfi (M := kt_M258) (c := 15) (o := p2) kX7_argument_c8.2.2.2.1 wf_X7_134 (.inr (by exact hlp2)) ?_
    refine kz_icmp_ne (M := kt_M258) kX7_argument_c8.2.2.2.2.1 (t := 169) rfl h (fun h => ?_) (fun h => ?_)
    · skip
      exact kz_weak [(0, .ref (w_adr E.2.1 6 0)), (1, va_rf (x1))] ⟨rfl, ⟨rfl, trivial⟩⟩ rfl (zt_X7_argument_p169 hL  h)
    · skip
      refine kz_aload_nv (M := kt_M258) (x := x1) kX7_argument_c8.2.2.2.2.2.1 rfl ?_
      refine kz_nz0 (x := x1) hxp1 ?_
      refine kz_gfi (M := kt_M258) (c := 14) (o := p1) kX7_argument_c8.2.2.2.2.2.2.1 wf_X7_64 (.inr (by exact hlp1)) ?_
      refine kz_aloadv (M := kt_M258) (x := x4) kX7_argument_c8.2.2.2.2.2.2.2.1 rfl ?_
      refine kz_nz0 (x := x4) hxp2 ?_
      refine kz_gfi (M := kt_M258) (c := 15) (o := p2) kX7_argument_c9.1 wf_X7_135 (.inr (by exact hlp2)) ?_
      refine kz_icmp_eq (M := kt_M258) kX7_argument_c9.2.1 (t := 182) rfl h (fun h => ?_) (fun h => ?_)
      · skip
        exact kz_weak [(0, .ref (w_adr E.2.1 6 0))] ⟨rfl, trivial⟩ rfl (zt_X7_argument_p182 hL  h)
      · skip
        exact kz_weak [(0, .ref (w_adr E.2.1 6 0)), (1, va_rf (x1))] ⟨rfl, ⟨rfl, trivial⟩⟩ rfl (zt_X7_argument_p169 hL  h)
def zb_X7_argument_p125 (E : zE) (L : Nat) (Q : kx_Rs → wS → Prop) (x1 : Option Nat) (x4 : Option Nat) (y0 : Int32) (w : wS) : Prop := (∃ p1, x1 = some p1 ∧ w_l w E.2.1 14 p1 ∧ (if ¬ w_i w 14 p1 17 = 0 then zb_X7_argument_p140 E L Q x1 x4 y0 w else (if y0 = 0 then zb_X7_argument_p140 E L Q x1 x4 y0 w else Q (.inl none) w)))
theorem zt_X7_argument_p125 {E : zE} {L : Nat} {Q : kx_Rs → wS → Prop} {x1 : Option Nat} {x4 : Option Nat} {y0 : Int32} {w : wS} (hL : 22 ≤ L) (h : zb_X7_argument_p125 E L Q x1 x4 y0 w) : kzE E L kt_M258 125 [(0, .ref (w_adr E.2.1 6 0)), (1, va_rf (x1)), (4, va_rf (x4))] [.int y0] w Q := by
  unfold zb_X7_argument_p125 at h
  refine kz_sti (M := kt_M258) [(0, .ref (w_adr E.2.1 6 0)), (1, va_rf (x1)), (4, va_rf (x4))] kX7_argument_c6.2.2.2.2.2.2.2.1 (Nat.le_of_ble_eq_true rfl) ⟨⟨rfl, rfl, .inl rfl⟩, ⟨⟨rfl, rfl, .inl rfl⟩, ⟨⟨rfl, rfl, .inl rfl⟩, trivial⟩⟩⟩ rfl ?_
  refine kz_aload_nv (M := kt_M258) (x := x1) kX7_argument_c7.1 rfl ?_
  obtain ⟨p1, hxp1, hlp1, h⟩ := h
  refine kz_nz0 (x := x1) hxp1 ?_
  refine kz_gfi (M := kt_M258) (c := 14) (o := p1) kX7_argument_c7.2.1 wf_X7_61 (.inr (by exact hlp1)) ?_
  refine kz_if_ne (M := kt_M258) kX7_argument_c7.2.2.1 (t := 140) rfl h (fun h => ?_) (fun h => ?_)
  · skip
    exact kz_weak [(0, .ref (w_adr E.2.1 6 0)), (1, va_rf (x1)), (4, va_rf (x4)), (6, .int y0)] ⟨rfl, ⟨rfl, ⟨rfl, ⟨rfl, trivial⟩⟩⟩⟩ rfl (zt_X7_argument_p140 hL  h)
  · skip
    refine kz_iload (M := kt_M258) kX7_argument_c7.2.2.2.1 rfl ?_
    refine kz_if_eq (M := kt_M258) kX7_argument_c7.2.2.2.2.1 (t := 140) rfl h (fun h => ?_) (fun h => ?_)
    · skip
      exact kz_weak [(0, .ref (w_adr E.2.1 6 0)), (1, va_rf (x1)), (4, va_rf (x4)), (6, .int y0)] ⟨rfl, ⟨rfl, ⟨rfl, ⟨rfl, trivial⟩⟩⟩⟩ rfl (zt_X7_argument_p140 hL  h)
    · skip
      exact kz_ret (M := kt_M258) kX7_argument_c7.2.2.2.2.2.1 rfl h
def zb_X7_argument_p124 (E : zE) (L : Nat) (Q : kx_Rs → wS → Prop) (x1 : Option Nat) (x4 : Option Nat) (w : wS) : Prop := zb_X7_argument_p125 E L Q x1 x4 0 w
theorem zt_X7_argument_p124 {E : zE} {L : Nat} {Q : kx_Rs → wS → Prop} {x1 : Option Nat} {x4 : Option Nat} {w : wS} (hL : 22 ≤ L) (h : zb_X7_argument_p124 E L Q x1 x4 w) : kzE E L kt_M258 124 [(0, .ref (w_adr E.2.1 6 0)), (1, va_rf (x1)), (4, va_rf (x4))] [] w Q := by
  unfold zb_X7_argument_p124 at h
  refine kz_ic (M := kt_M258) 0 kX7_argument_c6.2.2.2.2.2.2.1 rfl ?_
  exact kz_weak [(0, .ref (w_adr E.2.1 6 0)), (1, va_rf (x1)), (4, va_rf (x4))] ⟨rfl, ⟨rfl, ⟨rfl, trivial⟩⟩⟩ rfl (zt_X7_argument_p125 hL  h)
def zb_X7_argument_p120 (E : zE) (L : Nat) (Q : kx_Rs → wS → Prop) (x1 : Option Nat) (x4 : Option Nat) (w : wS) : Prop := zb_X7_argument_p125 E L Q x1 x4 1 w
theorem zt_X7_argument_p120 {E : zE} {L : Nat} {Q : kx_Rs → wS → Prop} {x1 : Option Nat} {x4 : Option Nat} {w : wS} (hL : 22 ≤ L) (h : zb_X7_argument_p120 E L Q x1 x4 w) : kzE E L kt_M258 120 [(0, .ref (w_adr E.2.1 6 0)), (1, va_rf (x1)), (4, va_rf (x4))] [] w Q := by
  unfold zb_X7_argument_p120 at h
  refine kz_ic (M := kt_M258) 1 kX7_argument_c6.2.2.2.2.1 rfl ?_
  refine kz_goto (M := kt_M258) kX7_argument_c6.2.2.2.2.2.1 (t := 125) rfl ?_
  exact kz_weak [(0, .ref (w_adr E.2.1 6 0)), (1, va_rf (x1)), (4, va_rf (x4))] ⟨rfl, ⟨rfl, ⟨rfl, trivial⟩⟩⟩ rfl (zt_X7_argument_p125 hL  h)
def zb_X7_argument_p89 (E : zE) (L : Nat) (Q : kx_Rs → wS → Prop) (w : wS) : Prop := Q (.inl none) w
theorem zt_X7_argument_p89 {E : zE} {L : Nat} {Q : kx_Rs → wS → Prop} {w : wS} (hL : 22 ≤ L) (h : zb_X7_argument_p89 E L Q  w) : kzE E L kt_M258 89 [(0, .ref (w_adr E.2.1 6 0))] [] w Q := by
  unfold zb_X7_argument_p89 at h
  exact kz_ret (M := kt_M258) kX7_argument_c4.2.2.2.2.2.2.2.1 rfl h
def zb_X7_argument_p76 (E : zE) (L : Nat) (Q : kx_Rs → wS → Prop) (x1 : Option Nat) (w : wS) : Prop := (∃ p1, x1 = some p1 ∧ w_l w E.2.1 14 p1 ∧ zw E (L - 22) kt_M56 [.ref (w_adr E.2.1 2 0), .int 7, .int (w_i w 14 p1 2)] w (wk0 (fun w2 => wle w w2 → zb_X7_argument_p89 E L Q w2) (fun e w => Q (.inr e) w)))
theorem zt_X7_argument_p76 {E : zE} {L : Nat} {Q : kx_Rs → wS → Prop} {x1 : Option Nat} {w : wS} (hL : 22 ≤ L) (h : zb_X7_argument_p76 E L Q x1 w) : kzE E L kt_M258 76 [(0, .ref (w_adr E.2.1 6 0)), (1, va_rf (x1))] [] w Q := by
  unfold zb_X7_argument_p76 at h
  refine kz_aload_n (M := kt_M258) kX7_argument_c4.2.1 rfl ?_
  refine kz_gfc (M := kt_M258) (x := 8) (c := 6) (o := 0) kX7_argument_c4.2.2.1 wf_X7_15 (.inl rfl) ?_
  refine kz_bi (M := kt_M258) 7 kX7_argument_c4.2.2.2.1 rfl ?_
  refine kz_aload_nv (M := kt_M258) (x := x1) kX7_argument_c4.2.2.2.2.1 rfl ?_
  obtain ⟨p1, hxp1, hlp1, h⟩ := h
  refine kz_nz0 (x := x1) hxp1 ?_
  refine kz_gfi (M := kt_M258) (c := 14) (o := p1) kX7_argument_c4.2.2.2.2.2.1 wf_X7_52 (.inr (by exact hlp1)) ?_
  refine kz_cv0 (M := kt_M258) (c := 2) (o := 0) (As := [.int 7, .int (w_i w 14 p1 2)]) (rest := []) kX7_argument_c4.2.2.2.2.2.2.1 wl_X7_55 wMv_56 rfl (.inl rfl) rfl (Nat.le_trans (Nat.le_of_ble_eq_true rfl) hL) (Nat.le_of_ble_eq_true rfl) (Nat.le_of_ble_eq_true rfl) h (fun w2 hle h => ?_) (fun _ _ _ h => kzx_no rfl h)
  have h := h hle
  have hlp1 := w_l_le hlp1 hle
  exact kz_weak [(0, .ref (w_adr E.2.1 6 0))] ⟨rfl, trivial⟩ rfl (zt_X7_argument_p89 hL  h)
def zb_X7_argument_p28 (E : zE) (L : Nat) (Q : kx_Rs → wS → Prop) (x1 : Option Nat) (x3 : Int32) (x4 : Option Nat) (y0 : Int32) (w : wS) : Prop := (∃ p1, x4 = some p1 ∧ w_l w E.2.1 15 p1 ∧ (if ¬ w_p w 15 p1 0 = some (E.1.1 53) then (if ¬ x3 = 0 then zb_X7_argument_p124 E L Q x1 x4 w else (if ¬ w_i w 15 p1 12 = 0 then zb_X7_argument_p120 E L Q x1 x4 w else (if y0 = 0 then zb_X7_argument_p124 E L Q x1 x4 w else (∃ p2, x1 = some p2 ∧ w_l w E.2.1 14 p2 ∧ (∃ p3, w_p w 14 p2 16 = some p3 ∧ w_l w E.2.1 15 p3 ∧ (if ¬ w_p w 15 p3 0 = some (E.1.1 54) then zb_X7_argument_p124 E L Q x1 x4 w else zb_X7_argument_p120 E L Q x1 x4 w)))))) else (if x3 = 0 then zb_X7_argument_p76 E L Q x1 w else (∃ p4, x1 = some p4 ∧ w_l w E.2.1 14 p4 ∧ (if ¬ w_i w 14 p4 11 = 0 then zb_X7_argument_p89 E L Q w else zw E (L - 21) kt_M256 [va_rf (x4), va_rf (w_p w 14 p4 16)] w (wk1 (fun v6 w5 => wle w w5 → (if v6 = 0 then zb_X7_argument_p76 E L Q x1 w5 else (if w_i w5 14 p4 20 = w_i w5 15 p1 9 then zb_X7_argument_p89 E L Q w5 else zb_X7_argument_p76 E L Q x1 w5))) (fun e w => Q (.inr e) w)))))))
theorem zt_X7_argument_p28 {E : zE} {L : Nat} {Q : kx_Rs → wS → Prop} {x1 : Option Nat} {x3 : Int32} {x4 : Option Nat} {y0 : Int32} {w : wS} (hL : 22 ≤ L) (h : zb_X7_argument_p28 E L Q x1 x3 x4 y0 w) : kzE E L kt_M258 28 [(0, .ref (w_adr E.2.1 6 0)), (1, va_rf (x1)), (3, .int x3), (4, va_rf (x4))] [.int y0] w Q := by
  unfold zb_X7_argument_p28 at h
  refine kz_sti (M := kt_M258) [(0, .ref (w_adr E.2.1 6 0)), (1, va_rf (x1)), (3, .int x3), (4, va_rf (x4))] kX7_argument_c1.2.2.2.2.2.1 (Nat.le_of_ble_eq_true rfl) ⟨⟨rfl, rfl, .inl rfl⟩, ⟨⟨rfl, rfl, .inl rfl⟩, ⟨⟨rfl, rfl, .inl rfl⟩, ⟨⟨rfl, rfl, .inr (w_cat (x4))⟩, trivial⟩⟩⟩⟩ rfl ?_
  refine kz_aloadv (M := kt_M258) (x := x4) kX7_argument_c1.2.2.2.2.2.2.1 rfl ?_
  obtain ⟨p1, hxp1, hlp1, h⟩ := h
  refine kz_nz0 (x := x4) hxp1 ?_
  refine kz_gfp (M := kt_M258) (c := 15) (o := p1) kX7_argument_c1.2.2.2.2.2.2.2.1 wf_X7_238 (.inr (by exact hlp1)) ?_
  refine kz_getsE (M := kt_M258) (v := va_rf (some (E.1.1 53))) kX7_argument_c2.1 zs_X7_267 ?_
  refine kz_acmp_ne (M := kt_M258) (x := w_p w 15 p1 0) (y := some (E.1.1 53)) kX7_argument_c2.2.1 (t := 90) rfl h (fun h => ?_) (fun h => ?_)
  · skip
    refine kz_iload_n (M := kt_M258) kX7_argument_c5.1 rfl ?_
    refine kz_if_ne (M := kt_M258) kX7_argument_c5.2.1 (t := 124) rfl h (fun h => ?_) (fun h => ?_)
    · skip
      exact kz_weak [(0, .ref (w_adr E.2.1 6 0)), (1, va_rf (x1)), (4, va_rf (x4))] ⟨rfl, ⟨rfl, ⟨rfl, trivial⟩⟩⟩ rfl (zt_X7_argument_p124 hL  h)
    · skip
      refine kz_aloadv (M := kt_M258) (x := x4) kX7_argument_c5.2.2.1 rfl ?_
      refine kz_nz0 (x := x4) hxp1 ?_
      refine kz_gfi (M := kt_M258) (c := 15) (o := p1) kX7_argument_c5.2.2.2.1 wf_X7_274 (.inr (by exact hlp1)) ?_
      refine kz_if_ne (M := kt_M258) kX7_argument_c5.2.2.2.2.1 (t := 120) rfl h (fun h => ?_) (fun h => ?_)
      · skip
        exact kz_weak [(0, .ref (w_adr E.2.1 6 0)), (1, va_rf (x1)), (4, va_rf (x4))] ⟨rfl, ⟨rfl, ⟨rfl, trivial⟩⟩⟩ rfl (zt_X7_argument_p120 hL  h)
      · skip
        refine kz_iload (M := kt_M258) kX7_argument_c5.2.2.2.2.2.1 rfl ?_
        refine kz_if_eq (M := kt_M258) kX7_argument_c5.2.2.2.2.2.2.1 (t := 124) rfl h (fun h => ?_) (fun h => ?_)
        · skip
          exact kz_weak [(0, .ref (w_adr E.2.1 6 0)), (1, va_rf (x1)), (4, va_rf (x4))] ⟨rfl, ⟨rfl, ⟨rfl, trivial⟩⟩⟩ rfl (zt_X7_argument_p124 hL  h)
        · skip
          refine kz_aload_nv (M := kt_M258) (x := x1) kX7_argument_c5.2.2.2.2.2.2.2.1 rfl ?_
          obtain ⟨p2, hxp2, hlp2, h⟩ := h
          refine kz_nz0 (x := x1) hxp2 ?_
          refine kz_gfp (M := kt_M258) (c := 14) (o := p2) kX7_argument_c6.1 wf_X7_103 (.inr (by exact hlp2)) ?_
          obtain ⟨p3, hxp3, hlp3, h⟩ := h
          refine kz_nz0 (x := w_p w 14 p2 16) hxp3 ?_
          refine kz_gfp (M := kt_M258) (c := 15) (o := p3) kX7_argument_c6.2.1 wf_X7_238 (.inr (by exact hlp3)) ?_
          refine kz_getsE (M := kt_M258) (v := va_rf (some (E.1.1 54))) kX7_argument_c6.2.2.1 zs_X7_277 ?_
          refine kz_acmp_ne (M := kt_M258) (x := w_p w 15 p3 0) (y := some (E.1.1 54)) kX7_argument_c6.2.2.2.1 (t := 124) rfl h (fun h => ?_) (fun h => ?_)
          · skip
            exact kz_weak [(0, .ref (w_adr E.2.1 6 0)), (1, va_rf (x1)), (4, va_rf (x4))] ⟨rfl, ⟨rfl, ⟨rfl, trivial⟩⟩⟩ rfl (zt_X7_argument_p124 hL  h)
          · skip
            exact kz_weak [(0, .ref (w_adr E.2.1 6 0)), (1, va_rf (x1)), (4, va_rf (x4))] ⟨rfl, ⟨rfl, ⟨rfl, trivial⟩⟩⟩ rfl (zt_X7_argument_p120 hL  h)
  · skip
    refine kz_iload_n (M := kt_M258) kX7_argument_c2.2.2.1 rfl ?_
    refine kz_if_eq (M := kt_M258) kX7_argument_c2.2.2.2.1 (t := 76) rfl h (fun h => ?_) (fun h => ?_)
    · skip
      exact kz_weak [(0, .ref (w_adr E.2.1 6 0)), (1, va_rf (x1))] ⟨rfl, ⟨rfl, trivial⟩⟩ rfl (zt_X7_argument_p76 hL  h)
    · skip
      refine kz_aload_nv (M := kt_M258) (x := x1) kX7_argument_c2.2.2.2.2.1 rfl ?_
      obtain ⟨p4, hxp4, hlp4, h⟩ := h
      refine kz_nz0 (x := x1) hxp4 ?_
      refine kz_gfi (M := kt_M258) (c := 14) (o := p4) kX7_argument_c2.2.2.2.2.2.1 wf_X7_141 (.inr (by exact hlp4)) ?_
      refine kz_if_ne (M := kt_M258) kX7_argument_c2.2.2.2.2.2.2.1 (t := 89) rfl h (fun h => ?_) (fun h => ?_)
      · skip
        exact kz_weak [(0, .ref (w_adr E.2.1 6 0))] ⟨rfl, trivial⟩ rfl (zt_X7_argument_p89 hL  h)
      · skip
        refine kz_aloadv (M := kt_M258) (x := x4) kX7_argument_c2.2.2.2.2.2.2.2.1 rfl ?_
        refine kz_aload_nv (M := kt_M258) (x := x1) kX7_argument_c3.1 rfl ?_
        refine kz_nz0 (x := x1) hxp4 ?_
        refine kz_gfp (M := kt_M258) (c := 14) (o := p4) kX7_argument_c3.2.1 wf_X7_103 (.inr (by exact hlp4)) ?_
        refine kz_cs1 (M := kt_M258) (As := [va_rf (x4), va_rf (w_p w 14 p4 16)]) (rest := []) kX7_argument_c3.2.2.1 wl_X7_147 wMs_256 rfl (Nat.le_trans (Nat.le_of_ble_eq_true rfl) hL) (by simp [lg_sl, w_cat, z_ci, z_cr, z_cl, z_cn, kt_M256]) (Nat.le_of_ble_eq_true rfl) h (fun v6 w5 hle h => ?_) (fun _ _ _ h => kzx_no rfl h)
        have h := h hle
        have hlp1 := w_l_le hlp1 hle
        have hlp4 := w_l_le hlp4 hle
        refine kz_if_eq (M := kt_M258) kX7_argument_c3.2.2.2.1 (t := 76) rfl h (fun h => ?_) (fun h => ?_)
        · skip
          exact kz_weak [(0, .ref (w_adr E.2.1 6 0)), (1, va_rf (x1))] ⟨rfl, ⟨rfl, trivial⟩⟩ rfl (zt_X7_argument_p76 hL  h)
        · skip
          refine kz_aload_nv (M := kt_M258) (x := x1) kX7_argument_c3.2.2.2.2.1 rfl ?_
          refine kz_nz0 (x := x1) hxp4 ?_
          refine kz_gfi (M := kt_M258) (c := 14) (o := p4) kX7_argument_c3.2.2.2.2.2.1 wf_X7_64 (.inr (by exact hlp4)) ?_
          refine kz_aloadv (M := kt_M258) (x := x4) kX7_argument_c3.2.2.2.2.2.2.1 rfl ?_
          refine kz_nz0 (x := x4) hxp1 ?_
          refine kz_gfi (M := kt_M258) (c := 15) (o := p1) kX7_argument_c3.2.2.2.2.2.2.2.1 wf_X7_135 (.inr (by exact hlp1)) ?_
          refine kz_icmp_eq (M := kt_M258) kX7_argument_c4.1 (t := 89) rfl h (fun h => ?_) (fun h => ?_)
          · skip
            exact kz_weak [(0, .ref (w_adr E.2.1 6 0))] ⟨rfl, trivial⟩ rfl (zt_X7_argument_p89 hL  h)
          · skip
            exact kz_weak [(0, .ref (w_adr E.2.1 6 0)), (1, va_rf (x1))] ⟨rfl, ⟨rfl, trivial⟩⟩ rfl (zt_X7_argument_p76 hL  h)
def zb_X7_argument_p27 (E : zE) (L : Nat) (Q : kx_Rs → wS → Prop) (x1 : Option Nat) (x3 : Int32) (x4 : Option Nat) (w : wS) : Prop := zb_X7_argument_p28 E L Q x1 x3 x4 0 w
theorem zt_X7_argument_p27 {E : zE} {L : Nat} {Q : kx_Rs → wS → Prop} {x1 : Option Nat} {x3 : Int32} {x4 : Option Nat} {w : wS} (hL : 22 ≤ L) (h : zb_X7_argument_p27 E L Q x1 x3 x4 w) : kzE E L kt_M258 27 [(0, .ref (w_adr E.2.1 6 0)), (1, va_rf (x1)), (3, .int x3), (4, va_rf (x4))] [] w Q := by
  unfold zb_X7_argument_p27 at h
  refine kz_ic (M := kt_M258) 0 kX7_argument_c1.2.2.2.2.1 rfl ?_
  exact kz_weak [(0, .ref (w_adr E.2.1 6 0)), (1, va_rf (x1)), (3, .int x3), (4, va_rf (x4))] ⟨rfl, ⟨rfl, ⟨rfl, ⟨rfl, trivial⟩⟩⟩⟩ rfl (zt_X7_argument_p28 hL  h)
def zb_X7_argument_p0 (E : zE) (L : Nat) (Q : kx_Rs → wS → Prop) (x1 : Option Nat) (x2 : Option Nat) (x3 : Int32) (w : wS) : Prop := (∃ p1, x2 = some p1 ∧ w_l w E.2.1 14 p1 ∧ (∃ p2, x1 = some p2 ∧ w_l w E.2.1 14 p2 ∧ (if ¬ w_p w 14 p2 0 = some (E.1.1 18) then zb_X7_argument_p27 E L Q x1 x3 (w_p w 14 p1 16) w else (if ¬ w_i w 14 p2 12 = 0 then zb_X7_argument_p27 E L Q x1 x3 (w_p w 14 p1 16) w else zb_X7_argument_p28 E L Q x1 x3 (w_p w 14 p1 16) 1 w))))
theorem zt_X7_argument_p0 {E : zE} {L : Nat} {Q : kx_Rs → wS → Prop} {x1 : Option Nat} {x2 : Option Nat} {x3 : Int32} {w : wS} (hL : 22 ≤ L) (h : zb_X7_argument_p0 E L Q x1 x2 x3 w) : kzE E L kt_M258 0 [(0, .ref (w_adr E.2.1 6 0)), (1, va_rf (x1)), (2, va_rf (x2)), (3, .int x3)] [] w Q := by
  unfold zb_X7_argument_p0 at h
  refine kz_aload_nv (M := kt_M258) (x := x2) kX7_argument_c0.1 rfl ?_
  obtain ⟨p1, hxp1, hlp1, h⟩ := h
  refine kz_nz0 (x := x2) hxp1 ?_
  refine kz_gfp (M := kt_M258) (c := 14) (o := p1) kX7_argument_c0.2.1 wf_X7_103 (.inr (by exact hlp1)) ?_
  refine kz_stv (M := kt_M258) (x := w_p w 14 p1 16) [(0, .ref (w_adr E.2.1 6 0)), (1, va_rf (x1)), (3, .int x3)] kX7_argument_c0.2.2.1 (Nat.le_of_ble_eq_true rfl) ⟨⟨rfl, rfl, .inl rfl⟩, ⟨⟨rfl, rfl, .inl rfl⟩, ⟨⟨rfl, rfl, .inr rfl⟩, trivial⟩⟩⟩ rfl ?_
  refine kz_aload_nv (M := kt_M258) (x := x1) kX7_argument_c0.2.2.2.1 rfl ?_
  obtain ⟨p2, hxp2, hlp2, h⟩ := h
  refine kz_nz0 (x := x1) hxp2 ?_
  refine kz_gfp (M := kt_M258) (c := 14) (o := p2) kX7_argument_c0.2.2.2.2.1 wf_X7_77 (.inr (by exact hlp2)) ?_
  refine kz_getsE (M := kt_M258) (v := va_rf (some (E.1.1 18))) kX7_argument_c0.2.2.2.2.2.1 zs_X7_258 ?_
  refine kz_acmp_ne (M := kt_M258) (x := w_p w 14 p2 0) (y := some (E.1.1 18)) kX7_argument_c0.2.2.2.2.2.2.1 (t := 27) rfl h (fun h => ?_) (fun h => ?_)
  · skip
    exact kz_weak [(0, .ref (w_adr E.2.1 6 0)), (1, va_rf (x1)), (3, .int x3), (4, va_rf (w_p w 14 p1 16))] ⟨rfl, ⟨rfl, ⟨rfl, ⟨rfl, trivial⟩⟩⟩⟩ rfl (zt_X7_argument_p27 hL  h)
  · skip
    refine kz_aload_nv (M := kt_M258) (x := x1) kX7_argument_c0.2.2.2.2.2.2.2.1 rfl ?_
    refine kz_nz0 (x := x1) hxp2 ?_
    refine kz_gfi (M := kt_M258) (c := 14) (o := p2) kX7_argument_c1.1 wf_X7_261 (.inr (by exact hlp2)) ?_
    refine kz_if_ne (M := kt_M258) kX7_argument_c1.2.1 (t := 27) rfl h (fun h => ?_) (fun h => ?_)
    · skip
      exact kz_weak [(0, .ref (w_adr E.2.1 6 0)), (1, va_rf (x1)), (3, .int x3), (4, va_rf (w_p w 14 p1 16))] ⟨rfl, ⟨rfl, ⟨rfl, ⟨rfl, trivial⟩⟩⟩⟩ rfl (zt_X7_argument_p27 hL  h)
    · skip
      refine kz_ic (M := kt_M258) 1 kX7_argument_c1.2.2.1 rfl ?_
      refine kz_goto (M := kt_M258) kX7_argument_c1.2.2.2.1 (t := 28) rfl ?_
      exact kz_weak [(0, .ref (w_adr E.2.1 6 0)), (1, va_rf (x1)), (3, .int x3), (4, va_rf (w_p w 14 p1 16))] ⟨rfl, ⟨rfl, ⟨rfl, ⟨rfl, trivial⟩⟩⟩⟩ rfl (zt_X7_argument_p28 hL  h)
def zb_X7_alike_p57 (E : zE) (L : Nat) (Q : kx_Rs → wS → Prop) (y0 : Int32) (w : wS) : Prop := ((y0 = 0 ∨ y0 = 1) ∧ Q (.inl (some (.int y0))) w)
theorem zt_X7_alike_p57 {E : zE} {L : Nat} {Q : kx_Rs → wS → Prop} {y0 : Int32} {w : wS} (hL : 19 ≤ L) (h : zb_X7_alike_p57 E L Q y0 w) : kzE E L kt_M256 57 [] [.int y0] w Q := by
  unfold zb_X7_alike_p57 at h
  exact kz_iretz (M := kt_M256) kX7_alike_c3.2.2.2.1 rfl h.1 h.2
def zb_X7_alike_p56 (E : zE) (L : Nat) (Q : kx_Rs → wS → Prop) (w : wS) : Prop := zb_X7_alike_p57 E L Q 0 w
theorem zt_X7_alike_p56 {E : zE} {L : Nat} {Q : kx_Rs → wS → Prop} {w : wS} (hL : 19 ≤ L) (h : zb_X7_alike_p56 E L Q  w) : kzE E L kt_M256 56 [] [] w Q := by
  unfold zb_X7_alike_p56 at h
  refine kz_ic (M := kt_M256) 0 kX7_alike_c3.2.2.1 rfl ?_
  exact kz_weak [] trivial rfl (zt_X7_alike_p57 hL  h)
def zb_X7_alike_p30 (E : zE) (L : Nat) (Q : kx_Rs → wS → Prop) (x0 : Option Nat) (x1 : Option Nat) (w : wS) : Prop := (∃ p1, x0 = some p1 ∧ w_l w E.2.1 15 p1 ∧ (∃ p2, x1 = some p2 ∧ w_l w E.2.1 15 p2 ∧ (if ¬ w_i w 15 p1 5 = w_i w 15 p2 5 then zb_X7_alike_p56 E L Q w else (if ¬ w_p w 15 p1 15 = w_p w 15 p2 15 then zb_X7_alike_p56 E L Q w else zb_X7_alike_p57 E L Q 1 w))))
theorem zt_X7_alike_p30 {E : zE} {L : Nat} {Q : kx_Rs → wS → Prop} {x0 : Option Nat} {x1 : Option Nat} {w : wS} (hL : 19 ≤ L) (h : zb_X7_alike_p30 E L Q x0 x1 w) : kzE E L kt_M256 30 [(0, va_rf (x0)), (1, va_rf (x1))] [] w Q := by
  unfold zb_X7_alike_p30 at h
  refine kz_aload_nv (M := kt_M256) (x := x0) kX7_alike_c1.2.2.2.2.2.2.1 rfl ?_
  obtain ⟨p1, hxp1, hlp1, h⟩ := h
  refine kz_nz0 (x := x0) hxp1 ?_
  refine kz_gfi (M := kt_M256) (c := 15) (o := p1) kX7_alike_c1.2.2.2.2.2.2.2.1 wf_X7_134 (.inr (by exact hlp1)) ?_
  refine kz_aload_nv (M := kt_M256) (x := x1) kX7_alike_c2.1 rfl ?_
  obtain ⟨p2, hxp2, hlp2, h⟩ := h
  refine kz_nz0 (x := x1) hxp2 ?_
  refine kz_gfi (M := kt_M256) (c := 15) (o := p2) kX7_alike_c2.2.1 wf_X7_134 (.inr (by exact hlp2)) ?_
  refine kz_icmp_ne (M := kt_M256) kX7_alike_c2.2.2.1 (t := 56) rfl h (fun h => ?_) (fun h => ?_)
  · skip
    exact kz_weak [] trivial rfl (zt_X7_alike_p56 hL  h)
  · skip
    refine kz_aload_nv (M := kt_M256) (x := x0) kX7_alike_c2.2.2.2.1 rfl ?_
    refine kz_nz0 (x := x0) hxp1 ?_
    refine kz_gfp (M := kt_M256) (c := 15) (o := p1) kX7_alike_c2.2.2.2.2.1 wf_X7_151 (.inr (by exact hlp1)) ?_
    refine kz_aload_nv (M := kt_M256) (x := x1) kX7_alike_c2.2.2.2.2.2.1 rfl ?_
    refine kz_nz0 (x := x1) hxp2 ?_
    refine kz_gfp (M := kt_M256) (c := 15) (o := p2) kX7_alike_c2.2.2.2.2.2.2.1 wf_X7_151 (.inr (by exact hlp2)) ?_
    refine kz_acmp_ne (M := kt_M256) (x := w_p w 15 p1 15) (y := w_p w 15 p2 15) kX7_alike_c2.2.2.2.2.2.2.2.1 (t := 56) rfl h (fun h => ?_) (fun h => ?_)
    · skip
      exact kz_weak [] trivial rfl (zt_X7_alike_p56 hL  h)
    · skip
      refine kz_ic (M := kt_M256) 1 kX7_alike_c3.1 rfl ?_
      refine kz_goto (M := kt_M256) kX7_alike_c3.2.1 (t := 57) rfl ?_
      exact kz_weak [] trivial rfl (zt_X7_alike_p57 hL  h)
def zb_X7_alike_p28 (E : zE) (L : Nat) (Q : kx_Rs → wS → Prop) (w : wS) : Prop := Q (.inl (some (.int 1))) w
theorem zt_X7_alike_p28 {E : zE} {L : Nat} {Q : kx_Rs → wS → Prop} {w : wS} (hL : 19 ≤ L) (h : zb_X7_alike_p28 E L Q  w) : kzE E L kt_M256 28 [] [] w Q := by
  unfold zb_X7_alike_p28 at h
  refine kz_ic (M := kt_M256) 1 kX7_alike_c1.2.2.2.2.1 rfl ?_
  exact kz_iretz (M := kt_M256) kX7_alike_c1.2.2.2.2.2.1 rfl (by decide) h
def zb_X7_alike_p14 (E : zE) (L : Nat) (Q : kx_Rs → wS → Prop) (x0 : Option Nat) (x1 : Option Nat) (w : wS) : Prop := (∃ p1, x1 = some p1 ∧ w_l w E.2.1 15 p1 ∧ (if ¬ w_i w 15 p1 5 = 0 then zb_X7_alike_p30 E L Q x0 x1 w else (if ¬ (w_p w 15 p1 15) = none then zb_X7_alike_p30 E L Q x0 x1 w else zb_X7_alike_p28 E L Q w)))
theorem zt_X7_alike_p14 {E : zE} {L : Nat} {Q : kx_Rs → wS → Prop} {x0 : Option Nat} {x1 : Option Nat} {w : wS} (hL : 19 ≤ L) (h : zb_X7_alike_p14 E L Q x0 x1 w) : kzE E L kt_M256 14 [(0, va_rf (x0)), (1, va_rf (x1))] [] w Q := by
  unfold zb_X7_alike_p14 at h
  refine kz_aload_nv (M := kt_M256) (x := x1) kX7_alike_c0.2.2.2.2.2.2.1 rfl ?_
  obtain ⟨p1, hxp1, hlp1, h⟩ := h
  refine kz_nz0 (x := x1) hxp1 ?_
  refine kz_gfi (M := kt_M256) (c := 15) (o := p1) kX7_alike_c0.2.2.2.2.2.2.2.1 wf_X7_134 (.inr (by exact hlp1)) ?_
  refine kz_if_ne (M := kt_M256) kX7_alike_c1.1 (t := 30) rfl h (fun h => ?_) (fun h => ?_)
  · skip
    exact kz_weak [(0, va_rf (x0)), (1, va_rf (x1))] ⟨rfl, ⟨rfl, trivial⟩⟩ rfl (zt_X7_alike_p30 hL  h)
  · skip
    refine kz_aload_nv (M := kt_M256) (x := x1) kX7_alike_c1.2.1 rfl ?_
    refine kz_nz0 (x := x1) hxp1 ?_
    refine kz_gfp (M := kt_M256) (c := 15) (o := p1) kX7_alike_c1.2.2.1 wf_X7_151 (.inr (by exact hlp1)) ?_
    refine kz_ifnonnull (M := kt_M256) (x := w_p w 15 p1 15) kX7_alike_c1.2.2.2.1 (t := 30) rfl h (fun h => ?_) (fun h => ?_)
    · skip
      exact kz_weak [(0, va_rf (x0)), (1, va_rf (x1))] ⟨rfl, ⟨rfl, trivial⟩⟩ rfl (zt_X7_alike_p30 hL  h)
    · skip
      exact kz_weak [] trivial rfl (zt_X7_alike_p28 hL  h)
def zb_X7_alike_p0 (E : zE) (L : Nat) (Q : kx_Rs → wS → Prop) (x0 : Option Nat) (x1 : Option Nat) (w : wS) : Prop := (∃ p1, x0 = some p1 ∧ w_l w E.2.1 15 p1 ∧ (if ¬ w_i w 15 p1 5 = 0 then zb_X7_alike_p14 E L Q x0 x1 w else (if (w_p w 15 p1 15) = none then zb_X7_alike_p28 E L Q w else zb_X7_alike_p14 E L Q x0 x1 w)))
theorem zt_X7_alike_p0 {E : zE} {L : Nat} {Q : kx_Rs → wS → Prop} {x0 : Option Nat} {x1 : Option Nat} {w : wS} (hL : 19 ≤ L) (h : zb_X7_alike_p0 E L Q x0 x1 w) : kzE E L kt_M256 0 [(0, va_rf (x0)), (1, va_rf (x1))] [] w Q := by
  unfold zb_X7_alike_p0 at h
  refine kz_aload_nv (M := kt_M256) (x := x0) kX7_alike_c0.1 rfl ?_
  obtain ⟨p1, hxp1, hlp1, h⟩ := h
  refine kz_nz0 (x := x0) hxp1 ?_
  refine kz_gfi (M := kt_M256) (c := 15) (o := p1) kX7_alike_c0.2.1 wf_X7_134 (.inr (by exact hlp1)) ?_
  refine kz_if_ne (M := kt_M256) kX7_alike_c0.2.2.1 (t := 14) rfl h (fun h => ?_) (fun h => ?_)
  · skip
    exact kz_weak [(0, va_rf (x0)), (1, va_rf (x1))] ⟨rfl, ⟨rfl, trivial⟩⟩ rfl (zt_X7_alike_p14 hL  h)
  · skip
    refine kz_aload_nv (M := kt_M256) (x := x0) kX7_alike_c0.2.2.2.1 rfl ?_
    refine kz_nz0 (x := x0) hxp1 ?_
    refine kz_gfp (M := kt_M256) (c := 15) (o := p1) kX7_alike_c0.2.2.2.2.1 wf_X7_151 (.inr (by exact hlp1)) ?_
    refine kz_ifnull (M := kt_M256) (x := w_p w 15 p1 15) kX7_alike_c0.2.2.2.2.2.1 (t := 28) rfl h (fun h => ?_) (fun h => ?_)
    · skip
      exact kz_weak [] trivial rfl (zt_X7_alike_p28 hL  h)
    · skip
      exact kz_weak [(0, va_rf (x0)), (1, va_rf (x1))] ⟨rfl, ⟨rfl, trivial⟩⟩ rfl (zt_X7_alike_p14 hL  h)
def zb_X7_one_p222 (E : zE) (L : Nat) (Q : kx_Rs → wS → Prop) (w : wS) : Prop := Q (.inl none) w
theorem zt_X7_one_p222 {E : zE} {L : Nat} {Q : kx_Rs → wS → Prop} {w : wS} (hL : 24 ≤ L) (h : zb_X7_one_p222 E L Q  w) : kzE E L kt_M274 222 [(0, .ref (w_adr E.2.1 6 0))] [] w Q := by
  unfold zb_X7_one_p222 at h
  exact kz_ret (M := kt_M274) kX7_one_c14.2.1 rfl h
def zb_X7_one_p217 (E : zE) (L : Nat) (Q : kx_Rs → wS → Prop) (x1 : Option Nat) (w : wS) : Prop := zw E (L - 21) kt_M267 [.ref (w_adr E.2.1 6 0), va_rf (x1)] w (wk0 (fun w1 => wle w w1 → zb_X7_one_p222 E L Q w1) (fun e w => Q (.inr e) w))
theorem zt_X7_one_p217 {E : zE} {L : Nat} {Q : kx_Rs → wS → Prop} {x1 : Option Nat} {w : wS} (hL : 24 ≤ L) (h : zb_X7_one_p217 E L Q x1 w) : kzE E L kt_M274 217 [(0, .ref (w_adr E.2.1 6 0)), (1, va_rf (x1))] [] w Q := by
  unfold zb_X7_one_p217 at h
  refine kz_aload_n (M := kt_M274) kX7_one_c13.2.2.2.2.2.2.1 rfl ?_
  refine kz_aload_nv (M := kt_M274) (x := x1) kX7_one_c13.2.2.2.2.2.2.2.1 rfl ?_
  refine kz_cv0 (M := kt_M274) (c := 6) (o := 0) (As := [va_rf (x1)]) (rest := []) kX7_one_c14.1 wl_X7_308 wMv_267 rfl (.inl rfl) rfl (Nat.le_trans (Nat.le_of_ble_eq_true rfl) hL) (by simp [lg_sl, w_cat, z_ci, z_cr, z_cl, z_cn, kt_M267]) (Nat.le_of_ble_eq_true rfl) h (fun w1 hle h => ?_) (fun _ _ _ h => kzx_no rfl h)
  have h := h hle
  exact kz_weak [(0, .ref (w_adr E.2.1 6 0))] ⟨rfl, trivial⟩ rfl (zt_X7_one_p222 hL  h)
def zb_X7_one_p157 (E : zE) (L : Nat) (Q : kx_Rs → wS → Prop) (x1 : Option Nat) (x2 : Option Nat) (x3 : Int32) (x4 : Int32) (y0 : Int32) (w : wS) : Prop := (∃ p1, x2 = some p1 ∧ w_l w E.2.1 14 p1 ∧ zw E (L - 24) kt_M269 [.ref (w_adr E.2.1 6 0), va_rf (x1), .int x3, .int (w_i w 14 p1 21), .int y0] w (wk0 (fun w2 => wle w w2 → (if x4 = 0 then (if w_i w2 14 p1 21 = 0 then zb_X7_one_p222 E L Q w2 else (if ¬ w_i w2 14 p1 11 = 0 then zb_X7_one_p217 E L Q x1 w2 else (∃ p4, x1 = some p4 ∧ w_l w2 E.2.1 14 p4 ∧ (if ¬ w_i w2 14 p4 8 = 54 then zb_X7_one_p222 E L Q w2 else (if ¬ w_i w2 14 p1 19 = (-2147483648) then zb_X7_one_p222 E L Q w2 else zb_X7_one_p217 E L Q x1 w2))))) else zw E (L - 21) kt_M290 [.ref (w_adr E.2.1 6 0), va_rf (x1)] w2 (wk0 (fun w5 => wle w2 w5 → zb_X7_one_p222 E L Q w5) (fun e w => Q (.inr e) w)))) (fun e w => Q (.inr e) w)))
theorem zt_X7_one_p157 {E : zE} {L : Nat} {Q : kx_Rs → wS → Prop} {x1 : Option Nat} {x2 : Option Nat} {x3 : Int32} {x4 : Int32} {y0 : Int32} {w : wS} (hL : 24 ≤ L) (h : zb_X7_one_p157 E L Q x1 x2 x3 x4 y0 w) : kzE E L kt_M274 157 [(0, .ref (w_adr E.2.1 6 0)), (1, va_rf (x1)), (2, va_rf (x2)), (3, .int x3), (4, .int x4)] [.int y0] w Q := by
  unfold zb_X7_one_p157 at h
  refine kz_sti (M := kt_M274) [(0, .ref (w_adr E.2.1 6 0)), (1, va_rf (x1)), (2, va_rf (x2)), (3, .int x3), (4, .int x4)] kX7_one_c10.2.2.1 (Nat.le_of_ble_eq_true rfl) ⟨⟨rfl, rfl, .inl rfl⟩, ⟨⟨rfl, rfl, .inl rfl⟩, ⟨⟨rfl, rfl, .inl rfl⟩, ⟨⟨rfl, rfl, .inl rfl⟩, ⟨⟨rfl, rfl, .inr rfl⟩, trivial⟩⟩⟩⟩⟩ rfl ?_
  refine kz_aload_n (M := kt_M274) kX7_one_c10.2.2.2.1 rfl ?_
  refine kz_aload_nv (M := kt_M274) (x := x1) kX7_one_c10.2.2.2.2.1 rfl ?_
  refine kz_iload_n (M := kt_M274) kX7_one_c10.2.2.2.2.2.1 rfl ?_
  refine kz_aload_nv (M := kt_M274) (x := x2) kX7_one_c10.2.2.2.2.2.2.1 rfl ?_
  obtain ⟨p1, hxp1, hlp1, h⟩ := h
  refine kz_nz0 (x := x2) hxp1 ?_
  refine kz_gfi (M := kt_M274) (c := 14) (o := p1) kX7_one_c10.2.2.2.2.2.2.2.1 wf_X7_68 (.inr (by exact hlp1)) ?_
  refine kz_iload (M := kt_M274) kX7_one_c11.1 rfl ?_
  refine kz_cv0 (M := kt_M274) (c := 6) (o := 0) (As := [va_rf (x1), .int x3, .int (w_i w 14 p1 21), .int y0]) (rest := []) kX7_one_c11.2.1 wl_X7_286 wMv_269 rfl (.inl rfl) rfl (Nat.le_trans (Nat.le_of_ble_eq_true rfl) hL) (by simp [lg_sl, w_cat, z_ci, z_cr, z_cl, z_cn, kt_M269]) (Nat.le_of_ble_eq_true rfl) h (fun w2 hle h => ?_) (fun _ _ _ h => kzx_no rfl h)
  have h := h hle
  have hlp1 := w_l_le hlp1 hle
  refine kz_iload (M := kt_M274) kX7_one_c11.2.2.1 rfl ?_
  refine kz_if_eq (M := kt_M274) kX7_one_c11.2.2.2.1 (t := 184) rfl h (fun h => ?_) (fun h => ?_)
  · skip
    refine kz_aload_nv (M := kt_M274) (x := x2) kX7_one_c12.1 rfl ?_
    refine kz_nz0 (x := x2) hxp1 ?_
    refine kz_gfi (M := kt_M274) (c := 14) (o := p1) kX7_one_c12.2.1 wf_X7_68 (.inr (by exact hlp1)) ?_
    refine kz_if_eq (M := kt_M274) kX7_one_c12.2.2.1 (t := 222) rfl h (fun h => ?_) (fun h => ?_)
    · skip
      exact kz_weak [(0, .ref (w_adr E.2.1 6 0))] ⟨rfl, trivial⟩ rfl (zt_X7_one_p222 hL  h)
    · skip
      refine kz_aload_nv (M := kt_M274) (x := x2) kX7_one_c12.2.2.2.1 rfl ?_
      refine kz_nz0 (x := x2) hxp1 ?_
      refine kz_gfi (M := kt_M274) (c := 14) (o := p1) kX7_one_c12.2.2.2.2.1 wf_X7_141 (.inr (by exact hlp1)) ?_
      refine kz_if_ne (M := kt_M274) kX7_one_c12.2.2.2.2.2.1 (t := 217) rfl h (fun h => ?_) (fun h => ?_)
      · skip
        exact kz_weak [(0, .ref (w_adr E.2.1 6 0)), (1, va_rf (x1))] ⟨rfl, ⟨rfl, trivial⟩⟩ rfl (zt_X7_one_p217 hL  h)
      · skip
        refine kz_aload_nv (M := kt_M274) (x := x1) kX7_one_c12.2.2.2.2.2.2.1 rfl ?_
        obtain ⟨p4, hxp4, hlp4, h⟩ := h
        refine kz_nz0 (x := x1) hxp4 ?_
        refine kz_gfi (M := kt_M274) (c := 14) (o := p4) kX7_one_c12.2.2.2.2.2.2.2.1 wf_X7_130 (.inr (by exact hlp4)) ?_
        refine kz_bi (M := kt_M274) 54 kX7_one_c13.1 rfl ?_
        refine kz_icmp_ne (M := kt_M274) kX7_one_c13.2.1 (t := 222) rfl h (fun h => ?_) (fun h => ?_)
        · skip
          exact kz_weak [(0, .ref (w_adr E.2.1 6 0))] ⟨rfl, trivial⟩ rfl (zt_X7_one_p222 hL  h)
        · skip
          refine kz_aload_nv (M := kt_M274) (x := x2) kX7_one_c13.2.2.1 rfl ?_
          refine kz_nz0 (x := x2) hxp1 ?_
          refine kz_gfi (M := kt_M274) (c := 14) (o := p1) kX7_one_c13.2.2.2.1 wf_X7_74 (.inr (by exact hlp1)) ?_
          refine kz_ldcw (M := kt_M274) (x := (-2147483648)) kX7_one_c13.2.2.2.2.1 (zc_X7_315) ?_
          refine kz_icmp_ne (M := kt_M274) kX7_one_c13.2.2.2.2.2.1 (t := 222) rfl h (fun h => ?_) (fun h => ?_)
          · skip
            exact kz_weak [(0, .ref (w_adr E.2.1 6 0))] ⟨rfl, trivial⟩ rfl (zt_X7_one_p222 hL  h)
          · skip
            exact kz_weak [(0, .ref (w_adr E.2.1 6 0)), (1, va_rf (x1))] ⟨rfl, ⟨rfl, trivial⟩⟩ rfl (zt_X7_one_p217 hL  h)
  · skip
    refine kz_aload_n (M := kt_M274) kX7_one_c11.2.2.2.2.1 rfl ?_
    refine kz_aload_nv (M := kt_M274) (x := x1) kX7_one_c11.2.2.2.2.2.1 rfl ?_
    refine kz_cv0 (M := kt_M274) (c := 6) (o := 0) (As := [va_rf (x1)]) (rest := []) kX7_one_c11.2.2.2.2.2.2.1 wl_X7_283 wMv_290 rfl (.inl rfl) rfl (Nat.le_trans (Nat.le_of_ble_eq_true rfl) hL) (by simp [lg_sl, w_cat, z_ci, z_cr, z_cl, z_cn, kt_M290]) (Nat.le_of_ble_eq_true rfl) h (fun w5 hle h => ?_) (fun _ _ _ h => kzx_no rfl h)
    have h := h hle
    have hlp1 := w_l_le hlp1 hle
    refine kz_goto (M := kt_M274) kX7_one_c11.2.2.2.2.2.2.2.1 (t := 222) rfl ?_
    exact kz_weak [(0, .ref (w_adr E.2.1 6 0))] ⟨rfl, trivial⟩ rfl (zt_X7_one_p222 hL  h)
def zb_X7_one_p114 (E : zE) (L : Nat) (Q : kx_Rs → wS → Prop) (x1 : Option Nat) (x2 : Option Nat) (x3 : Int32) (y0 : Int32) (w : wS) : Prop := (∃ p1, x1 = some p1 ∧ w_l w E.2.1 14 p1 ∧ (if ¬ w_i w 14 p1 8 = 17 then (if ¬ w_i w 14 p1 8 = 63 then (∃ p2, x2 = some p2 ∧ w_l w E.2.1 14 p2 ∧ zb_X7_one_p157 E L Q x1 x2 x3 y0 (-(w_i w 14 p2 19)) w) else (∃ p3, x2 = some p3 ∧ w_l w E.2.1 14 p3 ∧ zb_X7_one_p157 E L Q x1 x2 x3 y0 ((w_i w 14 p3 19) ^^^ (-1)) w)) else (∃ p4, x2 = some p4 ∧ w_l w E.2.1 14 p4 ∧ zb_X7_one_p157 E L Q x1 x2 x3 y0 (1 - (w_i w 14 p4 19)) w)))
theorem zt_X7_one_p114 {E : zE} {L : Nat} {Q : kx_Rs → wS → Prop} {x1 : Option Nat} {x2 : Option Nat} {x3 : Int32} {y0 : Int32} {w : wS} (hL : 24 ≤ L) (h : zb_X7_one_p114 E L Q x1 x2 x3 y0 w) : kzE E L kt_M274 114 [(0, .ref (w_adr E.2.1 6 0)), (1, va_rf (x1)), (2, va_rf (x2)), (3, .int x3)] [.int y0] w Q := by
  unfold zb_X7_one_p114 at h
  refine kz_sti (M := kt_M274) [(0, .ref (w_adr E.2.1 6 0)), (1, va_rf (x1)), (2, va_rf (x2)), (3, .int x3)] kX7_one_c7.2.2.2.2.1 (Nat.le_of_ble_eq_true rfl) ⟨⟨rfl, rfl, .inl rfl⟩, ⟨⟨rfl, rfl, .inl rfl⟩, ⟨⟨rfl, rfl, .inl rfl⟩, ⟨⟨rfl, rfl, .inr rfl⟩, trivial⟩⟩⟩⟩ rfl ?_
  refine kz_aload_nv (M := kt_M274) (x := x1) kX7_one_c7.2.2.2.2.2.1 rfl ?_
  obtain ⟨p1, hxp1, hlp1, h⟩ := h
  refine kz_nz0 (x := x1) hxp1 ?_
  refine kz_gfi (M := kt_M274) (c := 14) (o := p1) kX7_one_c7.2.2.2.2.2.2.1 wf_X7_130 (.inr (by exact hlp1)) ?_
  refine kz_bi (M := kt_M274) 17 kX7_one_c7.2.2.2.2.2.2.2.1 rfl ?_
  refine kz_icmp_ne (M := kt_M274) kX7_one_c8.1 (t := 134) rfl h (fun h => ?_) (fun h => ?_)
  · skip
    refine kz_aload_nv (M := kt_M274) (x := x1) kX7_one_c8.2.2.2.2.2.2.1 rfl ?_
    refine kz_nz0 (x := x1) hxp1 ?_
    refine kz_gfi (M := kt_M274) (c := 14) (o := p1) kX7_one_c8.2.2.2.2.2.2.2.1 wf_X7_130 (.inr (by exact hlp1)) ?_
    refine kz_bi (M := kt_M274) 63 kX7_one_c9.1 rfl ?_
    refine kz_icmp_ne (M := kt_M274) kX7_one_c9.2.1 (t := 152) rfl h (fun h => ?_) (fun h => ?_)
    · skip
      refine kz_aload_nv (M := kt_M274) (x := x2) kX7_one_c9.2.2.2.2.2.2.2.1 rfl ?_
      obtain ⟨p2, hxp2, hlp2, h⟩ := h
      refine kz_nz0 (x := x2) hxp2 ?_
      refine kz_gfi (M := kt_M274) (c := 14) (o := p2) kX7_one_c10.1 wf_X7_74 (.inr (by exact hlp2)) ?_
      refine kz_ineg (M := kt_M274) kX7_one_c10.2.1 ?_
      exact kz_weak [(0, .ref (w_adr E.2.1 6 0)), (1, va_rf (x1)), (2, va_rf (x2)), (3, .int x3), (4, .int y0)] ⟨rfl, ⟨rfl, ⟨rfl, ⟨rfl, ⟨rfl, trivial⟩⟩⟩⟩⟩ rfl (zt_X7_one_p157 hL  h)
    · skip
      refine kz_aload_nv (M := kt_M274) (x := x2) kX7_one_c9.2.2.1 rfl ?_
      obtain ⟨p3, hxp3, hlp3, h⟩ := h
      refine kz_nz0 (x := x2) hxp3 ?_
      refine kz_gfi (M := kt_M274) (c := 14) (o := p3) kX7_one_c9.2.2.2.1 wf_X7_74 (.inr (by exact hlp3)) ?_
      refine kz_ic (M := kt_M274) (-1) kX7_one_c9.2.2.2.2.1 rfl ?_
      refine kz_ixor (M := kt_M274) kX7_one_c9.2.2.2.2.2.1 ?_
      refine kz_goto (M := kt_M274) kX7_one_c9.2.2.2.2.2.2.1 (t := 157) rfl ?_
      exact kz_weak [(0, .ref (w_adr E.2.1 6 0)), (1, va_rf (x1)), (2, va_rf (x2)), (3, .int x3), (4, .int y0)] ⟨rfl, ⟨rfl, ⟨rfl, ⟨rfl, ⟨rfl, trivial⟩⟩⟩⟩⟩ rfl (zt_X7_one_p157 hL  h)
  · skip
    refine kz_ic (M := kt_M274) 1 kX7_one_c8.2.1 rfl ?_
    refine kz_aload_nv (M := kt_M274) (x := x2) kX7_one_c8.2.2.1 rfl ?_
    obtain ⟨p4, hxp4, hlp4, h⟩ := h
    refine kz_nz0 (x := x2) hxp4 ?_
    refine kz_gfi (M := kt_M274) (c := 14) (o := p4) kX7_one_c8.2.2.2.1 wf_X7_74 (.inr (by exact hlp4)) ?_
    refine kz_isub (M := kt_M274) kX7_one_c8.2.2.2.2.1 ?_
    refine kz_goto (M := kt_M274) kX7_one_c8.2.2.2.2.2.1 (t := 157) rfl ?_
    exact kz_weak [(0, .ref (w_adr E.2.1 6 0)), (1, va_rf (x1)), (2, va_rf (x2)), (3, .int x3), (4, .int y0)] ⟨rfl, ⟨rfl, ⟨rfl, ⟨rfl, ⟨rfl, trivial⟩⟩⟩⟩⟩ rfl (zt_X7_one_p157 hL  h)
def zb_X7_one_p113 (E : zE) (L : Nat) (Q : kx_Rs → wS → Prop) (x1 : Option Nat) (x2 : Option Nat) (x3 : Int32) (w : wS) : Prop := zb_X7_one_p114 E L Q x1 x2 x3 0 w
theorem zt_X7_one_p113 {E : zE} {L : Nat} {Q : kx_Rs → wS → Prop} {x1 : Option Nat} {x2 : Option Nat} {x3 : Int32} {w : wS} (hL : 24 ≤ L) (h : zb_X7_one_p113 E L Q x1 x2 x3 w) : kzE E L kt_M274 113 [(0, .ref (w_adr E.2.1 6 0)), (1, va_rf (x1)), (2, va_rf (x2)), (3, .int x3)] [] w Q := by
  unfold zb_X7_one_p113 at h
  refine kz_ic (M := kt_M274) 0 kX7_one_c7.2.2.2.1 rfl ?_
  exact kz_weak [(0, .ref (w_adr E.2.1 6 0)), (1, va_rf (x1)), (2, va_rf (x2)), (3, .int x3)] ⟨rfl, ⟨rfl, ⟨rfl, ⟨rfl, trivial⟩⟩⟩⟩ rfl (zt_X7_one_p114 hL  h)
def zb_X7_one_p109 (E : zE) (L : Nat) (Q : kx_Rs → wS → Prop) (x1 : Option Nat) (x2 : Option Nat) (x3 : Int32) (w : wS) : Prop := zb_X7_one_p114 E L Q x1 x2 x3 1 w
theorem zt_X7_one_p109 {E : zE} {L : Nat} {Q : kx_Rs → wS → Prop} {x1 : Option Nat} {x2 : Option Nat} {x3 : Int32} {w : wS} (hL : 24 ≤ L) (h : zb_X7_one_p109 E L Q x1 x2 x3 w) : kzE E L kt_M274 109 [(0, .ref (w_adr E.2.1 6 0)), (1, va_rf (x1)), (2, va_rf (x2)), (3, .int x3)] [] w Q := by
  unfold zb_X7_one_p109 at h
  refine kz_ic (M := kt_M274) 1 kX7_one_c7.2.1 rfl ?_
  refine kz_goto (M := kt_M274) kX7_one_c7.2.2.1 (t := 114) rfl ?_
  exact kz_weak [(0, .ref (w_adr E.2.1 6 0)), (1, va_rf (x1)), (2, va_rf (x2)), (3, .int x3)] ⟨rfl, ⟨rfl, ⟨rfl, ⟨rfl, trivial⟩⟩⟩⟩ rfl (zt_X7_one_p114 hL  h)
def zb_X7_one_p86 (E : zE) (L : Nat) (Q : kx_Rs → wS → Prop) (x1 : Option Nat) (x2 : Option Nat) (y0 : Int32) (w : wS) : Prop := (∃ p1, x2 = some p1 ∧ w_l w E.2.1 14 p1 ∧ (if w_i w 14 p1 17 = 0 then zb_X7_one_p113 E L Q x1 x2 y0 w else (if ¬ w_i w 14 p1 17 = y0 then zb_X7_one_p109 E L Q x1 x2 y0 w else (if w_i w 14 p1 20 = 0 then zb_X7_one_p113 E L Q x1 x2 y0 w else zb_X7_one_p109 E L Q x1 x2 y0 w))))
theorem zt_X7_one_p86 {E : zE} {L : Nat} {Q : kx_Rs → wS → Prop} {x1 : Option Nat} {x2 : Option Nat} {y0 : Int32} {w : wS} (hL : 24 ≤ L) (h : zb_X7_one_p86 E L Q x1 x2 y0 w) : kzE E L kt_M274 86 [(0, .ref (w_adr E.2.1 6 0)), (1, va_rf (x1)), (2, va_rf (x2))] [.int y0] w Q := by
  unfold zb_X7_one_p86 at h
  refine kz_sti_n (M := kt_M274) [(0, .ref (w_adr E.2.1 6 0)), (1, va_rf (x1)), (2, va_rf (x2))] kX7_one_c5.2.2.2.2.2.2.1 (Nat.le_of_ble_eq_true rfl) ⟨⟨rfl, rfl, .inl rfl⟩, ⟨⟨rfl, rfl, .inl rfl⟩, ⟨⟨rfl, rfl, .inr (w_cat (x2))⟩, trivial⟩⟩⟩ rfl ?_
  refine kz_aload_nv (M := kt_M274) (x := x2) kX7_one_c5.2.2.2.2.2.2.2.1 rfl ?_
  obtain ⟨p1, hxp1, hlp1, h⟩ := h
  refine kz_nz0 (x := x2) hxp1 ?_
  refine kz_gfi (M := kt_M274) (c := 14) (o := p1) kX7_one_c6.1 wf_X7_61 (.inr (by exact hlp1)) ?_
  refine kz_if_eq (M := kt_M274) kX7_one_c6.2.1 (t := 113) rfl h (fun h => ?_) (fun h => ?_)
  · skip
    exact kz_weak [(0, .ref (w_adr E.2.1 6 0)), (1, va_rf (x1)), (2, va_rf (x2)), (3, .int y0)] ⟨rfl, ⟨rfl, ⟨rfl, ⟨rfl, trivial⟩⟩⟩⟩ rfl (zt_X7_one_p113 hL  h)
  · skip
    refine kz_aload_nv (M := kt_M274) (x := x2) kX7_one_c6.2.2.1 rfl ?_
    refine kz_nz0 (x := x2) hxp1 ?_
    refine kz_gfi (M := kt_M274) (c := 14) (o := p1) kX7_one_c6.2.2.2.1 wf_X7_61 (.inr (by exact hlp1)) ?_
    refine kz_iload_n (M := kt_M274) kX7_one_c6.2.2.2.2.1 rfl ?_
    refine kz_icmp_ne (M := kt_M274) kX7_one_c6.2.2.2.2.2.1 (t := 109) rfl h (fun h => ?_) (fun h => ?_)
    · skip
      exact kz_weak [(0, .ref (w_adr E.2.1 6 0)), (1, va_rf (x1)), (2, va_rf (x2)), (3, .int y0)] ⟨rfl, ⟨rfl, ⟨rfl, ⟨rfl, trivial⟩⟩⟩⟩ rfl (zt_X7_one_p109 hL  h)
    · skip
      refine kz_aload_nv (M := kt_M274) (x := x2) kX7_one_c6.2.2.2.2.2.2.1 rfl ?_
      refine kz_nz0 (x := x2) hxp1 ?_
      refine kz_gfi (M := kt_M274) (c := 14) (o := p1) kX7_one_c6.2.2.2.2.2.2.2.1 wf_X7_64 (.inr (by exact hlp1)) ?_
      refine kz_if_eq (M := kt_M274) kX7_one_c7.1 (t := 113) rfl h (fun h => ?_) (fun h => ?_)
      · skip
        exact kz_weak [(0, .ref (w_adr E.2.1 6 0)), (1, va_rf (x1)), (2, va_rf (x2)), (3, .int y0)] ⟨rfl, ⟨rfl, ⟨rfl, ⟨rfl, trivial⟩⟩⟩⟩ rfl (zt_X7_one_p113 hL  h)
      · skip
        exact kz_weak [(0, .ref (w_adr E.2.1 6 0)), (1, va_rf (x1)), (2, va_rf (x2)), (3, .int y0)] ⟨rfl, ⟨rfl, ⟨rfl, ⟨rfl, trivial⟩⟩⟩⟩ rfl (zt_X7_one_p109 hL  h)
def zb_X7_one_p71 (E : zE) (L : Nat) (Q : kx_Rs → wS → Prop) (w : wS) : Prop := Q (.inl none) w
theorem zt_X7_one_p71 {E : zE} {L : Nat} {Q : kx_Rs → wS → Prop} {w : wS} (hL : 24 ≤ L) (h : zb_X7_one_p71 E L Q  w) : kzE E L kt_M274 71 [(0, .ref (w_adr E.2.1 6 0))] [] w Q := by
  unfold zb_X7_one_p71 at h
  exact kz_ret (M := kt_M274) kX7_one_c4.2.2.2.2.2.2.1 rfl h
def zb_X7_one_p48 (E : zE) (L : Nat) (Q : kx_Rs → wS → Prop) (x1 : Option Nat) (x2 : Option Nat) (x3 : Int32) (y0 : Int32) (y1 : Int32) (y2 : Option Nat) (w : wS) : Prop := (∃ p1, x2 = some p1 ∧ w_l w E.2.1 14 p1 ∧ zw E (L - 24) kt_M269 [.ref (w_adr E.2.1 6 0), va_rf (y2), .int y1, .int y0, .int (w_i w 14 p1 18)] w (wk0 (fun w2 => wle w w2 → (if x3 = 0 then zb_X7_one_p71 E L Q w2 else (if ¬ w_i w2 14 p1 20 = 0 then zb_X7_one_p71 E L Q w2 else zw E (L - 21) kt_M290 [.ref (w_adr E.2.1 6 0), va_rf (x1)] w2 (wk0 (fun w4 => wle w2 w4 → zb_X7_one_p71 E L Q w4) (fun e w => Q (.inr e) w))))) (fun e w => Q (.inr e) w)))
theorem zt_X7_one_p48 {E : zE} {L : Nat} {Q : kx_Rs → wS → Prop} {x1 : Option Nat} {x2 : Option Nat} {x3 : Int32} {y0 : Int32} {y1 : Int32} {y2 : Option Nat} {w : wS} (hL : 24 ≤ L) (h : zb_X7_one_p48 E L Q x1 x2 x3 y0 y1 y2 w) : kzE E L kt_M274 48 [(0, .ref (w_adr E.2.1 6 0)), (1, va_rf (x1)), (2, va_rf (x2)), (3, .int x3)] [.int y0, .int y1, va_rf (y2), .ref (w_adr E.2.1 6 0)] w Q := by
  unfold zb_X7_one_p48 at h
  refine kz_aload_nv (M := kt_M274) (x := x2) kX7_one_c3.2.2.2.1 rfl ?_
  obtain ⟨p1, hxp1, hlp1, h⟩ := h
  refine kz_nz0 (x := x2) hxp1 ?_
  refine kz_gfi (M := kt_M274) (c := 14) (o := p1) kX7_one_c3.2.2.2.2.1 wf_X7_133 (.inr (by exact hlp1)) ?_
  refine kz_cv0 (M := kt_M274) (c := 6) (o := 0) (As := [va_rf (y2), .int y1, .int y0, .int (w_i w 14 p1 18)]) (rest := []) kX7_one_c3.2.2.2.2.2.1 wl_X7_286 wMv_269 rfl (.inl rfl) rfl (Nat.le_trans (Nat.le_of_ble_eq_true rfl) hL) (by simp [lg_sl, w_cat, z_ci, z_cr, z_cl, z_cn, kt_M269]) (Nat.le_of_ble_eq_true rfl) h (fun w2 hle h => ?_) (fun _ _ _ h => kzx_no rfl h)
  have h := h hle
  have hlp1 := w_l_le hlp1 hle
  refine kz_iload_n (M := kt_M274) kX7_one_c3.2.2.2.2.2.2.1 rfl ?_
  refine kz_if_eq (M := kt_M274) kX7_one_c3.2.2.2.2.2.2.2.1 (t := 71) rfl h (fun h => ?_) (fun h => ?_)
  · skip
    exact kz_weak [(0, .ref (w_adr E.2.1 6 0))] ⟨rfl, trivial⟩ rfl (zt_X7_one_p71 hL  h)
  · skip
    refine kz_aload_nv (M := kt_M274) (x := x2) kX7_one_c4.1 rfl ?_
    refine kz_nz0 (x := x2) hxp1 ?_
    refine kz_gfi (M := kt_M274) (c := 14) (o := p1) kX7_one_c4.2.1 wf_X7_64 (.inr (by exact hlp1)) ?_
    refine kz_if_ne (M := kt_M274) kX7_one_c4.2.2.1 (t := 71) rfl h (fun h => ?_) (fun h => ?_)
    · skip
      exact kz_weak [(0, .ref (w_adr E.2.1 6 0))] ⟨rfl, trivial⟩ rfl (zt_X7_one_p71 hL  h)
    · skip
      refine kz_aload_n (M := kt_M274) kX7_one_c4.2.2.2.1 rfl ?_
      refine kz_aload_nv (M := kt_M274) (x := x1) kX7_one_c4.2.2.2.2.1 rfl ?_
      refine kz_cv0 (M := kt_M274) (c := 6) (o := 0) (As := [va_rf (x1)]) (rest := []) kX7_one_c4.2.2.2.2.2.1 wl_X7_283 wMv_290 rfl (.inl rfl) rfl (Nat.le_trans (Nat.le_of_ble_eq_true rfl) hL) (by simp [lg_sl, w_cat, z_ci, z_cr, z_cl, z_cn, kt_M290]) (Nat.le_of_ble_eq_true rfl) h (fun w4 hle h => ?_) (fun _ _ _ h => kzx_no rfl h)
      have h := h hle
      have hlp1 := w_l_le hlp1 hle
      exact kz_weak [(0, .ref (w_adr E.2.1 6 0))] ⟨rfl, trivial⟩ rfl (zt_X7_one_p71 hL  h)
def zb_X7_one_p31 (E : zE) (L : Nat) (Q : kx_Rs → wS → Prop) (x1 : Option Nat) (x2 : Option Nat) (y0 : Int32) (w : wS) : Prop := (∃ p1, x2 = some p1 ∧ w_l w E.2.1 14 p1 ∧ (if w_i w 14 p1 18 = (-1) then zb_X7_one_p48 E L Q x1 x2 y0 0 1 x1 w else zb_X7_one_p48 E L Q x1 x2 y0 1 1 x1 w))
theorem zt_X7_one_p31 {E : zE} {L : Nat} {Q : kx_Rs → wS → Prop} {x1 : Option Nat} {x2 : Option Nat} {y0 : Int32} {w : wS} (hL : 24 ≤ L) (h : zb_X7_one_p31 E L Q x1 x2 y0 w) : kzE E L kt_M274 31 [(0, .ref (w_adr E.2.1 6 0)), (1, va_rf (x1)), (2, va_rf (x2))] [.int y0] w Q := by
  unfold zb_X7_one_p31 at h
  refine kz_sti_n (M := kt_M274) [(0, .ref (w_adr E.2.1 6 0)), (1, va_rf (x1)), (2, va_rf (x2))] kX7_one_c2.1 (Nat.le_of_ble_eq_true rfl) ⟨⟨rfl, rfl, .inl rfl⟩, ⟨⟨rfl, rfl, .inl rfl⟩, ⟨⟨rfl, rfl, .inr (w_cat (x2))⟩, trivial⟩⟩⟩ rfl ?_
  refine kz_aload_n (M := kt_M274) kX7_one_c2.2.1 rfl ?_
  refine kz_aload_nv (M := kt_M274) (x := x1) kX7_one_c2.2.2.1 rfl ?_
  refine kz_ic (M := kt_M274) 1 kX7_one_c2.2.2.2.1 rfl ?_
  refine kz_aload_nv (M := kt_M274) (x := x2) kX7_one_c2.2.2.2.2.1 rfl ?_
  obtain ⟨p1, hxp1, hlp1, h⟩ := h
  refine kz_nz0 (x := x2) hxp1 ?_
  refine kz_gfi (M := kt_M274) (c := 14) (o := p1) kX7_one_c2.2.2.2.2.2.1 wf_X7_133 (.inr (by exact hlp1)) ?_
  refine kz_ic (M := kt_M274) (-1) kX7_one_c2.2.2.2.2.2.2.1 rfl ?_
  refine kz_icmp_eq (M := kt_M274) kX7_one_c2.2.2.2.2.2.2.2.1 (t := 47) rfl h (fun h => ?_) (fun h => ?_)
  · skip
    refine kz_ic (M := kt_M274) 0 kX7_one_c3.2.2.1 rfl ?_
    exact kz_weak [(0, .ref (w_adr E.2.1 6 0)), (1, va_rf (x1)), (2, va_rf (x2)), (3, .int y0)] ⟨rfl, ⟨rfl, ⟨rfl, ⟨rfl, trivial⟩⟩⟩⟩ rfl (zt_X7_one_p48 hL  h)
  · skip
    refine kz_ic (M := kt_M274) 1 kX7_one_c3.1 rfl ?_
    refine kz_goto (M := kt_M274) kX7_one_c3.2.1 (t := 48) rfl ?_
    exact kz_weak [(0, .ref (w_adr E.2.1 6 0)), (1, va_rf (x1)), (2, va_rf (x2)), (3, .int y0)] ⟨rfl, ⟨rfl, ⟨rfl, ⟨rfl, trivial⟩⟩⟩⟩ rfl (zt_X7_one_p48 hL  h)
def zb_X7_one_p0 (E : zE) (L : Nat) (Q : kx_Rs → wS → Prop) (x1 : Option Nat) (w : wS) : Prop := (∃ p1, x1 = some p1 ∧ w_l w E.2.1 14 p1 ∧ zw E (L - 21) kt_M266 [.ref (w_adr E.2.1 6 0), va_rf (w_p w 14 p1 3)] w (wk0 (fun w2 => wle w w2 → (if ¬ w_i w2 14 p1 8 = 27 then (if ¬ w_i w2 14 p1 8 = 17 then zb_X7_one_p86 E L Q x1 (w_p w 14 p1 3) 1 w2 else zb_X7_one_p86 E L Q x1 (w_p w 14 p1 3) 3 w2) else (∃ p4, w_p w 14 p1 3 = some p4 ∧ w_l w2 E.2.1 14 p4 ∧ (if w_i w2 14 p4 17 = 0 then zb_X7_one_p31 E L Q x1 (w_p w 14 p1 3) 0 w2 else zb_X7_one_p31 E L Q x1 (w_p w 14 p1 3) 1 w2)))) (fun e w => Q (.inr e) w)))
theorem zt_X7_one_p0 {E : zE} {L : Nat} {Q : kx_Rs → wS → Prop} {x1 : Option Nat} {w : wS} (hL : 24 ≤ L) (h : zb_X7_one_p0 E L Q x1 w) : kzE E L kt_M274 0 [(0, .ref (w_adr E.2.1 6 0)), (1, va_rf (x1))] [] w Q := by
  unfold zb_X7_one_p0 at h
  refine kz_aload_nv (M := kt_M274) (x := x1) kX7_one_c0.1 rfl ?_
  obtain ⟨p1, hxp1, hlp1, h⟩ := h
  refine kz_nz0 (x := x1) hxp1 ?_
  refine kz_gfp (M := kt_M274) (c := 14) (o := p1) kX7_one_c0.2.1 wf_X7_34 (.inr (by exact hlp1)) ?_
  refine kz_stv_n (M := kt_M274) (x := w_p w 14 p1 3) [(0, .ref (w_adr E.2.1 6 0)), (1, va_rf (x1))] kX7_one_c0.2.2.1 (Nat.le_of_ble_eq_true rfl) ⟨⟨rfl, rfl, .inl rfl⟩, ⟨⟨rfl, rfl, .inr (w_cat (x1))⟩, trivial⟩⟩ rfl ?_
  refine kz_aload_n (M := kt_M274) kX7_one_c0.2.2.2.1 rfl ?_
  refine kz_aload_nv (M := kt_M274) (x := w_p w 14 p1 3) kX7_one_c0.2.2.2.2.1 rfl ?_
  refine kz_cv0 (M := kt_M274) (c := 6) (o := 0) (As := [va_rf (w_p w 14 p1 3)]) (rest := []) kX7_one_c0.2.2.2.2.2.1 wl_X7_71 wMv_266 rfl (.inl rfl) rfl (Nat.le_trans (Nat.le_of_ble_eq_true rfl) hL) (by simp [lg_sl, w_cat, z_ci, z_cr, z_cl, z_cn, kt_M266]) (Nat.le_of_ble_eq_true rfl) h (fun w2 hle h => ?_) (fun _ _ _ h => kzx_no rfl h)
  have h := h hle
  have hlp1 := w_l_le hlp1 hle
  refine kz_aload_nv (M := kt_M274) (x := x1) kX7_one_c0.2.2.2.2.2.2.1 rfl ?_
  refine kz_nz0 (x := x1) hxp1 ?_
  refine kz_gfi (M := kt_M274) (c := 14) (o := p1) kX7_one_c0.2.2.2.2.2.2.2.1 wf_X7_130 (.inr (by exact hlp1)) ?_
  refine kz_bi (M := kt_M274) 27 kX7_one_c1.1 rfl ?_
  refine kz_icmp_ne (M := kt_M274) kX7_one_c1.2.1 (t := 72) rfl h (fun h => ?_) (fun h => ?_)
  · skip
    refine kz_aload_nv (M := kt_M274) (x := x1) kX7_one_c4.2.2.2.2.2.2.2.1 rfl ?_
    refine kz_nz0 (x := x1) hxp1 ?_
    refine kz_gfi (M := kt_M274) (c := 14) (o := p1) kX7_one_c5.1 wf_X7_130 (.inr (by exact hlp1)) ?_
    refine kz_bi (M := kt_M274) 17 kX7_one_c5.2.1 rfl ?_
    refine kz_icmp_ne (M := kt_M274) kX7_one_c5.2.2.1 (t := 85) rfl h (fun h => ?_) (fun h => ?_)
    · skip
      refine kz_ic (M := kt_M274) 1 kX7_one_c5.2.2.2.2.2.1 rfl ?_
      exact kz_weak [(0, .ref (w_adr E.2.1 6 0)), (1, va_rf (x1)), (2, va_rf (w_p w 14 p1 3))] ⟨rfl, ⟨rfl, ⟨rfl, trivial⟩⟩⟩ rfl (zt_X7_one_p86 hL  h)
    · skip
      refine kz_ic (M := kt_M274) 3 kX7_one_c5.2.2.2.1 rfl ?_
      refine kz_goto (M := kt_M274) kX7_one_c5.2.2.2.2.1 (t := 86) rfl ?_
      exact kz_weak [(0, .ref (w_adr E.2.1 6 0)), (1, va_rf (x1)), (2, va_rf (w_p w 14 p1 3))] ⟨rfl, ⟨rfl, ⟨rfl, trivial⟩⟩⟩ rfl (zt_X7_one_p86 hL  h)
  · skip
    refine kz_aload_nv (M := kt_M274) (x := w_p w 14 p1 3) kX7_one_c1.2.2.1 rfl ?_
    obtain ⟨p4, hxp4, hlp4, h⟩ := h
    refine kz_nz0 (x := w_p w 14 p1 3) hxp4 ?_
    refine kz_gfi (M := kt_M274) (c := 14) (o := p4) kX7_one_c1.2.2.2.1 wf_X7_61 (.inr (by exact hlp4)) ?_
    refine kz_if_eq (M := kt_M274) kX7_one_c1.2.2.2.2.1 (t := 30) rfl h (fun h => ?_) (fun h => ?_)
    · skip
      refine kz_ic (M := kt_M274) 0 kX7_one_c1.2.2.2.2.2.2.2.1 rfl ?_
      exact kz_weak [(0, .ref (w_adr E.2.1 6 0)), (1, va_rf (x1)), (2, va_rf (w_p w 14 p1 3))] ⟨rfl, ⟨rfl, ⟨rfl, trivial⟩⟩⟩ rfl (zt_X7_one_p31 hL  h)
    · skip
      refine kz_ic (M := kt_M274) 1 kX7_one_c1.2.2.2.2.2.1 rfl ?_
      refine kz_goto (M := kt_M274) kX7_one_c1.2.2.2.2.2.2.1 (t := 31) rfl ?_
      exact kz_weak [(0, .ref (w_adr E.2.1 6 0)), (1, va_rf (x1)), (2, va_rf (w_p w 14 p1 3))] ⟨rfl, ⟨rfl, ⟨rfl, trivial⟩⟩⟩ rfl (zt_X7_one_p31 hL  h)
def zb_X7_two_p322 (E : zE) (L : Nat) (Q : kx_Rs → wS → Prop) (w : wS) : Prop := Q (.inl none) w
theorem zt_X7_two_p322 {E : zE} {L : Nat} {Q : kx_Rs → wS → Prop} {w : wS} (hL : 24 ≤ L) (h : zb_X7_two_p322 E L Q  w) : kzE E L kt_M286 322 [(0, .ref (w_adr E.2.1 6 0))] [] w Q := by
  unfold zb_X7_two_p322 at h
  exact kz_ret (M := kt_M286) kX7_two_c19.2.1 rfl h
def zb_X7_two_p297 (E : zE) (L : Nat) (Q : kx_Rs → wS → Prop) (x1 : Option Nat) (w : wS) : Prop := zw E (L - 21) kt_M267 [.ref (w_adr E.2.1 6 0), va_rf (x1)] w (wk0 (fun w1 => wle w w1 → zb_X7_two_p322 E L Q w1) (fun e w => Q (.inr e) w))
theorem zt_X7_two_p297 {E : zE} {L : Nat} {Q : kx_Rs → wS → Prop} {x1 : Option Nat} {w : wS} (hL : 24 ≤ L) (h : zb_X7_two_p297 E L Q x1 w) : kzE E L kt_M286 297 [(0, .ref (w_adr E.2.1 6 0)), (1, va_rf (x1))] [] w Q := by
  unfold zb_X7_two_p297 at h
  refine kz_aload_n (M := kt_M286) kX7_two_c17.2.2.2.2.2.1 rfl ?_
  refine kz_aload_nv (M := kt_M286) (x := x1) kX7_two_c17.2.2.2.2.2.2.1 rfl ?_
  refine kz_cv0 (M := kt_M286) (c := 6) (o := 0) (As := [va_rf (x1)]) (rest := []) kX7_two_c17.2.2.2.2.2.2.2.1 wl_X7_308 wMv_267 rfl (.inl rfl) rfl (Nat.le_trans (Nat.le_of_ble_eq_true rfl) hL) (by simp [lg_sl, w_cat, z_ci, z_cr, z_cl, z_cn, kt_M267]) (Nat.le_of_ble_eq_true rfl) h (fun w1 hle h => ?_) (fun _ _ _ h => kzx_no rfl h)
  have h := h hle
  refine kz_goto (M := kt_M286) kX7_two_c18.1 (t := 322) rfl ?_
  exact kz_weak [(0, .ref (w_adr E.2.1 6 0))] ⟨rfl, trivial⟩ rfl (zt_X7_two_p322 hL  h)
def zb_X7_two_p243 (E : zE) (L : Nat) (Q : kx_Rs → wS → Prop) (x1 : Option Nat) (x2 : Option Nat) (x3 : Option Nat) (x4 : Int32) (x7 : Int32) (y0 : Int32) (y1 : Int32) (y2 : Option Nat) (w : wS) : Prop := zw E (L - 24) kt_M269 [.ref (w_adr E.2.1 6 0), va_rf (y2), .int y1, .int y0, .int 0] w (wk0 (fun w1 => wle w w1 → (if x7 = 0 then (∃ p3, x1 = some p3 ∧ w_l w1 E.2.1 14 p3 ∧ (if w_i w1 14 p3 21 = 0 then zb_X7_two_p322 E L Q w1 else (∃ p4, x2 = some p4 ∧ w_l w1 E.2.1 14 p4 ∧ (if ¬ w_i w1 14 p4 11 = 0 then zb_X7_two_p297 E L Q x1 w1 else (∃ p5, x3 = some p5 ∧ w_l w1 E.2.1 14 p5 ∧ (if ¬ w_i w1 14 p5 11 = 0 then zb_X7_two_p297 E L Q x1 w1 else zw E (L - 24) kt_M216 [.int x4, .int (w_i w1 14 p4 19), .int (w_i w1 14 p5 19)] w1 (wk1 (fun v7 w6 => wle w1 w6 → (if v7 = 0 then zw E (L - 22) kt_M217 [.int x4, .int (w_i w6 14 p4 19), .int (w_i w6 14 p5 19)] w6 (wk1 (fun v9 w8 => wle w6 w8 → zb_X7_two_p322 E L Q (ws_i w8 14 p3 19 v9)) (fun e w => Q (.inr e) w)) else zb_X7_two_p297 E L Q x1 w6)) (fun e w => Q (.inr e) w)))))))) else zw E (L - 21) kt_M290 [.ref (w_adr E.2.1 6 0), va_rf (x1)] w1 (wk0 (fun w10 => wle w1 w10 → zb_X7_two_p322 E L Q w10) (fun e w => Q (.inr e) w)))) (fun e w => Q (.inr e) w))
theorem zt_X7_two_p243 {E : zE} {L : Nat} {Q : kx_Rs → wS → Prop} {x1 : Option Nat} {x2 : Option Nat} {x3 : Option Nat} {x4 : Int32} {x7 : Int32} {y0 : Int32} {y1 : Int32} {y2 : Option Nat} {w : wS} (hL : 24 ≤ L) (h : zb_X7_two_p243 E L Q x1 x2 x3 x4 x7 y0 y1 y2 w) : kzE E L kt_M286 243 [(0, .ref (w_adr E.2.1 6 0)), (1, va_rf (x1)), (2, va_rf (x2)), (3, va_rf (x3)), (4, .int x4), (7, .int x7)] [.int y0, .int y1, va_rf (y2), .ref (w_adr E.2.1 6 0)] w Q := by
  unfold zb_X7_two_p243 at h
  refine kz_ic (M := kt_M286) 0 kX7_two_c14.2.2.2.2.2.1 rfl ?_
  refine kz_cv0 (M := kt_M286) (c := 6) (o := 0) (As := [va_rf (y2), .int y1, .int y0, .int 0]) (rest := []) kX7_two_c14.2.2.2.2.2.2.1 wl_X7_286 wMv_269 rfl (.inl rfl) rfl (Nat.le_trans (Nat.le_of_ble_eq_true rfl) hL) (by simp [lg_sl, w_cat, z_ci, z_cr, z_cl, z_cn, kt_M269]) (Nat.le_of_ble_eq_true rfl) h (fun w1 hle h => ?_) (fun _ _ _ h => kzx_no rfl h)
  have h := h hle
  refine kz_iload (M := kt_M286) kX7_two_c14.2.2.2.2.2.2.2.1 rfl ?_
  refine kz_if_eq (M := kt_M286) kX7_two_c15.1 (t := 260) rfl h (fun h => ?_) (fun h => ?_)
  · skip
    refine kz_aload_nv (M := kt_M286) (x := x1) kX7_two_c15.2.2.2.2.2.1 rfl ?_
    obtain ⟨p3, hxp3, hlp3, h⟩ := h
    refine kz_nz0 (x := x1) hxp3 ?_
    refine kz_gfi (M := kt_M286) (c := 14) (o := p3) kX7_two_c15.2.2.2.2.2.2.1 wf_X7_68 (.inr (by exact hlp3)) ?_
    refine kz_if_eq (M := kt_M286) kX7_two_c15.2.2.2.2.2.2.2.1 (t := 322) rfl h (fun h => ?_) (fun h => ?_)
    · skip
      exact kz_weak [(0, .ref (w_adr E.2.1 6 0))] ⟨rfl, trivial⟩ rfl (zt_X7_two_p322 hL  h)
    · skip
      refine kz_aload_nv (M := kt_M286) (x := x2) kX7_two_c16.1 rfl ?_
      obtain ⟨p4, hxp4, hlp4, h⟩ := h
      refine kz_nz0 (x := x2) hxp4 ?_
      refine kz_gfi (M := kt_M286) (c := 14) (o := p4) kX7_two_c16.2.1 wf_X7_141 (.inr (by exact hlp4)) ?_
      refine kz_if_ne (M := kt_M286) kX7_two_c16.2.2.1 (t := 297) rfl h (fun h => ?_) (fun h => ?_)
      · skip
        exact kz_weak [(0, .ref (w_adr E.2.1 6 0)), (1, va_rf (x1))] ⟨rfl, ⟨rfl, trivial⟩⟩ rfl (zt_X7_two_p297 hL  h)
      · skip
        refine kz_aload_nv (M := kt_M286) (x := x3) kX7_two_c16.2.2.2.1 rfl ?_
        obtain ⟨p5, hxp5, hlp5, h⟩ := h
        refine kz_nz0 (x := x3) hxp5 ?_
        refine kz_gfi (M := kt_M286) (c := 14) (o := p5) kX7_two_c16.2.2.2.2.1 wf_X7_141 (.inr (by exact hlp5)) ?_
        refine kz_if_ne (M := kt_M286) kX7_two_c16.2.2.2.2.2.1 (t := 297) rfl h (fun h => ?_) (fun h => ?_)
        · skip
          exact kz_weak [(0, .ref (w_adr E.2.1 6 0)), (1, va_rf (x1))] ⟨rfl, ⟨rfl, trivial⟩⟩ rfl (zt_X7_two_p297 hL  h)
        · skip
          refine kz_iload (M := kt_M286) kX7_two_c16.2.2.2.2.2.2.1 rfl ?_
          refine kz_aload_nv (M := kt_M286) (x := x2) kX7_two_c16.2.2.2.2.2.2.2.1 rfl ?_
          refine kz_nz0 (x := x2) hxp4 ?_
          refine kz_gfi (M := kt_M286) (c := 14) (o := p4) kX7_two_c17.1 wf_X7_74 (.inr (by exact hlp4)) ?_
          refine kz_aload_nv (M := kt_M286) (x := x3) kX7_two_c17.2.1 rfl ?_
          refine kz_nz0 (x := x3) hxp5 ?_
          refine kz_gfi (M := kt_M286) (c := 14) (o := p5) kX7_two_c17.2.2.1 wf_X7_74 (.inr (by exact hlp5)) ?_
          refine kz_cs1 (M := kt_M286) (As := [.int x4, .int (w_i w1 14 p4 19), .int (w_i w1 14 p5 19)]) (rest := []) kX7_two_c17.2.2.2.1 wl_X7_316 wMs_216 rfl (Nat.le_trans (Nat.le_of_ble_eq_true rfl) hL) (Nat.le_of_ble_eq_true rfl) (Nat.le_of_ble_eq_true rfl) h (fun v7 w6 hle h => ?_) (fun _ _ _ h => kzx_no rfl h)
          have h := h hle
          have hlp3 := w_l_le hlp3 hle
          have hlp4 := w_l_le hlp4 hle
          have hlp5 := w_l_le hlp5 hle
          refine kz_if_eq (M := kt_M286) kX7_two_c17.2.2.2.2.1 (t := 305) rfl h (fun h => ?_) (fun h => ?_)
          · skip
            refine kz_aload_nv (M := kt_M286) (x := x1) kX7_two_c18.2.1 rfl ?_
            refine kz_iload (M := kt_M286) kX7_two_c18.2.2.1 rfl ?_
            refine kz_aload_nv (M := kt_M286) (x := x2) kX7_two_c18.2.2.2.1 rfl ?_
            refine kz_nz0 (x := x2) hxp4 ?_
            refine kz_gfi (M := kt_M286) (c := 14) (o := p4) kX7_two_c18.2.2.2.2.1 wf_X7_74 (.inr (by exact hlp4)) ?_
            refine kz_aload_nv (M := kt_M286) (x := x3) kX7_two_c18.2.2.2.2.2.1 rfl ?_
            refine kz_nz0 (x := x3) hxp5 ?_
            refine kz_gfi (M := kt_M286) (c := 14) (o := p5) kX7_two_c18.2.2.2.2.2.2.1 wf_X7_74 (.inr (by exact hlp5)) ?_
            refine kz_cs1 (M := kt_M286) (As := [.int x4, .int (w_i w6 14 p4 19), .int (w_i w6 14 p5 19)]) (rest := [va_rf (x1)]) kX7_two_c18.2.2.2.2.2.2.2.1 wl_X7_321 wMs_217 rfl (Nat.le_trans (Nat.le_of_ble_eq_true rfl) hL) (Nat.le_of_ble_eq_true rfl) (by simp [kx_cat, w_cat, z_ci, z_cr, z_cl, z_cn]) h (fun v9 w8 hle h => ?_) (fun _ _ _ h => kzx_no rfl h)
            have h := h hle
            have hlp3 := w_l_le hlp3 hle
            have hlp4 := w_l_le hlp4 hle
            have hlp5 := w_l_le hlp5 hle
            refine kz_nz1 (x := x1) hxp3 ?_
            refine kz_pfi (M := kt_M286) (c := 14) (o := p3) kX7_two_c19.1 wq_X7_74 (.inr (by exact hlp3)) ?_
            exact kz_weak [(0, .ref (w_adr E.2.1 6 0))] ⟨rfl, trivial⟩ rfl (zt_X7_two_p322 hL  h)
          · skip
            exact kz_weak [(0, .ref (w_adr E.2.1 6 0)), (1, va_rf (x1))] ⟨rfl, ⟨rfl, trivial⟩⟩ rfl (zt_X7_two_p297 hL  h)
  · skip
    refine kz_aload_n (M := kt_M286) kX7_two_c15.2.1 rfl ?_
    refine kz_aload_nv (M := kt_M286) (x := x1) kX7_two_c15.2.2.1 rfl ?_
    refine kz_cv0 (M := kt_M286) (c := 6) (o := 0) (As := [va_rf (x1)]) (rest := []) kX7_two_c15.2.2.2.1 wl_X7_283 wMv_290 rfl (.inl rfl) rfl (Nat.le_trans (Nat.le_of_ble_eq_true rfl) hL) (by simp [lg_sl, w_cat, z_ci, z_cr, z_cl, z_cn, kt_M290]) (Nat.le_of_ble_eq_true rfl) h (fun w10 hle h => ?_) (fun _ _ _ h => kzx_no rfl h)
    have h := h hle
    refine kz_goto (M := kt_M286) kX7_two_c15.2.2.2.2.1 (t := 322) rfl ?_
    exact kz_weak [(0, .ref (w_adr E.2.1 6 0))] ⟨rfl, trivial⟩ rfl (zt_X7_two_p322 hL  h)
def zb_X7_two_p242 (E : zE) (L : Nat) (Q : kx_Rs → wS → Prop) (x1 : Option Nat) (x2 : Option Nat) (x3 : Option Nat) (x4 : Int32) (x7 : Int32) (y0 : Int32) (y1 : Option Nat) (w : wS) : Prop := zb_X7_two_p243 E L Q x1 x2 x3 x4 x7 0 y0 y1 w
theorem zt_X7_two_p242 {E : zE} {L : Nat} {Q : kx_Rs → wS → Prop} {x1 : Option Nat} {x2 : Option Nat} {x3 : Option Nat} {x4 : Int32} {x7 : Int32} {y0 : Int32} {y1 : Option Nat} {w : wS} (hL : 24 ≤ L) (h : zb_X7_two_p242 E L Q x1 x2 x3 x4 x7 y0 y1 w) : kzE E L kt_M286 242 [(0, .ref (w_adr E.2.1 6 0)), (1, va_rf (x1)), (2, va_rf (x2)), (3, va_rf (x3)), (4, .int x4), (7, .int x7)] [.int y0, va_rf (y1), .ref (w_adr E.2.1 6 0)] w Q := by
  unfold zb_X7_two_p242 at h
  refine kz_ic (M := kt_M286) 0 kX7_two_c14.2.2.2.2.1 rfl ?_
  exact kz_weak [(0, .ref (w_adr E.2.1 6 0)), (1, va_rf (x1)), (2, va_rf (x2)), (3, va_rf (x3)), (4, .int x4), (7, .int x7)] ⟨rfl, ⟨rfl, ⟨rfl, ⟨rfl, ⟨rfl, ⟨rfl, trivial⟩⟩⟩⟩⟩⟩ rfl (zt_X7_two_p243 hL  h)
def zb_X7_two_p224 (E : zE) (L : Nat) (Q : kx_Rs → wS → Prop) (x1 : Option Nat) (x2 : Option Nat) (x3 : Option Nat) (x4 : Int32) (x7 : Int32) (y0 : Int32) (y1 : Option Nat) (w : wS) : Prop := (∃ p1, x2 = some p1 ∧ w_l w E.2.1 14 p1 ∧ (if w_i w 14 p1 21 = 0 then zb_X7_two_p242 E L Q x1 x2 x3 x4 x7 y0 y1 w else (∃ p2, x3 = some p2 ∧ w_l w E.2.1 14 p2 ∧ (if w_i w 14 p2 21 = 0 then zb_X7_two_p242 E L Q x1 x2 x3 x4 x7 y0 y1 w else zb_X7_two_p243 E L Q x1 x2 x3 x4 x7 1 y0 y1 w))))
theorem zt_X7_two_p224 {E : zE} {L : Nat} {Q : kx_Rs → wS → Prop} {x1 : Option Nat} {x2 : Option Nat} {x3 : Option Nat} {x4 : Int32} {x7 : Int32} {y0 : Int32} {y1 : Option Nat} {w : wS} (hL : 24 ≤ L) (h : zb_X7_two_p224 E L Q x1 x2 x3 x4 x7 y0 y1 w) : kzE E L kt_M286 224 [(0, .ref (w_adr E.2.1 6 0)), (1, va_rf (x1)), (2, va_rf (x2)), (3, va_rf (x3)), (4, .int x4), (7, .int x7)] [.int y0, va_rf (y1), .ref (w_adr E.2.1 6 0)] w Q := by
  unfold zb_X7_two_p224 at h
  refine kz_aload_nv (M := kt_M286) (x := x2) kX7_two_c13.2.2.2.2.1 rfl ?_
  obtain ⟨p1, hxp1, hlp1, h⟩ := h
  refine kz_nz0 (x := x2) hxp1 ?_
  refine kz_gfi (M := kt_M286) (c := 14) (o := p1) kX7_two_c13.2.2.2.2.2.1 wf_X7_68 (.inr (by exact hlp1)) ?_
  refine kz_if_eq (M := kt_M286) kX7_two_c13.2.2.2.2.2.2.1 (t := 242) rfl h (fun h => ?_) (fun h => ?_)
  · skip
    exact kz_weak [(0, .ref (w_adr E.2.1 6 0)), (1, va_rf (x1)), (2, va_rf (x2)), (3, va_rf (x3)), (4, .int x4), (7, .int x7)] ⟨rfl, ⟨rfl, ⟨rfl, ⟨rfl, ⟨rfl, ⟨rfl, trivial⟩⟩⟩⟩⟩⟩ rfl (zt_X7_two_p242 hL  h)
  · skip
    refine kz_aload_nv (M := kt_M286) (x := x3) kX7_two_c13.2.2.2.2.2.2.2.1 rfl ?_
    obtain ⟨p2, hxp2, hlp2, h⟩ := h
    refine kz_nz0 (x := x3) hxp2 ?_
    refine kz_gfi (M := kt_M286) (c := 14) (o := p2) kX7_two_c14.1 wf_X7_68 (.inr (by exact hlp2)) ?_
    refine kz_if_eq (M := kt_M286) kX7_two_c14.2.1 (t := 242) rfl h (fun h => ?_) (fun h => ?_)
    · skip
      exact kz_weak [(0, .ref (w_adr E.2.1 6 0)), (1, va_rf (x1)), (2, va_rf (x2)), (3, va_rf (x3)), (4, .int x4), (7, .int x7)] ⟨rfl, ⟨rfl, ⟨rfl, ⟨rfl, ⟨rfl, ⟨rfl, trivial⟩⟩⟩⟩⟩⟩ rfl (zt_X7_two_p242 hL  h)
    · skip
      refine kz_ic (M := kt_M286) 1 kX7_two_c14.2.2.1 rfl ?_
      refine kz_goto (M := kt_M286) kX7_two_c14.2.2.2.1 (t := 243) rfl ?_
      exact kz_weak [(0, .ref (w_adr E.2.1 6 0)), (1, va_rf (x1)), (2, va_rf (x2)), (3, va_rf (x3)), (4, .int x4), (7, .int x7)] ⟨rfl, ⟨rfl, ⟨rfl, ⟨rfl, ⟨rfl, ⟨rfl, trivial⟩⟩⟩⟩⟩⟩ rfl (zt_X7_two_p243 hL  h)
def zb_X7_two_p219 (E : zE) (L : Nat) (Q : kx_Rs → wS → Prop) (x1 : Option Nat) (x2 : Option Nat) (x3 : Option Nat) (x4 : Int32) (x7 : Int32) (y0 : Option Nat) (w : wS) : Prop := zb_X7_two_p224 E L Q x1 x2 x3 x4 x7 3 y0 w
theorem zt_X7_two_p219 {E : zE} {L : Nat} {Q : kx_Rs → wS → Prop} {x1 : Option Nat} {x2 : Option Nat} {x3 : Option Nat} {x4 : Int32} {x7 : Int32} {y0 : Option Nat} {w : wS} (hL : 24 ≤ L) (h : zb_X7_two_p219 E L Q x1 x2 x3 x4 x7 y0 w) : kzE E L kt_M286 219 [(0, .ref (w_adr E.2.1 6 0)), (1, va_rf (x1)), (2, va_rf (x2)), (3, va_rf (x3)), (4, .int x4), (7, .int x7)] [va_rf (y0), .ref (w_adr E.2.1 6 0)] w Q := by
  unfold zb_X7_two_p219 at h
  refine kz_ic (M := kt_M286) 3 kX7_two_c13.2.1 rfl ?_
  refine kz_goto (M := kt_M286) kX7_two_c13.2.2.1 (t := 224) rfl ?_
  exact kz_weak [(0, .ref (w_adr E.2.1 6 0)), (1, va_rf (x1)), (2, va_rf (x2)), (3, va_rf (x3)), (4, .int x4), (7, .int x7)] ⟨rfl, ⟨rfl, ⟨rfl, ⟨rfl, ⟨rfl, ⟨rfl, trivial⟩⟩⟩⟩⟩⟩ rfl (zt_X7_two_p224 hL  h)
def zb_X7_two_p202 (E : zE) (L : Nat) (Q : kx_Rs → wS → Prop) (x1 : Option Nat) (x2 : Option Nat) (x3 : Option Nat) (x4 : Int32) (x5 : Int32) (x6 : Int32) (x7 : Int32) (w : wS) : Prop := (if ¬ x5 = 0 then zb_X7_two_p219 E L Q x1 x2 x3 x4 x7 x1 w else (if ¬ x6 = 0 then zb_X7_two_p219 E L Q x1 x2 x3 x4 x7 x1 w else (if ¬ x4 = 0 then zb_X7_two_p224 E L Q x1 x2 x3 x4 x7 1 x1 w else zb_X7_two_p219 E L Q x1 x2 x3 x4 x7 x1 w)))
theorem zt_X7_two_p202 {E : zE} {L : Nat} {Q : kx_Rs → wS → Prop} {x1 : Option Nat} {x2 : Option Nat} {x3 : Option Nat} {x4 : Int32} {x5 : Int32} {x6 : Int32} {x7 : Int32} {w : wS} (hL : 24 ≤ L) (h : zb_X7_two_p202 E L Q x1 x2 x3 x4 x5 x6 x7 w) : kzE E L kt_M286 202 [(0, .ref (w_adr E.2.1 6 0)), (1, va_rf (x1)), (2, va_rf (x2)), (3, va_rf (x3)), (4, .int x4), (5, .int x5), (6, .int x6), (7, .int x7)] [] w Q := by
  unfold zb_X7_two_p202 at h
  refine kz_aload_n (M := kt_M286) kX7_two_c12.2.1 rfl ?_
  refine kz_aload_nv (M := kt_M286) (x := x1) kX7_two_c12.2.2.1 rfl ?_
  refine kz_iload (M := kt_M286) kX7_two_c12.2.2.2.1 rfl ?_
  refine kz_if_ne (M := kt_M286) kX7_two_c12.2.2.2.2.1 (t := 219) rfl h (fun h => ?_) (fun h => ?_)
  · skip
    exact kz_weak [(0, .ref (w_adr E.2.1 6 0)), (1, va_rf (x1)), (2, va_rf (x2)), (3, va_rf (x3)), (4, .int x4), (7, .int x7)] ⟨rfl, ⟨rfl, ⟨rfl, ⟨rfl, ⟨rfl, ⟨rfl, trivial⟩⟩⟩⟩⟩⟩ rfl (zt_X7_two_p219 hL  h)
  · skip
    refine kz_iload (M := kt_M286) kX7_two_c12.2.2.2.2.2.1 rfl ?_
    refine kz_if_ne (M := kt_M286) kX7_two_c12.2.2.2.2.2.2.1 (t := 219) rfl h (fun h => ?_) (fun h => ?_)
    · skip
      exact kz_weak [(0, .ref (w_adr E.2.1 6 0)), (1, va_rf (x1)), (2, va_rf (x2)), (3, va_rf (x3)), (4, .int x4), (7, .int x7)] ⟨rfl, ⟨rfl, ⟨rfl, ⟨rfl, ⟨rfl, ⟨rfl, trivial⟩⟩⟩⟩⟩⟩ rfl (zt_X7_two_p219 hL  h)
    · skip
      refine kz_iload (M := kt_M286) kX7_two_c12.2.2.2.2.2.2.2.1 rfl ?_
      refine kz_if_ne (M := kt_M286) kX7_two_c13.1 (t := 223) rfl h (fun h => ?_) (fun h => ?_)
      · skip
        refine kz_ic (M := kt_M286) 1 kX7_two_c13.2.2.2.1 rfl ?_
        exact kz_weak [(0, .ref (w_adr E.2.1 6 0)), (1, va_rf (x1)), (2, va_rf (x2)), (3, va_rf (x3)), (4, .int x4), (7, .int x7)] ⟨rfl, ⟨rfl, ⟨rfl, ⟨rfl, ⟨rfl, ⟨rfl, trivial⟩⟩⟩⟩⟩⟩ rfl (zt_X7_two_p224 hL  h)
      · skip
        exact kz_weak [(0, .ref (w_adr E.2.1 6 0)), (1, va_rf (x1)), (2, va_rf (x2)), (3, va_rf (x3)), (4, .int x4), (7, .int x7)] ⟨rfl, ⟨rfl, ⟨rfl, ⟨rfl, ⟨rfl, ⟨rfl, trivial⟩⟩⟩⟩⟩⟩ rfl (zt_X7_two_p219 hL  h)
def zb_X7_two_p200 (E : zE) (L : Nat) (Q : kx_Rs → wS → Prop) (x1 : Option Nat) (x2 : Option Nat) (x3 : Option Nat) (x4 : Int32) (x5 : Int32) (x6 : Int32) (y0 : Int32) (w : wS) : Prop := zb_X7_two_p202 E L Q x1 x2 x3 x4 x5 x6 y0 w
theorem zt_X7_two_p200 {E : zE} {L : Nat} {Q : kx_Rs → wS → Prop} {x1 : Option Nat} {x2 : Option Nat} {x3 : Option Nat} {x4 : Int32} {x5 : Int32} {x6 : Int32} {y0 : Int32} {w : wS} (hL : 24 ≤ L) (h : zb_X7_two_p200 E L Q x1 x2 x3 x4 x5 x6 y0 w) : kzE E L kt_M286 200 [(0, .ref (w_adr E.2.1 6 0)), (1, va_rf (x1)), (2, va_rf (x2)), (3, va_rf (x3)), (4, .int x4), (5, .int x5), (6, .int x6)] [.int y0] w Q := by
  unfold zb_X7_two_p200 at h
  refine kz_sti (M := kt_M286) [(0, .ref (w_adr E.2.1 6 0)), (1, va_rf (x1)), (2, va_rf (x2)), (3, va_rf (x3)), (4, .int x4), (5, .int x5), (6, .int x6)] kX7_two_c12.1 (Nat.le_of_ble_eq_true rfl) ⟨⟨rfl, rfl, .inl rfl⟩, ⟨⟨rfl, rfl, .inl rfl⟩, ⟨⟨rfl, rfl, .inl rfl⟩, ⟨⟨rfl, rfl, .inl rfl⟩, ⟨⟨rfl, rfl, .inl rfl⟩, ⟨⟨rfl, rfl, .inl rfl⟩, ⟨⟨rfl, rfl, .inr rfl⟩, trivial⟩⟩⟩⟩⟩⟩⟩ rfl ?_
  exact kz_weak [(0, .ref (w_adr E.2.1 6 0)), (1, va_rf (x1)), (2, va_rf (x2)), (3, va_rf (x3)), (4, .int x4), (5, .int x5), (6, .int x6), (7, .int y0)] ⟨rfl, ⟨rfl, ⟨rfl, ⟨rfl, ⟨rfl, ⟨rfl, ⟨rfl, ⟨rfl, trivial⟩⟩⟩⟩⟩⟩⟩⟩ rfl (zt_X7_two_p202 hL  h)
def zb_X7_two_p199 (E : zE) (L : Nat) (Q : kx_Rs → wS → Prop) (x1 : Option Nat) (x2 : Option Nat) (x3 : Option Nat) (x4 : Int32) (x5 : Int32) (x6 : Int32) (w : wS) : Prop := zb_X7_two_p200 E L Q x1 x2 x3 x4 x5 x6 0 w
theorem zt_X7_two_p199 {E : zE} {L : Nat} {Q : kx_Rs → wS → Prop} {x1 : Option Nat} {x2 : Option Nat} {x3 : Option Nat} {x4 : Int32} {x5 : Int32} {x6 : Int32} {w : wS} (hL : 24 ≤ L) (h : zb_X7_two_p199 E L Q x1 x2 x3 x4 x5 x6 w) : kzE E L kt_M286 199 [(0, .ref (w_adr E.2.1 6 0)), (1, va_rf (x1)), (2, va_rf (x2)), (3, va_rf (x3)), (4, .int x4), (5, .int x5), (6, .int x6)] [] w Q := by
  unfold zb_X7_two_p199 at h
  refine kz_ic (M := kt_M286) 0 kX7_two_c11.2.2.2.2.2.2.2.1 rfl ?_
  exact kz_weak [(0, .ref (w_adr E.2.1 6 0)), (1, va_rf (x1)), (2, va_rf (x2)), (3, va_rf (x3)), (4, .int x4), (5, .int x5), (6, .int x6)] ⟨rfl, ⟨rfl, ⟨rfl, ⟨rfl, ⟨rfl, ⟨rfl, ⟨rfl, trivial⟩⟩⟩⟩⟩⟩⟩ rfl (zt_X7_two_p200 hL  h)
def zb_X7_two_p195 (E : zE) (L : Nat) (Q : kx_Rs → wS → Prop) (x1 : Option Nat) (x2 : Option Nat) (x3 : Option Nat) (x4 : Int32) (x5 : Int32) (x6 : Int32) (w : wS) : Prop := zb_X7_two_p200 E L Q x1 x2 x3 x4 x5 x6 1 w
theorem zt_X7_two_p195 {E : zE} {L : Nat} {Q : kx_Rs → wS → Prop} {x1 : Option Nat} {x2 : Option Nat} {x3 : Option Nat} {x4 : Int32} {x5 : Int32} {x6 : Int32} {w : wS} (hL : 24 ≤ L) (h : zb_X7_two_p195 E L Q x1 x2 x3 x4 x5 x6 w) : kzE E L kt_M286 195 [(0, .ref (w_adr E.2.1 6 0)), (1, va_rf (x1)), (2, va_rf (x2)), (3, va_rf (x3)), (4, .int x4), (5, .int x5), (6, .int x6)] [] w Q := by
  unfold zb_X7_two_p195 at h
  refine kz_ic (M := kt_M286) 1 kX7_two_c11.2.2.2.2.2.1 rfl ?_
  refine kz_goto (M := kt_M286) kX7_two_c11.2.2.2.2.2.2.1 (t := 200) rfl ?_
  exact kz_weak [(0, .ref (w_adr E.2.1 6 0)), (1, va_rf (x1)), (2, va_rf (x2)), (3, va_rf (x3)), (4, .int x4), (5, .int x5), (6, .int x6)] ⟨rfl, ⟨rfl, ⟨rfl, ⟨rfl, ⟨rfl, ⟨rfl, ⟨rfl, trivial⟩⟩⟩⟩⟩⟩⟩ rfl (zt_X7_two_p200 hL  h)
def zb_X7_two_p180 (E : zE) (L : Nat) (Q : kx_Rs → wS → Prop) (x1 : Option Nat) (x2 : Option Nat) (x3 : Option Nat) (x4 : Int32) (x5 : Int32) (x6 : Int32) (w : wS) : Prop := (∃ p1, x3 = some p1 ∧ w_l w E.2.1 14 p1 ∧ (if w_i w 14 p1 17 = 0 then zb_X7_two_p199 E L Q x1 x2 x3 x4 x5 x6 w else (if w_i w 14 p1 17 = 1 then zb_X7_two_p199 E L Q x1 x2 x3 x4 x5 x6 w else zb_X7_two_p195 E L Q x1 x2 x3 x4 x5 x6 w)))
theorem zt_X7_two_p180 {E : zE} {L : Nat} {Q : kx_Rs → wS → Prop} {x1 : Option Nat} {x2 : Option Nat} {x3 : Option Nat} {x4 : Int32} {x5 : Int32} {x6 : Int32} {w : wS} (hL : 24 ≤ L) (h : zb_X7_two_p180 E L Q x1 x2 x3 x4 x5 x6 w) : kzE E L kt_M286 180 [(0, .ref (w_adr E.2.1 6 0)), (1, va_rf (x1)), (2, va_rf (x2)), (3, va_rf (x3)), (4, .int x4), (5, .int x5), (6, .int x6)] [] w Q := by
  unfold zb_X7_two_p180 at h
  refine kz_aload_nv (M := kt_M286) (x := x3) kX7_two_c10.2.2.2.2.2.2.1 rfl ?_
  obtain ⟨p1, hxp1, hlp1, h⟩ := h
  refine kz_nz0 (x := x3) hxp1 ?_
  refine kz_gfi (M := kt_M286) (c := 14) (o := p1) kX7_two_c10.2.2.2.2.2.2.2.1 wf_X7_61 (.inr (by exact hlp1)) ?_
  refine kz_if_eq (M := kt_M286) kX7_two_c11.1 (t := 199) rfl h (fun h => ?_) (fun h => ?_)
  · skip
    exact kz_weak [(0, .ref (w_adr E.2.1 6 0)), (1, va_rf (x1)), (2, va_rf (x2)), (3, va_rf (x3)), (4, .int x4), (5, .int x5), (6, .int x6)] ⟨rfl, ⟨rfl, ⟨rfl, ⟨rfl, ⟨rfl, ⟨rfl, ⟨rfl, trivial⟩⟩⟩⟩⟩⟩⟩ rfl (zt_X7_two_p199 hL  h)
  · skip
    refine kz_aload_nv (M := kt_M286) (x := x3) kX7_two_c11.2.1 rfl ?_
    refine kz_nz0 (x := x3) hxp1 ?_
    refine kz_gfi (M := kt_M286) (c := 14) (o := p1) kX7_two_c11.2.2.1 wf_X7_61 (.inr (by exact hlp1)) ?_
    refine kz_ic (M := kt_M286) 1 kX7_two_c11.2.2.2.1 rfl ?_
    refine kz_icmp_eq (M := kt_M286) kX7_two_c11.2.2.2.2.1 (t := 199) rfl h (fun h => ?_) (fun h => ?_)
    · skip
      exact kz_weak [(0, .ref (w_adr E.2.1 6 0)), (1, va_rf (x1)), (2, va_rf (x2)), (3, va_rf (x3)), (4, .int x4), (5, .int x5), (6, .int x6)] ⟨rfl, ⟨rfl, ⟨rfl, ⟨rfl, ⟨rfl, ⟨rfl, ⟨rfl, trivial⟩⟩⟩⟩⟩⟩⟩ rfl (zt_X7_two_p199 hL  h)
    · skip
      exact kz_weak [(0, .ref (w_adr E.2.1 6 0)), (1, va_rf (x1)), (2, va_rf (x2)), (3, va_rf (x3)), (4, .int x4), (5, .int x5), (6, .int x6)] ⟨rfl, ⟨rfl, ⟨rfl, ⟨rfl, ⟨rfl, ⟨rfl, ⟨rfl, trivial⟩⟩⟩⟩⟩⟩⟩ rfl (zt_X7_two_p195 hL  h)
def zb_X7_two_p155 (E : zE) (L : Nat) (Q : kx_Rs → wS → Prop) (x1 : Option Nat) (x2 : Option Nat) (x3 : Option Nat) (x4 : Int32) (x5 : Int32) (x6 : Int32) (y0 : Int32) (w : wS) : Prop := zb_X7_two_p202 E L Q x1 x2 x3 x4 x5 x6 y0 w
theorem zt_X7_two_p155 {E : zE} {L : Nat} {Q : kx_Rs → wS → Prop} {x1 : Option Nat} {x2 : Option Nat} {x3 : Option Nat} {x4 : Int32} {x5 : Int32} {x6 : Int32} {y0 : Int32} {w : wS} (hL : 24 ≤ L) (h : zb_X7_two_p155 E L Q x1 x2 x3 x4 x5 x6 y0 w) : kzE E L kt_M286 155 [(0, .ref (w_adr E.2.1 6 0)), (1, va_rf (x1)), (2, va_rf (x2)), (3, va_rf (x3)), (4, .int x4), (5, .int x5), (6, .int x6)] [.int y0] w Q := by
  unfold zb_X7_two_p155 at h
  refine kz_sti (M := kt_M286) [(0, .ref (w_adr E.2.1 6 0)), (1, va_rf (x1)), (2, va_rf (x2)), (3, va_rf (x3)), (4, .int x4), (5, .int x5), (6, .int x6)] kX7_two_c9.2.2.2.1 (Nat.le_of_ble_eq_true rfl) ⟨⟨rfl, rfl, .inl rfl⟩, ⟨⟨rfl, rfl, .inl rfl⟩, ⟨⟨rfl, rfl, .inl rfl⟩, ⟨⟨rfl, rfl, .inl rfl⟩, ⟨⟨rfl, rfl, .inl rfl⟩, ⟨⟨rfl, rfl, .inl rfl⟩, ⟨⟨rfl, rfl, .inr rfl⟩, trivial⟩⟩⟩⟩⟩⟩⟩ rfl ?_
  refine kz_goto (M := kt_M286) kX7_two_c9.2.2.2.2.1 (t := 202) rfl ?_
  exact kz_weak [(0, .ref (w_adr E.2.1 6 0)), (1, va_rf (x1)), (2, va_rf (x2)), (3, va_rf (x3)), (4, .int x4), (5, .int x5), (6, .int x6), (7, .int y0)] ⟨rfl, ⟨rfl, ⟨rfl, ⟨rfl, ⟨rfl, ⟨rfl, ⟨rfl, ⟨rfl, trivial⟩⟩⟩⟩⟩⟩⟩⟩ rfl (zt_X7_two_p202 hL  h)
def zb_X7_two_p154 (E : zE) (L : Nat) (Q : kx_Rs → wS → Prop) (x1 : Option Nat) (x2 : Option Nat) (x3 : Option Nat) (x4 : Int32) (x5 : Int32) (x6 : Int32) (w : wS) : Prop := zb_X7_two_p155 E L Q x1 x2 x3 x4 x5 x6 0 w
theorem zt_X7_two_p154 {E : zE} {L : Nat} {Q : kx_Rs → wS → Prop} {x1 : Option Nat} {x2 : Option Nat} {x3 : Option Nat} {x4 : Int32} {x5 : Int32} {x6 : Int32} {w : wS} (hL : 24 ≤ L) (h : zb_X7_two_p154 E L Q x1 x2 x3 x4 x5 x6 w) : kzE E L kt_M286 154 [(0, .ref (w_adr E.2.1 6 0)), (1, va_rf (x1)), (2, va_rf (x2)), (3, va_rf (x3)), (4, .int x4), (5, .int x5), (6, .int x6)] [] w Q := by
  unfold zb_X7_two_p154 at h
  refine kz_ic (M := kt_M286) 0 kX7_two_c9.2.2.1 rfl ?_
  exact kz_weak [(0, .ref (w_adr E.2.1 6 0)), (1, va_rf (x1)), (2, va_rf (x2)), (3, va_rf (x3)), (4, .int x4), (5, .int x5), (6, .int x6)] ⟨rfl, ⟨rfl, ⟨rfl, ⟨rfl, ⟨rfl, ⟨rfl, ⟨rfl, trivial⟩⟩⟩⟩⟩⟩⟩ rfl (zt_X7_two_p155 hL  h)
def zb_X7_two_p150 (E : zE) (L : Nat) (Q : kx_Rs → wS → Prop) (x1 : Option Nat) (x2 : Option Nat) (x3 : Option Nat) (x4 : Int32) (x5 : Int32) (x6 : Int32) (w : wS) : Prop := zb_X7_two_p155 E L Q x1 x2 x3 x4 x5 x6 1 w
theorem zt_X7_two_p150 {E : zE} {L : Nat} {Q : kx_Rs → wS → Prop} {x1 : Option Nat} {x2 : Option Nat} {x3 : Option Nat} {x4 : Int32} {x5 : Int32} {x6 : Int32} {w : wS} (hL : 24 ≤ L) (h : zb_X7_two_p150 E L Q x1 x2 x3 x4 x5 x6 w) : kzE E L kt_M286 150 [(0, .ref (w_adr E.2.1 6 0)), (1, va_rf (x1)), (2, va_rf (x2)), (3, va_rf (x3)), (4, .int x4), (5, .int x5), (6, .int x6)] [] w Q := by
  unfold zb_X7_two_p150 at h
  refine kz_ic (M := kt_M286) 1 kX7_two_c9.1 rfl ?_
  refine kz_goto (M := kt_M286) kX7_two_c9.2.1 (t := 155) rfl ?_
  exact kz_weak [(0, .ref (w_adr E.2.1 6 0)), (1, va_rf (x1)), (2, va_rf (x2)), (3, va_rf (x3)), (4, .int x4), (5, .int x5), (6, .int x6)] ⟨rfl, ⟨rfl, ⟨rfl, ⟨rfl, ⟨rfl, ⟨rfl, ⟨rfl, trivial⟩⟩⟩⟩⟩⟩⟩ rfl (zt_X7_two_p155 hL  h)
def zb_X7_two_p129 (E : zE) (L : Nat) (Q : kx_Rs → wS → Prop) (x1 : Option Nat) (x2 : Option Nat) (x3 : Option Nat) (x4 : Int32) (x5 : Int32) (x6 : Int32) (w : wS) : Prop := (if x6 = 0 then zb_X7_two_p154 E L Q x1 x2 x3 x4 x5 x6 w else (∃ p1, x2 = some p1 ∧ w_l w E.2.1 14 p1 ∧ (if w_i w 14 p1 17 = 3 then zb_X7_two_p150 E L Q x1 x2 x3 x4 x5 x6 w else (∃ p2, x3 = some p2 ∧ w_l w E.2.1 14 p2 ∧ (if ¬ w_i w 14 p2 17 = 3 then zb_X7_two_p154 E L Q x1 x2 x3 x4 x5 x6 w else zb_X7_two_p150 E L Q x1 x2 x3 x4 x5 x6 w)))))
theorem zt_X7_two_p129 {E : zE} {L : Nat} {Q : kx_Rs → wS → Prop} {x1 : Option Nat} {x2 : Option Nat} {x3 : Option Nat} {x4 : Int32} {x5 : Int32} {x6 : Int32} {w : wS} (hL : 24 ≤ L) (h : zb_X7_two_p129 E L Q x1 x2 x3 x4 x5 x6 w) : kzE E L kt_M286 129 [(0, .ref (w_adr E.2.1 6 0)), (1, va_rf (x1)), (2, va_rf (x2)), (3, va_rf (x3)), (4, .int x4), (5, .int x5), (6, .int x6)] [] w Q := by
  unfold zb_X7_two_p129 at h
  refine kz_iload (M := kt_M286) kX7_two_c7.2.2.2.2.2.2.1 rfl ?_
  refine kz_if_eq (M := kt_M286) kX7_two_c7.2.2.2.2.2.2.2.1 (t := 154) rfl h (fun h => ?_) (fun h => ?_)
  · skip
    exact kz_weak [(0, .ref (w_adr E.2.1 6 0)), (1, va_rf (x1)), (2, va_rf (x2)), (3, va_rf (x3)), (4, .int x4), (5, .int x5), (6, .int x6)] ⟨rfl, ⟨rfl, ⟨rfl, ⟨rfl, ⟨rfl, ⟨rfl, ⟨rfl, trivial⟩⟩⟩⟩⟩⟩⟩ rfl (zt_X7_two_p154 hL  h)
  · skip
    refine kz_aload_nv (M := kt_M286) (x := x2) kX7_two_c8.1 rfl ?_
    obtain ⟨p1, hxp1, hlp1, h⟩ := h
    refine kz_nz0 (x := x2) hxp1 ?_
    refine kz_gfi (M := kt_M286) (c := 14) (o := p1) kX7_two_c8.2.1 wf_X7_61 (.inr (by exact hlp1)) ?_
    refine kz_ic (M := kt_M286) 3 kX7_two_c8.2.2.1 rfl ?_
    refine kz_icmp_eq (M := kt_M286) kX7_two_c8.2.2.2.1 (t := 150) rfl h (fun h => ?_) (fun h => ?_)
    · skip
      exact kz_weak [(0, .ref (w_adr E.2.1 6 0)), (1, va_rf (x1)), (2, va_rf (x2)), (3, va_rf (x3)), (4, .int x4), (5, .int x5), (6, .int x6)] ⟨rfl, ⟨rfl, ⟨rfl, ⟨rfl, ⟨rfl, ⟨rfl, ⟨rfl, trivial⟩⟩⟩⟩⟩⟩⟩ rfl (zt_X7_two_p150 hL  h)
    · skip
      refine kz_aload_nv (M := kt_M286) (x := x3) kX7_two_c8.2.2.2.2.1 rfl ?_
      obtain ⟨p2, hxp2, hlp2, h⟩ := h
      refine kz_nz0 (x := x3) hxp2 ?_
      refine kz_gfi (M := kt_M286) (c := 14) (o := p2) kX7_two_c8.2.2.2.2.2.1 wf_X7_61 (.inr (by exact hlp2)) ?_
      refine kz_ic (M := kt_M286) 3 kX7_two_c8.2.2.2.2.2.2.1 rfl ?_
      refine kz_icmp_ne (M := kt_M286) kX7_two_c8.2.2.2.2.2.2.2.1 (t := 154) rfl h (fun h => ?_) (fun h => ?_)
      · skip
        exact kz_weak [(0, .ref (w_adr E.2.1 6 0)), (1, va_rf (x1)), (2, va_rf (x2)), (3, va_rf (x3)), (4, .int x4), (5, .int x5), (6, .int x6)] ⟨rfl, ⟨rfl, ⟨rfl, ⟨rfl, ⟨rfl, ⟨rfl, ⟨rfl, trivial⟩⟩⟩⟩⟩⟩⟩ rfl (zt_X7_two_p154 hL  h)
      · skip
        exact kz_weak [(0, .ref (w_adr E.2.1 6 0)), (1, va_rf (x1)), (2, va_rf (x2)), (3, va_rf (x3)), (4, .int x4), (5, .int x5), (6, .int x6)] ⟨rfl, ⟨rfl, ⟨rfl, ⟨rfl, ⟨rfl, ⟨rfl, ⟨rfl, trivial⟩⟩⟩⟩⟩⟩⟩ rfl (zt_X7_two_p150 hL  h)
def zb_X7_two_p99 (E : zE) (L : Nat) (Q : kx_Rs → wS → Prop) (x1 : Option Nat) (x2 : Option Nat) (x3 : Option Nat) (x4 : Int32) (x5 : Int32) (x6 : Int32) (x7 : Int32) (w : wS) : Prop := (if ¬ x7 = 0 then zb_X7_two_p150 E L Q x1 x2 x3 x4 x5 x6 w else (∃ p1, x2 = some p1 ∧ w_l w E.2.1 14 p1 ∧ (if w_i w 14 p1 17 = 0 then zb_X7_two_p129 E L Q x1 x2 x3 x4 x5 x6 w else (∃ p2, x3 = some p2 ∧ w_l w E.2.1 14 p2 ∧ (if w_i w 14 p2 17 = 0 then zb_X7_two_p129 E L Q x1 x2 x3 x4 x5 x6 w else (if ¬ w_i w 14 p1 17 = w_i w 14 p2 17 then zb_X7_two_p150 E L Q x1 x2 x3 x4 x5 x6 w else zb_X7_two_p129 E L Q x1 x2 x3 x4 x5 x6 w))))))
theorem zt_X7_two_p99 {E : zE} {L : Nat} {Q : kx_Rs → wS → Prop} {x1 : Option Nat} {x2 : Option Nat} {x3 : Option Nat} {x4 : Int32} {x5 : Int32} {x6 : Int32} {x7 : Int32} {w : wS} (hL : 24 ≤ L) (h : zb_X7_two_p99 E L Q x1 x2 x3 x4 x5 x6 x7 w) : kzE E L kt_M286 99 [(0, .ref (w_adr E.2.1 6 0)), (1, va_rf (x1)), (2, va_rf (x2)), (3, va_rf (x3)), (4, .int x4), (5, .int x5), (6, .int x6), (7, .int x7)] [] w Q := by
  unfold zb_X7_two_p99 at h
  refine kz_iload (M := kt_M286) kX7_two_c6.2.1 rfl ?_
  refine kz_if_ne (M := kt_M286) kX7_two_c6.2.2.1 (t := 150) rfl h (fun h => ?_) (fun h => ?_)
  · skip
    exact kz_weak [(0, .ref (w_adr E.2.1 6 0)), (1, va_rf (x1)), (2, va_rf (x2)), (3, va_rf (x3)), (4, .int x4), (5, .int x5), (6, .int x6)] ⟨rfl, ⟨rfl, ⟨rfl, ⟨rfl, ⟨rfl, ⟨rfl, ⟨rfl, trivial⟩⟩⟩⟩⟩⟩⟩ rfl (zt_X7_two_p150 hL  h)
  · skip
    refine kz_aload_nv (M := kt_M286) (x := x2) kX7_two_c6.2.2.2.1 rfl ?_
    obtain ⟨p1, hxp1, hlp1, h⟩ := h
    refine kz_nz0 (x := x2) hxp1 ?_
    refine kz_gfi (M := kt_M286) (c := 14) (o := p1) kX7_two_c6.2.2.2.2.1 wf_X7_61 (.inr (by exact hlp1)) ?_
    refine kz_if_eq (M := kt_M286) kX7_two_c6.2.2.2.2.2.1 (t := 129) rfl h (fun h => ?_) (fun h => ?_)
    · skip
      exact kz_weak [(0, .ref (w_adr E.2.1 6 0)), (1, va_rf (x1)), (2, va_rf (x2)), (3, va_rf (x3)), (4, .int x4), (5, .int x5), (6, .int x6)] ⟨rfl, ⟨rfl, ⟨rfl, ⟨rfl, ⟨rfl, ⟨rfl, ⟨rfl, trivial⟩⟩⟩⟩⟩⟩⟩ rfl (zt_X7_two_p129 hL  h)
    · skip
      refine kz_aload_nv (M := kt_M286) (x := x3) kX7_two_c6.2.2.2.2.2.2.1 rfl ?_
      obtain ⟨p2, hxp2, hlp2, h⟩ := h
      refine kz_nz0 (x := x3) hxp2 ?_
      refine kz_gfi (M := kt_M286) (c := 14) (o := p2) kX7_two_c6.2.2.2.2.2.2.2.1 wf_X7_61 (.inr (by exact hlp2)) ?_
      refine kz_if_eq (M := kt_M286) kX7_two_c7.1 (t := 129) rfl h (fun h => ?_) (fun h => ?_)
      · skip
        exact kz_weak [(0, .ref (w_adr E.2.1 6 0)), (1, va_rf (x1)), (2, va_rf (x2)), (3, va_rf (x3)), (4, .int x4), (5, .int x5), (6, .int x6)] ⟨rfl, ⟨rfl, ⟨rfl, ⟨rfl, ⟨rfl, ⟨rfl, ⟨rfl, trivial⟩⟩⟩⟩⟩⟩⟩ rfl (zt_X7_two_p129 hL  h)
      · skip
        refine kz_aload_nv (M := kt_M286) (x := x2) kX7_two_c7.2.1 rfl ?_
        refine kz_nz0 (x := x2) hxp1 ?_
        refine kz_gfi (M := kt_M286) (c := 14) (o := p1) kX7_two_c7.2.2.1 wf_X7_61 (.inr (by exact hlp1)) ?_
        refine kz_aload_nv (M := kt_M286) (x := x3) kX7_two_c7.2.2.2.1 rfl ?_
        refine kz_nz0 (x := x3) hxp2 ?_
        refine kz_gfi (M := kt_M286) (c := 14) (o := p2) kX7_two_c7.2.2.2.2.1 wf_X7_61 (.inr (by exact hlp2)) ?_
        refine kz_icmp_ne (M := kt_M286) kX7_two_c7.2.2.2.2.2.1 (t := 150) rfl h (fun h => ?_) (fun h => ?_)
        · skip
          exact kz_weak [(0, .ref (w_adr E.2.1 6 0)), (1, va_rf (x1)), (2, va_rf (x2)), (3, va_rf (x3)), (4, .int x4), (5, .int x5), (6, .int x6)] ⟨rfl, ⟨rfl, ⟨rfl, ⟨rfl, ⟨rfl, ⟨rfl, ⟨rfl, trivial⟩⟩⟩⟩⟩⟩⟩ rfl (zt_X7_two_p150 hL  h)
        · skip
          exact kz_weak [(0, .ref (w_adr E.2.1 6 0)), (1, va_rf (x1)), (2, va_rf (x2)), (3, va_rf (x3)), (4, .int x4), (5, .int x5), (6, .int x6)] ⟨rfl, ⟨rfl, ⟨rfl, ⟨rfl, ⟨rfl, ⟨rfl, ⟨rfl, trivial⟩⟩⟩⟩⟩⟩⟩ rfl (zt_X7_two_p129 hL  h)
def zb_X7_two_p87 (E : zE) (L : Nat) (Q : kx_Rs → wS → Prop) (x1 : Option Nat) (x2 : Option Nat) (x3 : Option Nat) (x4 : Int32) (x5 : Int32) (x6 : Int32) (y0 : Int32) (w : wS) : Prop := (if ¬ x5 = 0 then zb_X7_two_p99 E L Q x1 x2 x3 x4 x5 x6 y0 w else (if x6 = 0 then (if ¬ y0 = 0 then zb_X7_two_p195 E L Q x1 x2 x3 x4 x5 x6 w else (∃ p1, x2 = some p1 ∧ w_l w E.2.1 14 p1 ∧ (if w_i w 14 p1 17 = 0 then zb_X7_two_p180 E L Q x1 x2 x3 x4 x5 x6 w else (if ¬ w_i w 14 p1 17 = 1 then zb_X7_two_p195 E L Q x1 x2 x3 x4 x5 x6 w else zb_X7_two_p180 E L Q x1 x2 x3 x4 x5 x6 w)))) else zb_X7_two_p99 E L Q x1 x2 x3 x4 x5 x6 y0 w))
theorem zt_X7_two_p87 {E : zE} {L : Nat} {Q : kx_Rs → wS → Prop} {x1 : Option Nat} {x2 : Option Nat} {x3 : Option Nat} {x4 : Int32} {x5 : Int32} {x6 : Int32} {y0 : Int32} {w : wS} (hL : 24 ≤ L) (h : zb_X7_two_p87 E L Q x1 x2 x3 x4 x5 x6 y0 w) : kzE E L kt_M286 87 [(0, .ref (w_adr E.2.1 6 0)), (1, va_rf (x1)), (2, va_rf (x2)), (3, va_rf (x3)), (4, .int x4), (5, .int x5), (6, .int x6)] [.int y0] w Q := by
  unfold zb_X7_two_p87 at h
  refine kz_sti (M := kt_M286) [(0, .ref (w_adr E.2.1 6 0)), (1, va_rf (x1)), (2, va_rf (x2)), (3, va_rf (x3)), (4, .int x4), (5, .int x5), (6, .int x6)] kX7_two_c5.2.2.2.2.1 (Nat.le_of_ble_eq_true rfl) ⟨⟨rfl, rfl, .inl rfl⟩, ⟨⟨rfl, rfl, .inl rfl⟩, ⟨⟨rfl, rfl, .inl rfl⟩, ⟨⟨rfl, rfl, .inl rfl⟩, ⟨⟨rfl, rfl, .inl rfl⟩, ⟨⟨rfl, rfl, .inl rfl⟩, ⟨⟨rfl, rfl, .inr rfl⟩, trivial⟩⟩⟩⟩⟩⟩⟩ rfl ?_
  refine kz_iload (M := kt_M286) kX7_two_c5.2.2.2.2.2.1 rfl ?_
  refine kz_if_ne (M := kt_M286) kX7_two_c5.2.2.2.2.2.2.1 (t := 99) rfl h (fun h => ?_) (fun h => ?_)
  · skip
    exact kz_weak [(0, .ref (w_adr E.2.1 6 0)), (1, va_rf (x1)), (2, va_rf (x2)), (3, va_rf (x3)), (4, .int x4), (5, .int x5), (6, .int x6), (7, .int y0)] ⟨rfl, ⟨rfl, ⟨rfl, ⟨rfl, ⟨rfl, ⟨rfl, ⟨rfl, ⟨rfl, trivial⟩⟩⟩⟩⟩⟩⟩⟩ rfl (zt_X7_two_p99 hL  h)
  · skip
    refine kz_iload (M := kt_M286) kX7_two_c5.2.2.2.2.2.2.2.1 rfl ?_
    refine kz_if_eq (M := kt_M286) kX7_two_c6.1 (t := 160) rfl h (fun h => ?_) (fun h => ?_)
    · skip
      refine kz_iload (M := kt_M286) kX7_two_c9.2.2.2.2.2.1 rfl ?_
      refine kz_if_ne (M := kt_M286) kX7_two_c9.2.2.2.2.2.2.1 (t := 195) rfl h (fun h => ?_) (fun h => ?_)
      · skip
        exact kz_weak [(0, .ref (w_adr E.2.1 6 0)), (1, va_rf (x1)), (2, va_rf (x2)), (3, va_rf (x3)), (4, .int x4), (5, .int x5), (6, .int x6)] ⟨rfl, ⟨rfl, ⟨rfl, ⟨rfl, ⟨rfl, ⟨rfl, ⟨rfl, trivial⟩⟩⟩⟩⟩⟩⟩ rfl (zt_X7_two_p195 hL  h)
      · skip
        refine kz_aload_nv (M := kt_M286) (x := x2) kX7_two_c9.2.2.2.2.2.2.2.1 rfl ?_
        obtain ⟨p1, hxp1, hlp1, h⟩ := h
        refine kz_nz0 (x := x2) hxp1 ?_
        refine kz_gfi (M := kt_M286) (c := 14) (o := p1) kX7_two_c10.1 wf_X7_61 (.inr (by exact hlp1)) ?_
        refine kz_if_eq (M := kt_M286) kX7_two_c10.2.1 (t := 180) rfl h (fun h => ?_) (fun h => ?_)
        · skip
          exact kz_weak [(0, .ref (w_adr E.2.1 6 0)), (1, va_rf (x1)), (2, va_rf (x2)), (3, va_rf (x3)), (4, .int x4), (5, .int x5), (6, .int x6)] ⟨rfl, ⟨rfl, ⟨rfl, ⟨rfl, ⟨rfl, ⟨rfl, ⟨rfl, trivial⟩⟩⟩⟩⟩⟩⟩ rfl (zt_X7_two_p180 hL  h)
        · skip
          refine kz_aload_nv (M := kt_M286) (x := x2) kX7_two_c10.2.2.1 rfl ?_
          refine kz_nz0 (x := x2) hxp1 ?_
          refine kz_gfi (M := kt_M286) (c := 14) (o := p1) kX7_two_c10.2.2.2.1 wf_X7_61 (.inr (by exact hlp1)) ?_
          refine kz_ic (M := kt_M286) 1 kX7_two_c10.2.2.2.2.1 rfl ?_
          refine kz_icmp_ne (M := kt_M286) kX7_two_c10.2.2.2.2.2.1 (t := 195) rfl h (fun h => ?_) (fun h => ?_)
          · skip
            exact kz_weak [(0, .ref (w_adr E.2.1 6 0)), (1, va_rf (x1)), (2, va_rf (x2)), (3, va_rf (x3)), (4, .int x4), (5, .int x5), (6, .int x6)] ⟨rfl, ⟨rfl, ⟨rfl, ⟨rfl, ⟨rfl, ⟨rfl, ⟨rfl, trivial⟩⟩⟩⟩⟩⟩⟩ rfl (zt_X7_two_p195 hL  h)
          · skip
            exact kz_weak [(0, .ref (w_adr E.2.1 6 0)), (1, va_rf (x1)), (2, va_rf (x2)), (3, va_rf (x3)), (4, .int x4), (5, .int x5), (6, .int x6)] ⟨rfl, ⟨rfl, ⟨rfl, ⟨rfl, ⟨rfl, ⟨rfl, ⟨rfl, trivial⟩⟩⟩⟩⟩⟩⟩ rfl (zt_X7_two_p180 hL  h)
    · skip
      exact kz_weak [(0, .ref (w_adr E.2.1 6 0)), (1, va_rf (x1)), (2, va_rf (x2)), (3, va_rf (x3)), (4, .int x4), (5, .int x5), (6, .int x6), (7, .int y0)] ⟨rfl, ⟨rfl, ⟨rfl, ⟨rfl, ⟨rfl, ⟨rfl, ⟨rfl, ⟨rfl, trivial⟩⟩⟩⟩⟩⟩⟩⟩ rfl (zt_X7_two_p99 hL  h)
def zb_X7_two_p82 (E : zE) (L : Nat) (Q : kx_Rs → wS → Prop) (x1 : Option Nat) (x2 : Option Nat) (x3 : Option Nat) (x4 : Int32) (x5 : Int32) (x6 : Int32) (w : wS) : Prop := zb_X7_two_p87 E L Q x1 x2 x3 x4 x5 x6 1 w
theorem zt_X7_two_p82 {E : zE} {L : Nat} {Q : kx_Rs → wS → Prop} {x1 : Option Nat} {x2 : Option Nat} {x3 : Option Nat} {x4 : Int32} {x5 : Int32} {x6 : Int32} {w : wS} (hL : 24 ≤ L) (h : zb_X7_two_p82 E L Q x1 x2 x3 x4 x5 x6 w) : kzE E L kt_M286 82 [(0, .ref (w_adr E.2.1 6 0)), (1, va_rf (x1)), (2, va_rf (x2)), (3, va_rf (x3)), (4, .int x4), (5, .int x5), (6, .int x6)] [] w Q := by
  unfold zb_X7_two_p82 at h
  refine kz_ic (M := kt_M286) 1 kX7_two_c5.2.1 rfl ?_
  refine kz_goto (M := kt_M286) kX7_two_c5.2.2.1 (t := 87) rfl ?_
  exact kz_weak [(0, .ref (w_adr E.2.1 6 0)), (1, va_rf (x1)), (2, va_rf (x2)), (3, va_rf (x3)), (4, .int x4), (5, .int x5), (6, .int x6)] ⟨rfl, ⟨rfl, ⟨rfl, ⟨rfl, ⟨rfl, ⟨rfl, ⟨rfl, trivial⟩⟩⟩⟩⟩⟩⟩ rfl (zt_X7_two_p87 hL  h)
def zb_X7_two_p66 (E : zE) (L : Nat) (Q : kx_Rs → wS → Prop) (x1 : Option Nat) (x2 : Option Nat) (x3 : Option Nat) (x4 : Int32) (x5 : Int32) (y0 : Int32) (w : wS) : Prop := (∃ p1, x2 = some p1 ∧ w_l w E.2.1 14 p1 ∧ (if ¬ w_i w 14 p1 20 = 0 then zb_X7_two_p82 E L Q x1 x2 x3 x4 x5 y0 w else (∃ p2, x3 = some p2 ∧ w_l w E.2.1 14 p2 ∧ (if w_i w 14 p2 20 = 0 then zb_X7_two_p87 E L Q x1 x2 x3 x4 x5 y0 0 w else zb_X7_two_p82 E L Q x1 x2 x3 x4 x5 y0 w))))
theorem zt_X7_two_p66 {E : zE} {L : Nat} {Q : kx_Rs → wS → Prop} {x1 : Option Nat} {x2 : Option Nat} {x3 : Option Nat} {x4 : Int32} {x5 : Int32} {y0 : Int32} {w : wS} (hL : 24 ≤ L) (h : zb_X7_two_p66 E L Q x1 x2 x3 x4 x5 y0 w) : kzE E L kt_M286 66 [(0, .ref (w_adr E.2.1 6 0)), (1, va_rf (x1)), (2, va_rf (x2)), (3, va_rf (x3)), (4, .int x4), (5, .int x5)] [.int y0] w Q := by
  unfold zb_X7_two_p66 at h
  refine kz_sti (M := kt_M286) [(0, .ref (w_adr E.2.1 6 0)), (1, va_rf (x1)), (2, va_rf (x2)), (3, va_rf (x3)), (4, .int x4), (5, .int x5)] kX7_two_c4.2.2.1 (Nat.le_of_ble_eq_true rfl) ⟨⟨rfl, rfl, .inl rfl⟩, ⟨⟨rfl, rfl, .inl rfl⟩, ⟨⟨rfl, rfl, .inl rfl⟩, ⟨⟨rfl, rfl, .inl rfl⟩, ⟨⟨rfl, rfl, .inl rfl⟩, ⟨⟨rfl, rfl, .inr rfl⟩, trivial⟩⟩⟩⟩⟩⟩ rfl ?_
  refine kz_aload_nv (M := kt_M286) (x := x2) kX7_two_c4.2.2.2.1 rfl ?_
  obtain ⟨p1, hxp1, hlp1, h⟩ := h
  refine kz_nz0 (x := x2) hxp1 ?_
  refine kz_gfi (M := kt_M286) (c := 14) (o := p1) kX7_two_c4.2.2.2.2.1 wf_X7_64 (.inr (by exact hlp1)) ?_
  refine kz_if_ne (M := kt_M286) kX7_two_c4.2.2.2.2.2.1 (t := 82) rfl h (fun h => ?_) (fun h => ?_)
  · skip
    exact kz_weak [(0, .ref (w_adr E.2.1 6 0)), (1, va_rf (x1)), (2, va_rf (x2)), (3, va_rf (x3)), (4, .int x4), (5, .int x5), (6, .int y0)] ⟨rfl, ⟨rfl, ⟨rfl, ⟨rfl, ⟨rfl, ⟨rfl, ⟨rfl, trivial⟩⟩⟩⟩⟩⟩⟩ rfl (zt_X7_two_p82 hL  h)
  · skip
    refine kz_aload_nv (M := kt_M286) (x := x3) kX7_two_c4.2.2.2.2.2.2.1 rfl ?_
    obtain ⟨p2, hxp2, hlp2, h⟩ := h
    refine kz_nz0 (x := x3) hxp2 ?_
    refine kz_gfi (M := kt_M286) (c := 14) (o := p2) kX7_two_c4.2.2.2.2.2.2.2.1 wf_X7_64 (.inr (by exact hlp2)) ?_
    refine kz_if_eq (M := kt_M286) kX7_two_c5.1 (t := 86) rfl h (fun h => ?_) (fun h => ?_)
    · skip
      refine kz_ic (M := kt_M286) 0 kX7_two_c5.2.2.2.1 rfl ?_
      exact kz_weak [(0, .ref (w_adr E.2.1 6 0)), (1, va_rf (x1)), (2, va_rf (x2)), (3, va_rf (x3)), (4, .int x4), (5, .int x5), (6, .int y0)] ⟨rfl, ⟨rfl, ⟨rfl, ⟨rfl, ⟨rfl, ⟨rfl, ⟨rfl, trivial⟩⟩⟩⟩⟩⟩⟩ rfl (zt_X7_two_p87 hL  h)
    · skip
      exact kz_weak [(0, .ref (w_adr E.2.1 6 0)), (1, va_rf (x1)), (2, va_rf (x2)), (3, va_rf (x3)), (4, .int x4), (5, .int x5), (6, .int y0)] ⟨rfl, ⟨rfl, ⟨rfl, ⟨rfl, ⟨rfl, ⟨rfl, ⟨rfl, trivial⟩⟩⟩⟩⟩⟩⟩ rfl (zt_X7_two_p82 hL  h)
def zb_X7_two_p65 (E : zE) (L : Nat) (Q : kx_Rs → wS → Prop) (x1 : Option Nat) (x2 : Option Nat) (x3 : Option Nat) (x4 : Int32) (x5 : Int32) (w : wS) : Prop := zb_X7_two_p66 E L Q x1 x2 x3 x4 x5 0 w
theorem zt_X7_two_p65 {E : zE} {L : Nat} {Q : kx_Rs → wS → Prop} {x1 : Option Nat} {x2 : Option Nat} {x3 : Option Nat} {x4 : Int32} {x5 : Int32} {w : wS} (hL : 24 ≤ L) (h : zb_X7_two_p65 E L Q x1 x2 x3 x4 x5 w) : kzE E L kt_M286 65 [(0, .ref (w_adr E.2.1 6 0)), (1, va_rf (x1)), (2, va_rf (x2)), (3, va_rf (x3)), (4, .int x4), (5, .int x5)] [] w Q := by
  unfold zb_X7_two_p65 at h
  refine kz_ic (M := kt_M286) 0 kX7_two_c4.2.1 rfl ?_
  exact kz_weak [(0, .ref (w_adr E.2.1 6 0)), (1, va_rf (x1)), (2, va_rf (x2)), (3, va_rf (x3)), (4, .int x4), (5, .int x5)] ⟨rfl, ⟨rfl, ⟨rfl, ⟨rfl, ⟨rfl, ⟨rfl, trivial⟩⟩⟩⟩⟩⟩ rfl (zt_X7_two_p66 hL  h)
def zb_X7_two_p45 (E : zE) (L : Nat) (Q : kx_Rs → wS → Prop) (x1 : Option Nat) (x2 : Option Nat) (x3 : Option Nat) (x4 : Int32) (y0 : Int32) (w : wS) : Prop := (if x4 < 49 then zb_X7_two_p65 E L Q x1 x2 x3 x4 y0 w else (if 52 < x4 then zb_X7_two_p65 E L Q x1 x2 x3 x4 y0 w else zb_X7_two_p66 E L Q x1 x2 x3 x4 y0 1 w))
theorem zt_X7_two_p45 {E : zE} {L : Nat} {Q : kx_Rs → wS → Prop} {x1 : Option Nat} {x2 : Option Nat} {x3 : Option Nat} {x4 : Int32} {y0 : Int32} {w : wS} (hL : 24 ≤ L) (h : zb_X7_two_p45 E L Q x1 x2 x3 x4 y0 w) : kzE E L kt_M286 45 [(0, .ref (w_adr E.2.1 6 0)), (1, va_rf (x1)), (2, va_rf (x2)), (3, va_rf (x3)), (4, .int x4)] [.int y0] w Q := by
  unfold zb_X7_two_p45 at h
  refine kz_sti (M := kt_M286) [(0, .ref (w_adr E.2.1 6 0)), (1, va_rf (x1)), (2, va_rf (x2)), (3, va_rf (x3)), (4, .int x4)] kX7_two_c3.1 (Nat.le_of_ble_eq_true rfl) ⟨⟨rfl, rfl, .inl rfl⟩, ⟨⟨rfl, rfl, .inl rfl⟩, ⟨⟨rfl, rfl, .inl rfl⟩, ⟨⟨rfl, rfl, .inl rfl⟩, ⟨⟨rfl, rfl, .inr rfl⟩, trivial⟩⟩⟩⟩⟩ rfl ?_
  refine kz_iload (M := kt_M286) kX7_two_c3.2.1 rfl ?_
  refine kz_bi (M := kt_M286) 49 kX7_two_c3.2.2.1 rfl ?_
  refine kz_icmp_lt (M := kt_M286) kX7_two_c3.2.2.2.1 (t := 65) rfl h (fun h => ?_) (fun h => ?_)
  · skip
    exact kz_weak [(0, .ref (w_adr E.2.1 6 0)), (1, va_rf (x1)), (2, va_rf (x2)), (3, va_rf (x3)), (4, .int x4), (5, .int y0)] ⟨rfl, ⟨rfl, ⟨rfl, ⟨rfl, ⟨rfl, ⟨rfl, trivial⟩⟩⟩⟩⟩⟩ rfl (zt_X7_two_p65 hL  h)
  · skip
    refine kz_iload (M := kt_M286) kX7_two_c3.2.2.2.2.1 rfl ?_
    refine kz_bi (M := kt_M286) 52 kX7_two_c3.2.2.2.2.2.1 rfl ?_
    refine kz_icmp_gt (M := kt_M286) kX7_two_c3.2.2.2.2.2.2.1 (t := 65) rfl h (fun h => ?_) (fun h => ?_)
    · skip
      exact kz_weak [(0, .ref (w_adr E.2.1 6 0)), (1, va_rf (x1)), (2, va_rf (x2)), (3, va_rf (x3)), (4, .int x4), (5, .int y0)] ⟨rfl, ⟨rfl, ⟨rfl, ⟨rfl, ⟨rfl, ⟨rfl, trivial⟩⟩⟩⟩⟩⟩ rfl (zt_X7_two_p65 hL  h)
    · skip
      refine kz_ic (M := kt_M286) 1 kX7_two_c3.2.2.2.2.2.2.2.1 rfl ?_
      refine kz_goto (M := kt_M286) kX7_two_c4.1 (t := 66) rfl ?_
      exact kz_weak [(0, .ref (w_adr E.2.1 6 0)), (1, va_rf (x1)), (2, va_rf (x2)), (3, va_rf (x3)), (4, .int x4), (5, .int y0)] ⟨rfl, ⟨rfl, ⟨rfl, ⟨rfl, ⟨rfl, ⟨rfl, trivial⟩⟩⟩⟩⟩⟩ rfl (zt_X7_two_p66 hL  h)
def zb_X7_two_p40 (E : zE) (L : Nat) (Q : kx_Rs → wS → Prop) (x1 : Option Nat) (x2 : Option Nat) (x3 : Option Nat) (x4 : Int32) (w : wS) : Prop := zb_X7_two_p45 E L Q x1 x2 x3 x4 1 w
theorem zt_X7_two_p40 {E : zE} {L : Nat} {Q : kx_Rs → wS → Prop} {x1 : Option Nat} {x2 : Option Nat} {x3 : Option Nat} {x4 : Int32} {w : wS} (hL : 24 ≤ L) (h : zb_X7_two_p40 E L Q x1 x2 x3 x4 w) : kzE E L kt_M286 40 [(0, .ref (w_adr E.2.1 6 0)), (1, va_rf (x1)), (2, va_rf (x2)), (3, va_rf (x3)), (4, .int x4)] [] w Q := by
  unfold zb_X7_two_p40 at h
  refine kz_ic (M := kt_M286) 1 kX7_two_c2.2.2.2.2.2.1 rfl ?_
  refine kz_goto (M := kt_M286) kX7_two_c2.2.2.2.2.2.2.1 (t := 45) rfl ?_
  exact kz_weak [(0, .ref (w_adr E.2.1 6 0)), (1, va_rf (x1)), (2, va_rf (x2)), (3, va_rf (x3)), (4, .int x4)] ⟨rfl, ⟨rfl, ⟨rfl, ⟨rfl, ⟨rfl, trivial⟩⟩⟩⟩⟩ rfl (zt_X7_two_p45 hL  h)
def zb_X7_two_p0 (E : zE) (L : Nat) (Q : kx_Rs → wS → Prop) (x1 : Option Nat) (w : wS) : Prop := (∃ p1, x1 = some p1 ∧ w_l w E.2.1 14 p1 ∧ zw E (L - 21) kt_M266 [.ref (w_adr E.2.1 6 0), va_rf (w_p w 14 p1 3)] w (wk0 (fun w2 => wle w w2 → zw E (L - 21) kt_M266 [.ref (w_adr E.2.1 6 0), va_rf (w_p w 14 p1 4)] w2 (wk0 (fun w4 => wle w2 w4 → (if w_i w4 14 p1 8 = 47 then zb_X7_two_p40 E L Q x1 (w_p w 14 p1 3) (w_p w 14 p1 4) (w_i w4 14 p1 8) w4 else (if ¬ w_i w4 14 p1 8 = 48 then zb_X7_two_p45 E L Q x1 (w_p w 14 p1 3) (w_p w 14 p1 4) (w_i w4 14 p1 8) 0 w4 else zb_X7_two_p40 E L Q x1 (w_p w 14 p1 3) (w_p w 14 p1 4) (w_i w4 14 p1 8) w4))) (fun e w => Q (.inr e) w))) (fun e w => Q (.inr e) w)))
theorem zt_X7_two_p0 {E : zE} {L : Nat} {Q : kx_Rs → wS → Prop} {x1 : Option Nat} {w : wS} (hL : 24 ≤ L) (h : zb_X7_two_p0 E L Q x1 w) : kzE E L kt_M286 0 [(0, .ref (w_adr E.2.1 6 0)), (1, va_rf (x1))] [] w Q := by
  unfold zb_X7_two_p0 at h
  refine kz_aload_nv (M := kt_M286) (x := x1) kX7_two_c0.1 rfl ?_
  obtain ⟨p1, hxp1, hlp1, h⟩ := h
  refine kz_nz0 (x := x1) hxp1 ?_
  refine kz_gfp (M := kt_M286) (c := 14) (o := p1) kX7_two_c0.2.1 wf_X7_34 (.inr (by exact hlp1)) ?_
  refine kz_stv_n (M := kt_M286) (x := w_p w 14 p1 3) [(0, .ref (w_adr E.2.1 6 0)), (1, va_rf (x1))] kX7_two_c0.2.2.1 (Nat.le_of_ble_eq_true rfl) ⟨⟨rfl, rfl, .inl rfl⟩, ⟨⟨rfl, rfl, .inr (w_cat (x1))⟩, trivial⟩⟩ rfl ?_
  refine kz_aload_nv (M := kt_M286) (x := x1) kX7_two_c0.2.2.2.1 rfl ?_
  refine kz_nz0 (x := x1) hxp1 ?_
  refine kz_gfp (M := kt_M286) (c := 14) (o := p1) kX7_two_c0.2.2.2.2.1 wf_X7_46 (.inr (by exact hlp1)) ?_
  refine kz_stv_n (M := kt_M286) (x := w_p w 14 p1 4) [(0, .ref (w_adr E.2.1 6 0)), (1, va_rf (x1)), (2, va_rf (w_p w 14 p1 3))] kX7_two_c0.2.2.2.2.2.1 (Nat.le_of_ble_eq_true rfl) ⟨⟨rfl, rfl, .inl rfl⟩, ⟨⟨rfl, rfl, .inl rfl⟩, ⟨⟨rfl, rfl, .inr (w_cat (w_p w 14 p1 3))⟩, trivial⟩⟩⟩ rfl ?_
  refine kz_aload_n (M := kt_M286) kX7_two_c0.2.2.2.2.2.2.1 rfl ?_
  refine kz_aload_nv (M := kt_M286) (x := w_p w 14 p1 3) kX7_two_c0.2.2.2.2.2.2.2.1 rfl ?_
  refine kz_cv0 (M := kt_M286) (c := 6) (o := 0) (As := [va_rf (w_p w 14 p1 3)]) (rest := []) kX7_two_c1.1 wl_X7_71 wMv_266 rfl (.inl rfl) rfl (Nat.le_trans (Nat.le_of_ble_eq_true rfl) hL) (by simp [lg_sl, w_cat, z_ci, z_cr, z_cl, z_cn, kt_M266]) (Nat.le_of_ble_eq_true rfl) h (fun w2 hle h => ?_) (fun _ _ _ h => kzx_no rfl h)
  have h := h hle
  have hlp1 := w_l_le hlp1 hle
  refine kz_aload_n (M := kt_M286) kX7_two_c1.2.1 rfl ?_
  refine kz_aload_nv (M := kt_M286) (x := w_p w 14 p1 4) kX7_two_c1.2.2.1 rfl ?_
  refine kz_cv0 (M := kt_M286) (c := 6) (o := 0) (As := [va_rf (w_p w 14 p1 4)]) (rest := []) kX7_two_c1.2.2.2.1 wl_X7_71 wMv_266 rfl (.inl rfl) rfl (Nat.le_trans (Nat.le_of_ble_eq_true rfl) hL) (by simp [lg_sl, w_cat, z_ci, z_cr, z_cl, z_cn, kt_M266]) (Nat.le_of_ble_eq_true rfl) h (fun w4 hle h => ?_) (fun _ _ _ h => kzx_no rfl h)
  have h := h hle
  have hlp1 := w_l_le hlp1 hle
  refine kz_aload_nv (M := kt_M286) (x := x1) kX7_two_c1.2.2.2.2.1 rfl ?_
  refine kz_nz0 (x := x1) hxp1 ?_
  refine kz_gfi (M := kt_M286) (c := 14) (o := p1) kX7_two_c1.2.2.2.2.2.1 wf_X7_130 (.inr (by exact hlp1)) ?_
  refine kz_sti (M := kt_M286) [(0, .ref (w_adr E.2.1 6 0)), (1, va_rf (x1)), (2, va_rf (w_p w 14 p1 3)), (3, va_rf (w_p w 14 p1 4))] kX7_two_c1.2.2.2.2.2.2.1 (Nat.le_of_ble_eq_true rfl) ⟨⟨rfl, rfl, .inl rfl⟩, ⟨⟨rfl, rfl, .inl rfl⟩, ⟨⟨rfl, rfl, .inl rfl⟩, ⟨⟨rfl, rfl, .inr (w_cat (w_p w 14 p1 4))⟩, trivial⟩⟩⟩⟩ rfl ?_
  refine kz_iload (M := kt_M286) kX7_two_c1.2.2.2.2.2.2.2.1 rfl ?_
  refine kz_bi (M := kt_M286) 47 kX7_two_c2.1 rfl ?_
  refine kz_icmp_eq (M := kt_M286) kX7_two_c2.2.1 (t := 40) rfl h (fun h => ?_) (fun h => ?_)
  · skip
    exact kz_weak [(0, .ref (w_adr E.2.1 6 0)), (1, va_rf (x1)), (2, va_rf (w_p w 14 p1 3)), (3, va_rf (w_p w 14 p1 4)), (4, .int (w_i w4 14 p1 8))] ⟨rfl, ⟨rfl, ⟨rfl, ⟨rfl, ⟨rfl, trivial⟩⟩⟩⟩⟩ rfl (zt_X7_two_p40 hL  h)
  · skip
    refine kz_iload (M := kt_M286) kX7_two_c2.2.2.1 rfl ?_
    refine kz_bi (M := kt_M286) 48 kX7_two_c2.2.2.2.1 rfl ?_
    refine kz_icmp_ne (M := kt_M286) kX7_two_c2.2.2.2.2.1 (t := 44) rfl h (fun h => ?_) (fun h => ?_)
    · skip
      refine kz_ic (M := kt_M286) 0 kX7_two_c2.2.2.2.2.2.2.2.1 rfl ?_
      exact kz_weak [(0, .ref (w_adr E.2.1 6 0)), (1, va_rf (x1)), (2, va_rf (w_p w 14 p1 3)), (3, va_rf (w_p w 14 p1 4)), (4, .int (w_i w4 14 p1 8))] ⟨rfl, ⟨rfl, ⟨rfl, ⟨rfl, ⟨rfl, trivial⟩⟩⟩⟩⟩ rfl (zt_X7_two_p45 hL  h)
    · skip
      exact kz_weak [(0, .ref (w_adr E.2.1 6 0)), (1, va_rf (x1)), (2, va_rf (w_p w 14 p1 3)), (3, va_rf (w_p w 14 p1 4)), (4, .int (w_i w4 14 p1 8))] ⟨rfl, ⟨rfl, ⟨rfl, ⟨rfl, ⟨rfl, trivial⟩⟩⟩⟩⟩ rfl (zt_X7_two_p40 hL  h)
def zL_X7_chain_p28 (E : zE) (L : Nat) (Q : kx_Rs → wS → Prop) (x1 : Option Nat) (x2 : Int32) (x3 : Int32) (x4 : Int32) (x5 : Int32) (x6 : Option Nat) (w : wS) : Prop := kzE E L kt_M261 28 [(0, .ref (w_adr E.2.1 6 0)), (1, va_rf (x1)), (2, .int x2), (3, .int x3), (4, .int x4), (5, .int x5), (6, va_rf (x6))] [] w Q
def zb_X7_chain_p186 (E : zE) (L : Nat) (Q : kx_Rs → wS → Prop) (w : wS) : Prop := Q (.inl none) w
theorem zt_X7_chain_p186 {E : zE} {L : Nat} {Q : kx_Rs → wS → Prop} {w : wS} (hL : 24 ≤ L) (h : zb_X7_chain_p186 E L Q  w) : kzE E L kt_M261 186 [(0, .ref (w_adr E.2.1 6 0))] [] w Q := by
  unfold zb_X7_chain_p186 at h
  exact kz_ret (M := kt_M261) kX7_chain_c11.2.2.2.2.2.1 rfl h
def zb_X7_chain_p139 (E : zE) (L : Nat) (Q : kx_Rs → wS → Prop) (x1 : Option Nat) (x2 : Int32) (x3 : Int32) (x4 : Int32) (x6 : Option Nat) (y0 : Int32) (w : wS) : Prop := (∃ p1, x6 = some p1 ∧ w_l w E.2.1 14 p1 ∧ zL_X7_chain_p28 E L Q x1 x2 x3 x4 y0 (w_p w 14 p1 7) w)
theorem zt_X7_chain_p139 {E : zE} {L : Nat} {Q : kx_Rs → wS → Prop} {x1 : Option Nat} {x2 : Int32} {x3 : Int32} {x4 : Int32} {x6 : Option Nat} {y0 : Int32} {w : wS} (hL : 24 ≤ L) (h : zb_X7_chain_p139 E L Q x1 x2 x3 x4 x6 y0 w) : kzE E L kt_M261 139 [(0, .ref (w_adr E.2.1 6 0)), (1, va_rf (x1)), (2, .int x2), (3, .int x3), (4, .int x4), (6, va_rf (x6))] [.int y0] w Q := by
  unfold zb_X7_chain_p139 at h
  refine kz_sti (M := kt_M261) [(0, .ref (w_adr E.2.1 6 0)), (1, va_rf (x1)), (2, .int x2), (3, .int x3), (4, .int x4), (6, va_rf (x6))] kX7_chain_c8.2.2.2.2.2.1 (Nat.le_of_ble_eq_true rfl) ⟨⟨rfl, rfl, .inl rfl⟩, ⟨⟨rfl, rfl, .inl rfl⟩, ⟨⟨rfl, rfl, .inl rfl⟩, ⟨⟨rfl, rfl, .inl rfl⟩, ⟨⟨rfl, rfl, .inr rfl⟩, ⟨⟨rfl, rfl, .inl rfl⟩, trivial⟩⟩⟩⟩⟩⟩ rfl ?_
  refine kz_aloadv (M := kt_M261) (x := x6) kX7_chain_c8.2.2.2.2.2.2.1 rfl ?_
  obtain ⟨p1, hxp1, hlp1, h⟩ := h
  refine kz_nz0 (x := x6) hxp1 ?_
  refine kz_gfp (M := kt_M261) (c := 14) (o := p1) kX7_chain_c8.2.2.2.2.2.2.2.1 wf_X7_43 (.inr (by exact hlp1)) ?_
  refine kz_stv (M := kt_M261) (x := w_p w 14 p1 7) [(0, .ref (w_adr E.2.1 6 0)), (1, va_rf (x1)), (2, .int x2), (3, .int x3), (4, .int x4), (5, .int y0)] kX7_chain_c9.1 (Nat.le_of_ble_eq_true rfl) ⟨⟨rfl, rfl, .inl rfl⟩, ⟨⟨rfl, rfl, .inl rfl⟩, ⟨⟨rfl, rfl, .inl rfl⟩, ⟨⟨rfl, rfl, .inl rfl⟩, ⟨⟨rfl, rfl, .inl rfl⟩, ⟨⟨rfl, rfl, .inr rfl⟩, trivial⟩⟩⟩⟩⟩⟩ rfl ?_
  refine kz_goto (M := kt_M261) kX7_chain_c9.2.1 (t := 28) rfl ?_
  exact kz_weak [(0, .ref (w_adr E.2.1 6 0)), (1, va_rf (x1)), (2, .int x2), (3, .int x3), (4, .int x4), (5, .int y0), (6, va_rf (w_p w 14 p1 7))] ⟨rfl, ⟨rfl, ⟨rfl, ⟨rfl, ⟨rfl, ⟨rfl, ⟨rfl, trivial⟩⟩⟩⟩⟩⟩⟩ rfl h
def zb_X7_chain_p110 (E : zE) (L : Nat) (Q : kx_Rs → wS → Prop) (x1 : Option Nat) (x2 : Int32) (x3 : Int32) (x5 : Int32) (x6 : Option Nat) (y0 : Int32) (w : wS) : Prop := (∃ p1, x1 = some p1 ∧ w_l w E.2.1 14 p1 ∧ (if ¬ w_i w 14 p1 8 = 2 then (∃ p2, x6 = some p2 ∧ w_l w E.2.1 14 p2 ∧ zb_X7_chain_p139 E L Q x1 x2 x3 y0 x6 (x5 ||| (w_i w 14 p2 19)) w) else (∃ p3, x6 = some p3 ∧ w_l w E.2.1 14 p3 ∧ zb_X7_chain_p139 E L Q x1 x2 x3 y0 x6 (x5 &&& (w_i w 14 p3 19)) w)))
theorem zt_X7_chain_p110 {E : zE} {L : Nat} {Q : kx_Rs → wS → Prop} {x1 : Option Nat} {x2 : Int32} {x3 : Int32} {x5 : Int32} {x6 : Option Nat} {y0 : Int32} {w : wS} (hL : 24 ≤ L) (h : zb_X7_chain_p110 E L Q x1 x2 x3 x5 x6 y0 w) : kzE E L kt_M261 110 [(0, .ref (w_adr E.2.1 6 0)), (1, va_rf (x1)), (2, .int x2), (3, .int x3), (5, .int x5), (6, va_rf (x6))] [.int y0] w Q := by
  unfold zb_X7_chain_p110 at h
  refine kz_sti (M := kt_M261) [(0, .ref (w_adr E.2.1 6 0)), (1, va_rf (x1)), (2, .int x2), (3, .int x3), (5, .int x5), (6, va_rf (x6))] kX7_chain_c6.2.2.2.2.2.2.2.1 (Nat.le_of_ble_eq_true rfl) ⟨⟨rfl, rfl, .inl rfl⟩, ⟨⟨rfl, rfl, .inl rfl⟩, ⟨⟨rfl, rfl, .inl rfl⟩, ⟨⟨rfl, rfl, .inr rfl⟩, ⟨⟨rfl, rfl, .inl rfl⟩, ⟨⟨rfl, rfl, .inl rfl⟩, trivial⟩⟩⟩⟩⟩⟩ rfl ?_
  refine kz_aload_nv (M := kt_M261) (x := x1) kX7_chain_c7.1 rfl ?_
  obtain ⟨p1, hxp1, hlp1, h⟩ := h
  refine kz_nz0 (x := x1) hxp1 ?_
  refine kz_gfi (M := kt_M261) (c := 14) (o := p1) kX7_chain_c7.2.1 wf_X7_130 (.inr (by exact hlp1)) ?_
  refine kz_ic (M := kt_M261) 2 kX7_chain_c7.2.2.1 rfl ?_
  refine kz_icmp_ne (M := kt_M261) kX7_chain_c7.2.2.2.1 (t := 131) rfl h (fun h => ?_) (fun h => ?_)
  · skip
    refine kz_iload (M := kt_M261) kX7_chain_c8.2.1 rfl ?_
    refine kz_aloadv (M := kt_M261) (x := x6) kX7_chain_c8.2.2.1 rfl ?_
    obtain ⟨p2, hxp2, hlp2, h⟩ := h
    refine kz_nz0 (x := x6) hxp2 ?_
    refine kz_gfi (M := kt_M261) (c := 14) (o := p2) kX7_chain_c8.2.2.2.1 wf_X7_74 (.inr (by exact hlp2)) ?_
    refine kz_ior (M := kt_M261) kX7_chain_c8.2.2.2.2.1 ?_
    exact kz_weak [(0, .ref (w_adr E.2.1 6 0)), (1, va_rf (x1)), (2, .int x2), (3, .int x3), (4, .int y0), (6, va_rf (x6))] ⟨rfl, ⟨rfl, ⟨rfl, ⟨rfl, ⟨rfl, ⟨rfl, trivial⟩⟩⟩⟩⟩⟩ rfl (zt_X7_chain_p139 hL  h)
  · skip
    refine kz_iload (M := kt_M261) kX7_chain_c7.2.2.2.2.1 rfl ?_
    refine kz_aloadv (M := kt_M261) (x := x6) kX7_chain_c7.2.2.2.2.2.1 rfl ?_
    obtain ⟨p3, hxp3, hlp3, h⟩ := h
    refine kz_nz0 (x := x6) hxp3 ?_
    refine kz_gfi (M := kt_M261) (c := 14) (o := p3) kX7_chain_c7.2.2.2.2.2.2.1 wf_X7_74 (.inr (by exact hlp3)) ?_
    refine kz_iand (M := kt_M261) kX7_chain_c7.2.2.2.2.2.2.2.1 ?_
    refine kz_goto (M := kt_M261) kX7_chain_c8.1 (t := 139) rfl ?_
    exact kz_weak [(0, .ref (w_adr E.2.1 6 0)), (1, va_rf (x1)), (2, .int x2), (3, .int x3), (4, .int y0), (6, va_rf (x6))] ⟨rfl, ⟨rfl, ⟨rfl, ⟨rfl, ⟨rfl, ⟨rfl, trivial⟩⟩⟩⟩⟩⟩ rfl (zt_X7_chain_p139 hL  h)
def zb_X7_chain_p105 (E : zE) (L : Nat) (Q : kx_Rs → wS → Prop) (x1 : Option Nat) (x2 : Int32) (x3 : Int32) (x5 : Int32) (x6 : Option Nat) (w : wS) : Prop := zb_X7_chain_p110 E L Q x1 x2 x3 x5 x6 1 w
theorem zt_X7_chain_p105 {E : zE} {L : Nat} {Q : kx_Rs → wS → Prop} {x1 : Option Nat} {x2 : Int32} {x3 : Int32} {x5 : Int32} {x6 : Option Nat} {w : wS} (hL : 24 ≤ L) (h : zb_X7_chain_p105 E L Q x1 x2 x3 x5 x6 w) : kzE E L kt_M261 105 [(0, .ref (w_adr E.2.1 6 0)), (1, va_rf (x1)), (2, .int x2), (3, .int x3), (5, .int x5), (6, va_rf (x6))] [] w Q := by
  unfold zb_X7_chain_p105 at h
  refine kz_ic (M := kt_M261) 1 kX7_chain_c6.2.2.2.2.1 rfl ?_
  refine kz_goto (M := kt_M261) kX7_chain_c6.2.2.2.2.2.1 (t := 110) rfl ?_
  exact kz_weak [(0, .ref (w_adr E.2.1 6 0)), (1, va_rf (x1)), (2, .int x2), (3, .int x3), (5, .int x5), (6, va_rf (x6))] ⟨rfl, ⟨rfl, ⟨rfl, ⟨rfl, ⟨rfl, ⟨rfl, trivial⟩⟩⟩⟩⟩⟩ rfl (zt_X7_chain_p110 hL  h)
def zb_X7_chain_p91 (E : zE) (L : Nat) (Q : kx_Rs → wS → Prop) (x1 : Option Nat) (x2 : Int32) (x4 : Int32) (x5 : Int32) (x6 : Option Nat) (y0 : Int32) (w : wS) : Prop := (if ¬ x4 = 0 then zb_X7_chain_p105 E L Q x1 x2 y0 x5 x6 w else (∃ p1, x6 = some p1 ∧ w_l w E.2.1 14 p1 ∧ (if w_i w 14 p1 11 = 0 then zb_X7_chain_p110 E L Q x1 x2 y0 x5 x6 0 w else zb_X7_chain_p105 E L Q x1 x2 y0 x5 x6 w)))
theorem zt_X7_chain_p91 {E : zE} {L : Nat} {Q : kx_Rs → wS → Prop} {x1 : Option Nat} {x2 : Int32} {x4 : Int32} {x5 : Int32} {x6 : Option Nat} {y0 : Int32} {w : wS} (hL : 24 ≤ L) (h : zb_X7_chain_p91 E L Q x1 x2 x4 x5 x6 y0 w) : kzE E L kt_M261 91 [(0, .ref (w_adr E.2.1 6 0)), (1, va_rf (x1)), (2, .int x2), (4, .int x4), (5, .int x5), (6, va_rf (x6))] [.int y0] w Q := by
  unfold zb_X7_chain_p91 at h
  refine kz_sti_n (M := kt_M261) [(0, .ref (w_adr E.2.1 6 0)), (1, va_rf (x1)), (2, .int x2), (4, .int x4), (5, .int x5), (6, va_rf (x6))] kX7_chain_c5.2.2.2.2.2.2.1 (Nat.le_of_ble_eq_true rfl) ⟨⟨rfl, rfl, .inl rfl⟩, ⟨⟨rfl, rfl, .inl rfl⟩, ⟨⟨rfl, rfl, .inr rfl⟩, ⟨⟨rfl, rfl, .inl rfl⟩, ⟨⟨rfl, rfl, .inl rfl⟩, ⟨⟨rfl, rfl, .inl rfl⟩, trivial⟩⟩⟩⟩⟩⟩ rfl ?_
  refine kz_iload (M := kt_M261) kX7_chain_c5.2.2.2.2.2.2.2.1 rfl ?_
  refine kz_if_ne (M := kt_M261) kX7_chain_c6.1 (t := 105) rfl h (fun h => ?_) (fun h => ?_)
  · skip
    exact kz_weak [(0, .ref (w_adr E.2.1 6 0)), (1, va_rf (x1)), (2, .int x2), (3, .int y0), (5, .int x5), (6, va_rf (x6))] ⟨rfl, ⟨rfl, ⟨rfl, ⟨rfl, ⟨rfl, ⟨rfl, trivial⟩⟩⟩⟩⟩⟩ rfl (zt_X7_chain_p105 hL  h)
  · skip
    refine kz_aloadv (M := kt_M261) (x := x6) kX7_chain_c6.2.1 rfl ?_
    obtain ⟨p1, hxp1, hlp1, h⟩ := h
    refine kz_nz0 (x := x6) hxp1 ?_
    refine kz_gfi (M := kt_M261) (c := 14) (o := p1) kX7_chain_c6.2.2.1 wf_X7_141 (.inr (by exact hlp1)) ?_
    refine kz_if_eq (M := kt_M261) kX7_chain_c6.2.2.2.1 (t := 109) rfl h (fun h => ?_) (fun h => ?_)
    · skip
      refine kz_ic (M := kt_M261) 0 kX7_chain_c6.2.2.2.2.2.2.1 rfl ?_
      exact kz_weak [(0, .ref (w_adr E.2.1 6 0)), (1, va_rf (x1)), (2, .int x2), (3, .int y0), (5, .int x5), (6, va_rf (x6))] ⟨rfl, ⟨rfl, ⟨rfl, ⟨rfl, ⟨rfl, ⟨rfl, trivial⟩⟩⟩⟩⟩⟩ rfl (zt_X7_chain_p110 hL  h)
    · skip
      exact kz_weak [(0, .ref (w_adr E.2.1 6 0)), (1, va_rf (x1)), (2, .int x2), (3, .int y0), (5, .int x5), (6, va_rf (x6))] ⟨rfl, ⟨rfl, ⟨rfl, ⟨rfl, ⟨rfl, ⟨rfl, trivial⟩⟩⟩⟩⟩⟩ rfl (zt_X7_chain_p105 hL  h)
def zb_X7_chain_p90 (E : zE) (L : Nat) (Q : kx_Rs → wS → Prop) (x1 : Option Nat) (x2 : Int32) (x4 : Int32) (x5 : Int32) (x6 : Option Nat) (w : wS) : Prop := zb_X7_chain_p91 E L Q x1 x2 x4 x5 x6 0 w
theorem zt_X7_chain_p90 {E : zE} {L : Nat} {Q : kx_Rs → wS → Prop} {x1 : Option Nat} {x2 : Int32} {x4 : Int32} {x5 : Int32} {x6 : Option Nat} {w : wS} (hL : 24 ≤ L) (h : zb_X7_chain_p90 E L Q x1 x2 x4 x5 x6 w) : kzE E L kt_M261 90 [(0, .ref (w_adr E.2.1 6 0)), (1, va_rf (x1)), (2, .int x2), (4, .int x4), (5, .int x5), (6, va_rf (x6))] [] w Q := by
  unfold zb_X7_chain_p90 at h
  refine kz_ic (M := kt_M261) 0 kX7_chain_c5.2.2.2.2.2.1 rfl ?_
  exact kz_weak [(0, .ref (w_adr E.2.1 6 0)), (1, va_rf (x1)), (2, .int x2), (4, .int x4), (5, .int x5), (6, va_rf (x6))] ⟨rfl, ⟨rfl, ⟨rfl, ⟨rfl, ⟨rfl, ⟨rfl, trivial⟩⟩⟩⟩⟩⟩ rfl (zt_X7_chain_p91 hL  h)
def zb_X7_chain_p73 (E : zE) (L : Nat) (Q : kx_Rs → wS → Prop) (x1 : Option Nat) (x3 : Int32) (x4 : Int32) (x5 : Int32) (x6 : Option Nat) (y0 : Int32) (w : wS) : Prop := (if x3 = 0 then zb_X7_chain_p90 E L Q x1 y0 x4 x5 x6 w else (∃ p1, x6 = some p1 ∧ w_l w E.2.1 14 p1 ∧ (if w_i w 14 p1 21 = 0 then zb_X7_chain_p90 E L Q x1 y0 x4 x5 x6 w else zb_X7_chain_p91 E L Q x1 y0 x4 x5 x6 1 w)))
theorem zt_X7_chain_p73 {E : zE} {L : Nat} {Q : kx_Rs → wS → Prop} {x1 : Option Nat} {x3 : Int32} {x4 : Int32} {x5 : Int32} {x6 : Option Nat} {y0 : Int32} {w : wS} (hL : 24 ≤ L) (h : zb_X7_chain_p73 E L Q x1 x3 x4 x5 x6 y0 w) : kzE E L kt_M261 73 [(0, .ref (w_adr E.2.1 6 0)), (1, va_rf (x1)), (3, .int x3), (4, .int x4), (5, .int x5), (6, va_rf (x6))] [.int y0] w Q := by
  unfold zb_X7_chain_p73 at h
  refine kz_sti_n (M := kt_M261) [(0, .ref (w_adr E.2.1 6 0)), (1, va_rf (x1)), (3, .int x3), (4, .int x4), (5, .int x5), (6, va_rf (x6))] kX7_chain_c4.2.2.2.2.2.1 (Nat.le_of_ble_eq_true rfl) ⟨⟨rfl, rfl, .inl rfl⟩, ⟨⟨rfl, rfl, .inr (w_cat (x1))⟩, ⟨⟨rfl, rfl, .inl rfl⟩, ⟨⟨rfl, rfl, .inl rfl⟩, ⟨⟨rfl, rfl, .inl rfl⟩, ⟨⟨rfl, rfl, .inl rfl⟩, trivial⟩⟩⟩⟩⟩⟩ rfl ?_
  refine kz_iload_n (M := kt_M261) kX7_chain_c4.2.2.2.2.2.2.1 rfl ?_
  refine kz_if_eq (M := kt_M261) kX7_chain_c4.2.2.2.2.2.2.2.1 (t := 90) rfl h (fun h => ?_) (fun h => ?_)
  · skip
    exact kz_weak [(0, .ref (w_adr E.2.1 6 0)), (1, va_rf (x1)), (2, .int y0), (4, .int x4), (5, .int x5), (6, va_rf (x6))] ⟨rfl, ⟨rfl, ⟨rfl, ⟨rfl, ⟨rfl, ⟨rfl, trivial⟩⟩⟩⟩⟩⟩ rfl (zt_X7_chain_p90 hL  h)
  · skip
    refine kz_aloadv (M := kt_M261) (x := x6) kX7_chain_c5.1 rfl ?_
    obtain ⟨p1, hxp1, hlp1, h⟩ := h
    refine kz_nz0 (x := x6) hxp1 ?_
    refine kz_gfi (M := kt_M261) (c := 14) (o := p1) kX7_chain_c5.2.1 wf_X7_68 (.inr (by exact hlp1)) ?_
    refine kz_if_eq (M := kt_M261) kX7_chain_c5.2.2.1 (t := 90) rfl h (fun h => ?_) (fun h => ?_)
    · skip
      exact kz_weak [(0, .ref (w_adr E.2.1 6 0)), (1, va_rf (x1)), (2, .int y0), (4, .int x4), (5, .int x5), (6, va_rf (x6))] ⟨rfl, ⟨rfl, ⟨rfl, ⟨rfl, ⟨rfl, ⟨rfl, trivial⟩⟩⟩⟩⟩⟩ rfl (zt_X7_chain_p90 hL  h)
    · skip
      refine kz_ic (M := kt_M261) 1 kX7_chain_c5.2.2.2.1 rfl ?_
      refine kz_goto (M := kt_M261) kX7_chain_c5.2.2.2.2.1 (t := 91) rfl ?_
      exact kz_weak [(0, .ref (w_adr E.2.1 6 0)), (1, va_rf (x1)), (2, .int y0), (4, .int x4), (5, .int x5), (6, va_rf (x6))] ⟨rfl, ⟨rfl, ⟨rfl, ⟨rfl, ⟨rfl, ⟨rfl, trivial⟩⟩⟩⟩⟩⟩ rfl (zt_X7_chain_p91 hL  h)
def zb_X7_chain_p72 (E : zE) (L : Nat) (Q : kx_Rs → wS → Prop) (x1 : Option Nat) (x3 : Int32) (x4 : Int32) (x5 : Int32) (x6 : Option Nat) (w : wS) : Prop := zb_X7_chain_p73 E L Q x1 x3 x4 x5 x6 0 w
theorem zt_X7_chain_p72 {E : zE} {L : Nat} {Q : kx_Rs → wS → Prop} {x1 : Option Nat} {x3 : Int32} {x4 : Int32} {x5 : Int32} {x6 : Option Nat} {w : wS} (hL : 24 ≤ L) (h : zb_X7_chain_p72 E L Q x1 x3 x4 x5 x6 w) : kzE E L kt_M261 72 [(0, .ref (w_adr E.2.1 6 0)), (1, va_rf (x1)), (3, .int x3), (4, .int x4), (5, .int x5), (6, va_rf (x6))] [] w Q := by
  unfold zb_X7_chain_p72 at h
  refine kz_ic (M := kt_M261) 0 kX7_chain_c4.2.2.2.2.1 rfl ?_
  exact kz_weak [(0, .ref (w_adr E.2.1 6 0)), (1, va_rf (x1)), (3, .int x3), (4, .int x4), (5, .int x5), (6, va_rf (x6))] ⟨rfl, ⟨rfl, ⟨rfl, ⟨rfl, ⟨rfl, ⟨rfl, trivial⟩⟩⟩⟩⟩⟩ rfl (zt_X7_chain_p73 hL  h)
def zb_X7_chain_p68 (E : zE) (L : Nat) (Q : kx_Rs → wS → Prop) (x1 : Option Nat) (x3 : Int32) (x4 : Int32) (x5 : Int32) (x6 : Option Nat) (w : wS) : Prop := zb_X7_chain_p73 E L Q x1 x3 x4 x5 x6 1 w
theorem zt_X7_chain_p68 {E : zE} {L : Nat} {Q : kx_Rs → wS → Prop} {x1 : Option Nat} {x3 : Int32} {x4 : Int32} {x5 : Int32} {x6 : Option Nat} {w : wS} (hL : 24 ≤ L) (h : zb_X7_chain_p68 E L Q x1 x3 x4 x5 x6 w) : kzE E L kt_M261 68 [(0, .ref (w_adr E.2.1 6 0)), (1, va_rf (x1)), (3, .int x3), (4, .int x4), (5, .int x5), (6, va_rf (x6))] [] w Q := by
  unfold zb_X7_chain_p68 at h
  refine kz_ic (M := kt_M261) 1 kX7_chain_c4.2.2.1 rfl ?_
  refine kz_goto (M := kt_M261) kX7_chain_c4.2.2.2.1 (t := 73) rfl ?_
  exact kz_weak [(0, .ref (w_adr E.2.1 6 0)), (1, va_rf (x1)), (3, .int x3), (4, .int x4), (5, .int x5), (6, va_rf (x6))] ⟨rfl, ⟨rfl, ⟨rfl, ⟨rfl, ⟨rfl, ⟨rfl, trivial⟩⟩⟩⟩⟩⟩ rfl (zt_X7_chain_p73 hL  h)
def zb_X7_chain_p28 (E : zE) (L : Nat) (Q : kx_Rs → wS → Prop) (x1 : Option Nat) (x2 : Int32) (x3 : Int32) (x4 : Int32) (x5 : Int32) (x6 : Option Nat) (w : wS) : Prop := (if x6 = none then zw E (L - 24) kt_M269 [.ref (w_adr E.2.1 6 0), va_rf (x1), .int 3, .int x3, .int x5] w (wk0 (fun w1 => wle w w1 → (if x2 = 0 then (if x3 = 0 then zb_X7_chain_p186 E L Q w1 else (if x4 = 0 then zb_X7_chain_p186 E L Q w1 else zw E (L - 21) kt_M267 [.ref (w_adr E.2.1 6 0), va_rf (x1)] w1 (wk0 (fun w3 => wle w1 w3 → zb_X7_chain_p186 E L Q w3) (fun e w => Q (.inr e) w)))) else zw E (L - 21) kt_M290 [.ref (w_adr E.2.1 6 0), va_rf (x1)] w1 (wk0 (fun w5 => wle w1 w5 → zb_X7_chain_p186 E L Q w5) (fun e w => Q (.inr e) w)))) (fun e w => Q (.inr e) w)) else zw E (L - 21) kt_M266 [.ref (w_adr E.2.1 6 0), va_rf (x6)] w (wk0 (fun w7 => wle w w7 → (if ¬ x2 = 0 then zb_X7_chain_p68 E L Q x1 x3 x4 x5 x6 w7 else (∃ p9, x6 = some p9 ∧ w_l w7 E.2.1 14 p9 ∧ (if w_i w7 14 p9 17 = 0 then zb_X7_chain_p72 E L Q x1 x3 x4 x5 x6 w7 else (if ¬ w_i w7 14 p9 17 = 3 then zb_X7_chain_p68 E L Q x1 x3 x4 x5 x6 w7 else (if w_i w7 14 p9 20 = 0 then zb_X7_chain_p72 E L Q x1 x3 x4 x5 x6 w7 else zb_X7_chain_p68 E L Q x1 x3 x4 x5 x6 w7)))))) (fun e w => Q (.inr e) w)))
theorem zt_X7_chain_p28 {E : zE} {L : Nat} {Q : kx_Rs → wS → Prop} {x1 : Option Nat} {x2 : Int32} {x3 : Int32} {x4 : Int32} {x5 : Int32} {x6 : Option Nat} {w : wS} (hL : 24 ≤ L) (h : zb_X7_chain_p28 E L Q x1 x2 x3 x4 x5 x6 w) : kzE E L kt_M261 28 [(0, .ref (w_adr E.2.1 6 0)), (1, va_rf (x1)), (2, .int x2), (3, .int x3), (4, .int x4), (5, .int x5), (6, va_rf (x6))] [] w Q := by
  unfold zb_X7_chain_p28 at h
  refine kz_aloadv (M := kt_M261) (x := x6) kX7_chain_c2.2.1 rfl ?_
  refine kz_ifnull (M := kt_M261) (x := x6) kX7_chain_c2.2.2.1 (t := 151) rfl h (fun h => ?_) (fun h => ?_)
  · skip
    refine kz_aload_n (M := kt_M261) kX7_chain_c9.2.2.1 rfl ?_
    refine kz_aload_nv (M := kt_M261) (x := x1) kX7_chain_c9.2.2.2.1 rfl ?_
    refine kz_ic (M := kt_M261) 3 kX7_chain_c9.2.2.2.2.1 rfl ?_
    refine kz_iload_n (M := kt_M261) kX7_chain_c9.2.2.2.2.2.1 rfl ?_
    refine kz_iload (M := kt_M261) kX7_chain_c9.2.2.2.2.2.2.1 rfl ?_
    refine kz_cv0 (M := kt_M261) (c := 6) (o := 0) (As := [va_rf (x1), .int 3, .int x3, .int x5]) (rest := []) kX7_chain_c9.2.2.2.2.2.2.2.1 wl_X7_286 wMv_269 rfl (.inl rfl) rfl (Nat.le_trans (Nat.le_of_ble_eq_true rfl) hL) (by simp [lg_sl, w_cat, z_ci, z_cr, z_cl, z_cn, kt_M269]) (Nat.le_of_ble_eq_true rfl) h (fun w1 hle h => ?_) (fun _ _ _ h => kzx_no rfl h)
    have h := h hle
    refine kz_iload_n (M := kt_M261) kX7_chain_c10.1 rfl ?_
    refine kz_if_eq (M := kt_M261) kX7_chain_c10.2.1 (t := 172) rfl h (fun h => ?_) (fun h => ?_)
    · skip
      refine kz_iload_n (M := kt_M261) kX7_chain_c10.2.2.2.2.2.2.1 rfl ?_
      refine kz_if_eq (M := kt_M261) kX7_chain_c10.2.2.2.2.2.2.2.1 (t := 186) rfl h (fun h => ?_) (fun h => ?_)
      · skip
        exact kz_weak [(0, .ref (w_adr E.2.1 6 0))] ⟨rfl, trivial⟩ rfl (zt_X7_chain_p186 hL  h)
      · skip
        refine kz_iload (M := kt_M261) kX7_chain_c11.1 rfl ?_
        refine kz_if_eq (M := kt_M261) kX7_chain_c11.2.1 (t := 186) rfl h (fun h => ?_) (fun h => ?_)
        · skip
          exact kz_weak [(0, .ref (w_adr E.2.1 6 0))] ⟨rfl, trivial⟩ rfl (zt_X7_chain_p186 hL  h)
        · skip
          refine kz_aload_n (M := kt_M261) kX7_chain_c11.2.2.1 rfl ?_
          refine kz_aload_nv (M := kt_M261) (x := x1) kX7_chain_c11.2.2.2.1 rfl ?_
          refine kz_cv0 (M := kt_M261) (c := 6) (o := 0) (As := [va_rf (x1)]) (rest := []) kX7_chain_c11.2.2.2.2.1 wl_X7_308 wMv_267 rfl (.inl rfl) rfl (Nat.le_trans (Nat.le_of_ble_eq_true rfl) hL) (by simp [lg_sl, w_cat, z_ci, z_cr, z_cl, z_cn, kt_M267]) (Nat.le_of_ble_eq_true rfl) h (fun w3 hle h => ?_) (fun _ _ _ h => kzx_no rfl h)
          have h := h hle
          exact kz_weak [(0, .ref (w_adr E.2.1 6 0))] ⟨rfl, trivial⟩ rfl (zt_X7_chain_p186 hL  h)
    · skip
      refine kz_aload_n (M := kt_M261) kX7_chain_c10.2.2.1 rfl ?_
      refine kz_aload_nv (M := kt_M261) (x := x1) kX7_chain_c10.2.2.2.1 rfl ?_
      refine kz_cv0 (M := kt_M261) (c := 6) (o := 0) (As := [va_rf (x1)]) (rest := []) kX7_chain_c10.2.2.2.2.1 wl_X7_283 wMv_290 rfl (.inl rfl) rfl (Nat.le_trans (Nat.le_of_ble_eq_true rfl) hL) (by simp [lg_sl, w_cat, z_ci, z_cr, z_cl, z_cn, kt_M290]) (Nat.le_of_ble_eq_true rfl) h (fun w5 hle h => ?_) (fun _ _ _ h => kzx_no rfl h)
      have h := h hle
      refine kz_goto (M := kt_M261) kX7_chain_c10.2.2.2.2.2.1 (t := 186) rfl ?_
      exact kz_weak [(0, .ref (w_adr E.2.1 6 0))] ⟨rfl, trivial⟩ rfl (zt_X7_chain_p186 hL  h)
  · skip
    refine kz_aload_n (M := kt_M261) kX7_chain_c2.2.2.2.1 rfl ?_
    refine kz_aloadv (M := kt_M261) (x := x6) kX7_chain_c2.2.2.2.2.1 rfl ?_
    refine kz_cv0 (M := kt_M261) (c := 6) (o := 0) (As := [va_rf (x6)]) (rest := []) kX7_chain_c2.2.2.2.2.2.1 wl_X7_71 wMv_266 rfl (.inl rfl) rfl (Nat.le_trans (Nat.le_of_ble_eq_true rfl) hL) (by simp [lg_sl, w_cat, z_ci, z_cr, z_cl, z_cn, kt_M266]) (Nat.le_of_ble_eq_true rfl) h (fun w7 hle h => ?_) (fun _ _ _ h => kzx_no rfl h)
    have h := h hle
    refine kz_iload_n (M := kt_M261) kX7_chain_c2.2.2.2.2.2.2.1 rfl ?_
    refine kz_if_ne (M := kt_M261) kX7_chain_c2.2.2.2.2.2.2.2.1 (t := 68) rfl h (fun h => ?_) (fun h => ?_)
    · skip
      exact kz_weak [(0, .ref (w_adr E.2.1 6 0)), (1, va_rf (x1)), (3, .int x3), (4, .int x4), (5, .int x5), (6, va_rf (x6))] ⟨rfl, ⟨rfl, ⟨rfl, ⟨rfl, ⟨rfl, ⟨rfl, trivial⟩⟩⟩⟩⟩⟩ rfl (zt_X7_chain_p68 hL  h)
    · skip
      refine kz_aloadv (M := kt_M261) (x := x6) kX7_chain_c3.1 rfl ?_
      obtain ⟨p9, hxp9, hlp9, h⟩ := h
      refine kz_nz0 (x := x6) hxp9 ?_
      refine kz_gfi (M := kt_M261) (c := 14) (o := p9) kX7_chain_c3.2.1 wf_X7_61 (.inr (by exact hlp9)) ?_
      refine kz_if_eq (M := kt_M261) kX7_chain_c3.2.2.1 (t := 72) rfl h (fun h => ?_) (fun h => ?_)
      · skip
        exact kz_weak [(0, .ref (w_adr E.2.1 6 0)), (1, va_rf (x1)), (3, .int x3), (4, .int x4), (5, .int x5), (6, va_rf (x6))] ⟨rfl, ⟨rfl, ⟨rfl, ⟨rfl, ⟨rfl, ⟨rfl, trivial⟩⟩⟩⟩⟩⟩ rfl (zt_X7_chain_p72 hL  h)
      · skip
        refine kz_aloadv (M := kt_M261) (x := x6) kX7_chain_c3.2.2.2.1 rfl ?_
        refine kz_nz0 (x := x6) hxp9 ?_
        refine kz_gfi (M := kt_M261) (c := 14) (o := p9) kX7_chain_c3.2.2.2.2.1 wf_X7_61 (.inr (by exact hlp9)) ?_
        refine kz_ic (M := kt_M261) 3 kX7_chain_c3.2.2.2.2.2.1 rfl ?_
        refine kz_icmp_ne (M := kt_M261) kX7_chain_c3.2.2.2.2.2.2.1 (t := 68) rfl h (fun h => ?_) (fun h => ?_)
        · skip
          exact kz_weak [(0, .ref (w_adr E.2.1 6 0)), (1, va_rf (x1)), (3, .int x3), (4, .int x4), (5, .int x5), (6, va_rf (x6))] ⟨rfl, ⟨rfl, ⟨rfl, ⟨rfl, ⟨rfl, ⟨rfl, trivial⟩⟩⟩⟩⟩⟩ rfl (zt_X7_chain_p68 hL  h)
        · skip
          refine kz_aloadv (M := kt_M261) (x := x6) kX7_chain_c3.2.2.2.2.2.2.2.1 rfl ?_
          refine kz_nz0 (x := x6) hxp9 ?_
          refine kz_gfi (M := kt_M261) (c := 14) (o := p9) kX7_chain_c4.1 wf_X7_64 (.inr (by exact hlp9)) ?_
          refine kz_if_eq (M := kt_M261) kX7_chain_c4.2.1 (t := 72) rfl h (fun h => ?_) (fun h => ?_)
          · skip
            exact kz_weak [(0, .ref (w_adr E.2.1 6 0)), (1, va_rf (x1)), (3, .int x3), (4, .int x4), (5, .int x5), (6, va_rf (x6))] ⟨rfl, ⟨rfl, ⟨rfl, ⟨rfl, ⟨rfl, ⟨rfl, trivial⟩⟩⟩⟩⟩⟩ rfl (zt_X7_chain_p72 hL  h)
          · skip
            exact kz_weak [(0, .ref (w_adr E.2.1 6 0)), (1, va_rf (x1)), (3, .int x3), (4, .int x4), (5, .int x5), (6, va_rf (x6))] ⟨rfl, ⟨rfl, ⟨rfl, ⟨rfl, ⟨rfl, ⟨rfl, trivial⟩⟩⟩⟩⟩⟩ rfl (zt_X7_chain_p68 hL  h)
def zb_X7_chain_p20 (E : zE) (L : Nat) (Q : kx_Rs → wS → Prop) (x1 : Option Nat) (x2 : Int32) (x3 : Int32) (x4 : Int32) (y0 : Int32) (w : wS) : Prop := (∃ p1, x1 = some p1 ∧ w_l w E.2.1 14 p1 ∧ zL_X7_chain_p28 E L Q x1 x2 x3 x4 y0 (w_p w 14 p1 3) w)
theorem zt_X7_chain_p20 {E : zE} {L : Nat} {Q : kx_Rs → wS → Prop} {x1 : Option Nat} {x2 : Int32} {x3 : Int32} {x4 : Int32} {y0 : Int32} {w : wS} (hL : 24 ≤ L) (h : zb_X7_chain_p20 E L Q x1 x2 x3 x4 y0 w) : kzE E L kt_M261 20 [(0, .ref (w_adr E.2.1 6 0)), (1, va_rf (x1)), (2, .int x2), (3, .int x3), (4, .int x4)] [.int y0] w Q := by
  unfold zb_X7_chain_p20 at h
  refine kz_sti (M := kt_M261) [(0, .ref (w_adr E.2.1 6 0)), (1, va_rf (x1)), (2, .int x2), (3, .int x3), (4, .int x4)] kX7_chain_c1.2.2.2.2.2.1 (Nat.le_of_ble_eq_true rfl) ⟨⟨rfl, rfl, .inl rfl⟩, ⟨⟨rfl, rfl, .inl rfl⟩, ⟨⟨rfl, rfl, .inl rfl⟩, ⟨⟨rfl, rfl, .inl rfl⟩, ⟨⟨rfl, rfl, .inr rfl⟩, trivial⟩⟩⟩⟩⟩ rfl ?_
  refine kz_aload_nv (M := kt_M261) (x := x1) kX7_chain_c1.2.2.2.2.2.2.1 rfl ?_
  obtain ⟨p1, hxp1, hlp1, h⟩ := h
  refine kz_nz0 (x := x1) hxp1 ?_
  refine kz_gfp (M := kt_M261) (c := 14) (o := p1) kX7_chain_c1.2.2.2.2.2.2.2.1 wf_X7_34 (.inr (by exact hlp1)) ?_
  refine kz_stv (M := kt_M261) (x := w_p w 14 p1 3) [(0, .ref (w_adr E.2.1 6 0)), (1, va_rf (x1)), (2, .int x2), (3, .int x3), (4, .int x4), (5, .int y0)] kX7_chain_c2.1 (Nat.le_of_ble_eq_true rfl) ⟨⟨rfl, rfl, .inl rfl⟩, ⟨⟨rfl, rfl, .inl rfl⟩, ⟨⟨rfl, rfl, .inl rfl⟩, ⟨⟨rfl, rfl, .inl rfl⟩, ⟨⟨rfl, rfl, .inl rfl⟩, ⟨⟨rfl, rfl, .inr rfl⟩, trivial⟩⟩⟩⟩⟩⟩ rfl ?_
  exact kz_weak [(0, .ref (w_adr E.2.1 6 0)), (1, va_rf (x1)), (2, .int x2), (3, .int x3), (4, .int x4), (5, .int y0), (6, va_rf (w_p w 14 p1 3))] ⟨rfl, ⟨rfl, ⟨rfl, ⟨rfl, ⟨rfl, ⟨rfl, ⟨rfl, trivial⟩⟩⟩⟩⟩⟩⟩ rfl h
def zb_X7_chain_p0 (E : zE) (L : Nat) (Q : kx_Rs → wS → Prop) (x1 : Option Nat) (w : wS) : Prop := (∃ p1, x1 = some p1 ∧ w_l w E.2.1 14 p1 ∧ (if ¬ w_i w 14 p1 8 = 2 then zb_X7_chain_p20 E L Q x1 0 1 0 0 w else zb_X7_chain_p20 E L Q x1 0 1 0 1 w))
theorem zt_X7_chain_p0 {E : zE} {L : Nat} {Q : kx_Rs → wS → Prop} {x1 : Option Nat} {w : wS} (hL : 24 ≤ L) (h : zb_X7_chain_p0 E L Q x1 w) : kzE E L kt_M261 0 [(0, .ref (w_adr E.2.1 6 0)), (1, va_rf (x1))] [] w Q := by
  unfold zb_X7_chain_p0 at h
  refine kz_ic (M := kt_M261) 0 kX7_chain_c0.1 rfl ?_
  refine kz_sti_n (M := kt_M261) [(0, .ref (w_adr E.2.1 6 0)), (1, va_rf (x1))] kX7_chain_c0.2.1 (Nat.le_of_ble_eq_true rfl) ⟨⟨rfl, rfl, .inl rfl⟩, ⟨⟨rfl, rfl, .inr (w_cat (x1))⟩, trivial⟩⟩ rfl ?_
  refine kz_ic (M := kt_M261) 1 kX7_chain_c0.2.2.1 rfl ?_
  refine kz_sti_n (M := kt_M261) [(0, .ref (w_adr E.2.1 6 0)), (1, va_rf (x1)), (2, .int 0)] kX7_chain_c0.2.2.2.1 (Nat.le_of_ble_eq_true rfl) ⟨⟨rfl, rfl, .inl rfl⟩, ⟨⟨rfl, rfl, .inl rfl⟩, ⟨⟨rfl, rfl, .inr rfl⟩, trivial⟩⟩⟩ rfl ?_
  refine kz_ic (M := kt_M261) 0 kX7_chain_c0.2.2.2.2.1 rfl ?_
  refine kz_sti (M := kt_M261) [(0, .ref (w_adr E.2.1 6 0)), (1, va_rf (x1)), (2, .int 0), (3, .int 1)] kX7_chain_c0.2.2.2.2.2.1 (Nat.le_of_ble_eq_true rfl) ⟨⟨rfl, rfl, .inl rfl⟩, ⟨⟨rfl, rfl, .inl rfl⟩, ⟨⟨rfl, rfl, .inl rfl⟩, ⟨⟨rfl, rfl, .inr rfl⟩, trivial⟩⟩⟩⟩ rfl ?_
  refine kz_aload_nv (M := kt_M261) (x := x1) kX7_chain_c0.2.2.2.2.2.2.1 rfl ?_
  obtain ⟨p1, hxp1, hlp1, h⟩ := h
  refine kz_nz0 (x := x1) hxp1 ?_
  refine kz_gfi (M := kt_M261) (c := 14) (o := p1) kX7_chain_c0.2.2.2.2.2.2.2.1 wf_X7_130 (.inr (by exact hlp1)) ?_
  refine kz_ic (M := kt_M261) 2 kX7_chain_c1.1 rfl ?_
  refine kz_icmp_ne (M := kt_M261) kX7_chain_c1.2.1 (t := 19) rfl h (fun h => ?_) (fun h => ?_)
  · skip
    refine kz_ic (M := kt_M261) 0 kX7_chain_c1.2.2.2.2.1 rfl ?_
    exact kz_weak [(0, .ref (w_adr E.2.1 6 0)), (1, va_rf (x1)), (2, .int 0), (3, .int 1), (4, .int 0)] ⟨rfl, ⟨rfl, ⟨rfl, ⟨rfl, ⟨rfl, trivial⟩⟩⟩⟩⟩ rfl (zt_X7_chain_p20 hL  h)
  · skip
    refine kz_ic (M := kt_M261) 1 kX7_chain_c1.2.2.1 rfl ?_
    refine kz_goto (M := kt_M261) kX7_chain_c1.2.2.2.1 (t := 20) rfl ?_
    exact kz_weak [(0, .ref (w_adr E.2.1 6 0)), (1, va_rf (x1)), (2, .int 0), (3, .int 1), (4, .int 0)] ⟨rfl, ⟨rfl, ⟨rfl, ⟨rfl, ⟨rfl, trivial⟩⟩⟩⟩⟩ rfl (zt_X7_chain_p20 hL  h)
def zb_X7_value_p45 (E : zE) (L : Nat) (Q : kx_Rs → wS → Prop) (x2 : Option Nat) (w : wS) : Prop := (∃ p1, x2 = some p1 ∧ w_l w E.2.1 14 p1 ∧ zw E (L - 22) kt_M56 [.ref (w_adr E.2.1 2 0), .int 7, .int (w_i w 14 p1 2)] w (wk0 (fun w2 => wle w w2 → Q (.inl none) w2) (fun e w => Q (.inr e) w)))
theorem zt_X7_value_p45 {E : zE} {L : Nat} {Q : kx_Rs → wS → Prop} {x2 : Option Nat} {w : wS} (hL : 22 ≤ L) (h : zb_X7_value_p45 E L Q x2 w) : kzE E L kt_M287 45 [(0, .ref (w_adr E.2.1 6 0)), (2, va_rf (x2))] [] w Q := by
  unfold zb_X7_value_p45 at h
  refine kz_aload_n (M := kt_M287) kX7_value_c2.2.2.2.2.2.2.2.1 rfl ?_
  refine kz_gfc (M := kt_M287) (x := 8) (c := 6) (o := 0) kX7_value_c3.1 wf_X7_15 (.inl rfl) ?_
  refine kz_bi (M := kt_M287) 7 kX7_value_c3.2.1 rfl ?_
  refine kz_aload_nv (M := kt_M287) (x := x2) kX7_value_c3.2.2.1 rfl ?_
  obtain ⟨p1, hxp1, hlp1, h⟩ := h
  refine kz_nz0 (x := x2) hxp1 ?_
  refine kz_gfi (M := kt_M287) (c := 14) (o := p1) kX7_value_c3.2.2.2.1 wf_X7_52 (.inr (by exact hlp1)) ?_
  refine kz_cv0 (M := kt_M287) (c := 2) (o := 0) (As := [.int 7, .int (w_i w 14 p1 2)]) (rest := []) kX7_value_c3.2.2.2.2.1 wl_X7_55 wMv_56 rfl (.inl rfl) rfl (Nat.le_trans (Nat.le_of_ble_eq_true rfl) hL) (Nat.le_of_ble_eq_true rfl) (Nat.le_of_ble_eq_true rfl) h (fun w2 hle h => ?_) (fun _ _ _ h => kzx_no rfl h)
  have h := h hle
  have hlp1 := w_l_le hlp1 hle
  exact kz_ret (M := kt_M287) kX7_value_c3.2.2.2.2.2.1 rfl h
def zb_X7_value_p0 (E : zE) (L : Nat) (Q : kx_Rs → wS → Prop) (x1 : Option Nat) (w : wS) : Prop := (∃ p1, x1 = some p1 ∧ w_l w E.2.1 14 p1 ∧ zw E (L - 21) kt_M266 [.ref (w_adr E.2.1 6 0), va_rf (w_p w 14 p1 3)] w (wk0 (fun w2 => wle w w2 → (∃ p4, w_p w 14 p1 3 = some p4 ∧ w_l w2 E.2.1 14 p4 ∧ (if ¬ w_i w2 14 p4 17 = 0 then (∃ p5, w_p w 14 p1 16 = some p5 ∧ w_l w2 E.2.1 15 p5 ∧ (if ¬ w_i w2 14 p4 17 = w_i w2 15 p5 5 then zb_X7_value_p45 E L Q (w_p w 14 p1 3) w2 else (if w_i w2 14 p4 20 = w_i w2 15 p5 9 then ((w_i w2 14 p4 21 = 0 ∨ w_i w2 14 p4 21 = 1) ∧ Q (.inl none) (ws_i (ws_i (ws_i w2 15 p5 6 (w_i w2 14 p4 18)) 15 p5 10 (w_i w2 14 p4 21)) 15 p5 7 (w_i w2 14 p4 19))) else zb_X7_value_p45 E L Q (w_p w 14 p1 3) w2))) else Q (.inl none) w2))) (fun e w => Q (.inr e) w)))
theorem zt_X7_value_p0 {E : zE} {L : Nat} {Q : kx_Rs → wS → Prop} {x1 : Option Nat} {w : wS} (hL : 22 ≤ L) (h : zb_X7_value_p0 E L Q x1 w) : kzE E L kt_M287 0 [(0, .ref (w_adr E.2.1 6 0)), (1, va_rf (x1))] [] w Q := by
  unfold zb_X7_value_p0 at h
  refine kz_aload_nv (M := kt_M287) (x := x1) kX7_value_c0.1 rfl ?_
  obtain ⟨p1, hxp1, hlp1, h⟩ := h
  refine kz_nz0 (x := x1) hxp1 ?_
  refine kz_gfp (M := kt_M287) (c := 14) (o := p1) kX7_value_c0.2.1 wf_X7_34 (.inr (by exact hlp1)) ?_
  refine kz_stv_n (M := kt_M287) (x := w_p w 14 p1 3) [(0, .ref (w_adr E.2.1 6 0)), (1, va_rf (x1))] kX7_value_c0.2.2.1 (Nat.le_of_ble_eq_true rfl) ⟨⟨rfl, rfl, .inl rfl⟩, ⟨⟨rfl, rfl, .inr (w_cat (x1))⟩, trivial⟩⟩ rfl ?_
  refine kz_aload_nv (M := kt_M287) (x := x1) kX7_value_c0.2.2.2.1 rfl ?_
  refine kz_nz0 (x := x1) hxp1 ?_
  refine kz_gfp (M := kt_M287) (c := 14) (o := p1) kX7_value_c0.2.2.2.2.1 wf_X7_103 (.inr (by exact hlp1)) ?_
  refine kz_stv_n (M := kt_M287) (x := w_p w 14 p1 16) [(0, .ref (w_adr E.2.1 6 0)), (2, va_rf (w_p w 14 p1 3))] kX7_value_c0.2.2.2.2.2.1 (Nat.le_of_ble_eq_true rfl) ⟨⟨rfl, rfl, .inl rfl⟩, ⟨⟨rfl, rfl, .inr (w_cat (w_p w 14 p1 3))⟩, trivial⟩⟩ rfl ?_
  refine kz_aload_n (M := kt_M287) kX7_value_c0.2.2.2.2.2.2.1 rfl ?_
  refine kz_aload_nv (M := kt_M287) (x := w_p w 14 p1 3) kX7_value_c0.2.2.2.2.2.2.2.1 rfl ?_
  refine kz_cv0 (M := kt_M287) (c := 6) (o := 0) (As := [va_rf (w_p w 14 p1 3)]) (rest := []) kX7_value_c1.1 wl_X7_71 wMv_266 rfl (.inl rfl) rfl (Nat.le_trans (Nat.le_of_ble_eq_true rfl) hL) (by simp [lg_sl, w_cat, z_ci, z_cr, z_cl, z_cn, kt_M266]) (Nat.le_of_ble_eq_true rfl) h (fun w2 hle h => ?_) (fun _ _ _ h => kzx_no rfl h)
  have h := h hle
  have hlp1 := w_l_le hlp1 hle
  refine kz_aload_nv (M := kt_M287) (x := w_p w 14 p1 3) kX7_value_c1.2.1 rfl ?_
  obtain ⟨p4, hxp4, hlp4, h⟩ := h
  refine kz_nz0 (x := w_p w 14 p1 3) hxp4 ?_
  refine kz_gfi (M := kt_M287) (c := 14) (o := p4) kX7_value_c1.2.2.1 wf_X7_61 (.inr (by exact hlp4)) ?_
  refine kz_if_ne (M := kt_M287) kX7_value_c1.2.2.2.1 (t := 23) rfl h (fun h => ?_) (fun h => ?_)
  · skip
    refine kz_aload_nv (M := kt_M287) (x := w_p w 14 p1 3) kX7_value_c1.2.2.2.2.2.1 rfl ?_
    refine kz_nz0 (x := w_p w 14 p1 3) hxp4 ?_
    refine kz_gfi (M := kt_M287) (c := 14) (o := p4) kX7_value_c1.2.2.2.2.2.2.1 wf_X7_61 (.inr (by exact hlp4)) ?_
    refine kz_aload_nv (M := kt_M287) (x := w_p w 14 p1 16) kX7_value_c1.2.2.2.2.2.2.2.1 rfl ?_
    obtain ⟨p5, hxp5, hlp5, h⟩ := h
    refine kz_nz0 (x := w_p w 14 p1 16) hxp5 ?_
    refine kz_gfi (M := kt_M287) (c := 15) (o := p5) kX7_value_c2.1 wf_X7_134 (.inr (by exact hlp5)) ?_
    refine kz_icmp_ne (M := kt_M287) kX7_value_c2.2.1 (t := 45) rfl h (fun h => ?_) (fun h => ?_)
    · skip
      exact kz_weak [(0, .ref (w_adr E.2.1 6 0)), (2, va_rf (w_p w 14 p1 3))] ⟨rfl, ⟨rfl, trivial⟩⟩ rfl (zt_X7_value_p45 hL  h)
    · skip
      refine kz_aload_nv (M := kt_M287) (x := w_p w 14 p1 3) kX7_value_c2.2.2.1 rfl ?_
      refine kz_nz0 (x := w_p w 14 p1 3) hxp4 ?_
      refine kz_gfi (M := kt_M287) (c := 14) (o := p4) kX7_value_c2.2.2.2.1 wf_X7_64 (.inr (by exact hlp4)) ?_
      refine kz_aload_nv (M := kt_M287) (x := w_p w 14 p1 16) kX7_value_c2.2.2.2.2.1 rfl ?_
      refine kz_nz0 (x := w_p w 14 p1 16) hxp5 ?_
      refine kz_gfi (M := kt_M287) (c := 15) (o := p5) kX7_value_c2.2.2.2.2.2.1 wf_X7_135 (.inr (by exact hlp5)) ?_
      refine kz_icmp_eq (M := kt_M287) kX7_value_c2.2.2.2.2.2.2.1 (t := 59) rfl h (fun h => ?_) (fun h => ?_)
      · skip
        refine kz_aload_nv (M := kt_M287) (x := w_p w 14 p1 16) kX7_value_c3.2.2.2.2.2.2.1 rfl ?_
        refine kz_aload_nv (M := kt_M287) (x := w_p w 14 p1 3) kX7_value_c3.2.2.2.2.2.2.2.1 rfl ?_
        refine kz_nz0 (x := w_p w 14 p1 3) hxp4 ?_
        refine kz_gfi (M := kt_M287) (c := 14) (o := p4) kX7_value_c4.1 wf_X7_133 (.inr (by exact hlp4)) ?_
        refine kz_nz1 (x := w_p w 14 p1 16) hxp5 ?_
        refine kz_pfi (M := kt_M287) (c := 15) (o := p5) kX7_value_c4.2.1 wq_X7_107 (.inr (by exact hlp5)) ?_
        refine kz_aload_nv (M := kt_M287) (x := w_p w 14 p1 16) kX7_value_c4.2.2.1 rfl ?_
        refine kz_aload_nv (M := kt_M287) (x := w_p w 14 p1 3) kX7_value_c4.2.2.2.1 rfl ?_
        refine kz_nz0 (x := w_p w 14 p1 3) hxp4 ?_
        refine kz_gfiR (M := kt_M287) (c := 14) (o := p4) (w_i w2 14 p4 21) kX7_value_c4.2.2.2.2.1 wf_X7_68 (.inr (by exact hlp4)) (rd_i_i rfl) ?_
        refine kz_nz1 (x := w_p w 14 p1 16) hxp5 ?_
        obtain ⟨h0, h⟩ := h
        refine kz_pfz (M := kt_M287) (c := 15) (o := p5) kX7_value_c4.2.2.2.2.2.1 wq_X7_136 (.inr (by exact hlp5)) h0 ?_
        refine kz_aload_nv (M := kt_M287) (x := w_p w 14 p1 16) kX7_value_c4.2.2.2.2.2.2.1 rfl ?_
        refine kz_aload_nv (M := kt_M287) (x := w_p w 14 p1 3) kX7_value_c4.2.2.2.2.2.2.2.1 rfl ?_
        refine kz_nz0 (x := w_p w 14 p1 3) hxp4 ?_
        refine kz_gfiR (M := kt_M287) (c := 14) (o := p4) (w_i w2 14 p4 19) kX7_value_c5.1 wf_X7_74 (.inr (by exact hlp4)) ((rd_i_i rfl).trans (rd_i_i rfl)) ?_
        refine kz_nz1 (x := w_p w 14 p1 16) hxp5 ?_
        refine kz_pfi (M := kt_M287) (c := 15) (o := p5) kX7_value_c5.2.1 wq_X7_137 (.inr (by exact hlp5)) ?_
        exact kz_ret (M := kt_M287) kX7_value_c5.2.2.1 rfl h
      · skip
        exact kz_weak [(0, .ref (w_adr E.2.1 6 0)), (2, va_rf (w_p w 14 p1 3))] ⟨rfl, ⟨rfl, trivial⟩⟩ rfl (zt_X7_value_p45 hL  h)
  · skip
    exact kz_ret (M := kt_M287) kX7_value_c1.2.2.2.2.1 rfl h
