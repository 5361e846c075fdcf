/-! ===== methods over the typed state (printed by tools/gen_lift.py) ===== -/
set_option maxRecDepth 100000
theorem wq_X6_146 {adE adK adV : Nat → Nat} {zr : Nat → Value} {b L0 : Nat} {xs : Nat → Int32} {lo : Nat} : wP (kw_V adE adK adV zr b L0 xs lo) wG "MeetingHouse$Names" 146 14 16 2 (.object "MeetingHouse$Symbol") := wPb_ok (by decide +kernel) wf_X6_146 (r := "MeetingHouse$Node") (n := "symbol") (d := "LMeetingHouse$Symbol;") (by decide +kernel) (by decide +kernel)
theorem wq_X6_227 {adE adK adV : Nat → Nat} {zr : Nat → Value} {b L0 : Nat} {xs : Nat → Int32} {lo : Nat} : wP (kw_V adE adK adV zr b L0 xs lo) wG "MeetingHouse$Names" 227 14 10 0 .int := wPb_ok (by decide +kernel) wf_X6_227 (r := "MeetingHouse$Node") (n := "number") (d := "I") (by decide +kernel) (by decide +kernel)
theorem wq_X6_23 {adE adK adV : Nat → Nat} {zr : Nat → Value} {b L0 : Nat} {xs : Nat → Int32} {lo : Nat} : wP (kw_V adE adK adV zr b L0 xs lo) wG "MeetingHouse$Names" 23 5 3 2 (.object "MeetingHouse$Symbol") := wPb_ok (by decide +kernel) wf_X6_23 (r := "MeetingHouse$Names") (n := "seen") (d := "LMeetingHouse$Symbol;") (by decide +kernel) (by decide +kernel)
theorem wq_X6_27 {adE adK adV : Nat → Nat} {zr : Nat → Value} {b L0 : Nat} {xs : Nat → Int32} {lo : Nat} : wP (kw_V adE adK adV zr b L0 xs lo) wG "MeetingHouse$Names" 27 5 4 0 .int := wPb_ok (by decide +kernel) wf_X6_27 (r := "MeetingHouse$Names") (n := "serial") (d := "I") (by decide +kernel) (by decide +kernel)
theorem wq_X6_46 {adE adK adV : Nat → Nat} {zr : Nat → Value} {b L0 : Nat} {xs : Nat → Int32} {lo : Nat} : wP (kw_V adE adK adV zr b L0 xs lo) wG "MeetingHouse$Names" 46 15 5 0 .int := wPb_ok (by decide +kernel) wf_X6_46 (r := "MeetingHouse$Symbol") (n := "type") (d := "I") (by decide +kernel) (by decide +kernel)
theorem wq_X6_63 {adE adK adV : Nat → Nat} {zr : Nat → Value} {b L0 : Nat} {xs : Nat → Int32} {lo : Nat} : wP (kw_V adE adK adV zr b L0 xs lo) wG "MeetingHouse$Names" 63 15 4 2 (.object "MeetingHouse$Symbol") := wPb_ok (by decide +kernel) wf_X6_63 (r := "MeetingHouse$Symbol") (n := "before") (d := "LMeetingHouse$Symbol;") (by decide +kernel) (by decide +kernel)
theorem wq_X6_66 {adE adK adV : Nat → Nat} {zr : Nat → Value} {b L0 : Nat} {xs : Nat → Int32} {lo : Nat} : wP (kw_V adE adK adV zr b L0 xs lo) wG "MeetingHouse$Names" 66 15 3 0 .int := wPb_ok (by decide +kernel) wf_X6_66 (r := "MeetingHouse$Symbol") (n := "serial") (d := "I") (by decide +kernel) (by decide +kernel)
def zb_X6_declare_p0 (E : zE) (L : Nat) (Q : kx_Rs → wS → Prop) (x1 : Option Nat) (x2 : Int32) (x3 : Int32) (w : wS) : Prop := zw E (L - 24) kt_M226 [.ref (w_adr E.2.1 3 0), va_rf (x1), .int x2, .int x3] w (wkr (fun v2 w1 => wle w w1 → (∃ p3, v2 = some p3 ∧ w_l w1 E.2.1 15 p3 ∧ Q (.inl (some (va_rf (v2)))) (ws_p (ws_i (ws_i (ws_p w1 15 p3 4 (w_p w1 5 0 3)) 5 0 4 ((w_i w1 5 0 4) + 1)) 15 p3 3 (w_i w1 5 0 4)) 5 0 3 v2))) (fun e w => Q (.inr e) w))
theorem zt_X6_declare_p0 {E : zE} {L : Nat} {Q : kx_Rs → wS → Prop} {x1 : Option Nat} {x2 : Int32} {x3 : Int32} {w : wS} (hL : 24 ≤ L) (h : zb_X6_declare_p0 E L Q x1 x2 x3 w) : kzE E L kt_M137 0 [(0, .ref (w_adr E.2.1 5 0)), (1, va_rf (x1)), (2, .int x2), (3, .int x3)] [] w Q := by
  unfold zb_X6_declare_p0 at h
  refine kz_aload_n (M := kt_M137) kX6_declare_c0.1 rfl ?_
  refine kz_gfc (M := kt_M137) (x := 12) (c := 5) (o := 0) kX6_declare_c0.2.1 wf_X6_19 (.inl rfl) ?_
  refine kz_aload_nv (M := kt_M137) (x := x1) kX6_declare_c0.2.2.1 rfl ?_
  refine kz_iload_n (M := kt_M137) kX6_declare_c0.2.2.2.1 rfl ?_
  refine kz_iload_n (M := kt_M137) kX6_declare_c0.2.2.2.2.1 rfl ?_
  refine kz_cvr (M := kt_M137) (c := 3) (o := 0) (As := [va_rf (x1), .int x2, .int x3]) (rest := []) kX6_declare_c0.2.2.2.2.2.1 wl_X6_58 wMv_226 rfl (.inl rfl) rfl (Nat.le_trans (Nat.le_of_ble_eq_true rfl) hL) (by simp [lg_sl, w_cat, z_ci, z_cr, z_cl, z_cn, kt_M226]) (Nat.le_of_ble_eq_true rfl) h (fun v2 w1 hle h => ?_) (fun _ _ _ h => kzx_no rfl h)
  have h := h hle
  refine kz_stv (M := kt_M137) (x := v2) [(0, .ref (w_adr E.2.1 5 0))] kX6_declare_c0.2.2.2.2.2.2.1 (Nat.le_of_ble_eq_true rfl) ⟨⟨rfl, rfl, .inl rfl⟩, trivial⟩ rfl ?_
  refine kz_aloadv (M := kt_M137) (x := v2) kX6_declare_c0.2.2.2.2.2.2.2.1 rfl ?_
  refine kz_aload_n (M := kt_M137) kX6_declare_c1.1 rfl ?_
  refine kz_gfp (M := kt_M137) (c := 5) (o := 0) kX6_declare_c1.2.1 wf_X6_23 (.inl rfl) ?_
  obtain ⟨p3, hxp3, hlp3, h⟩ := h
  refine kz_nz1 (x := v2) hxp3 ?_
  refine kz_pfp (M := kt_M137) (n := w_p w1 5 0 3) (c := 15) (o := p3) kX6_declare_c1.2.2.1 wq_X6_63 (.inr (by exact hlp3)) ?_
  refine kz_aloadv (M := kt_M137) (x := v2) kX6_declare_c1.2.2.2.1 rfl ?_
  refine kz_aload_n (M := kt_M137) kX6_declare_c1.2.2.2.2.1 rfl ?_
  refine kz_dup (M := kt_M137) kX6_declare_c1.2.2.2.2.2.1 rfl ?_
  refine kz_gfiR (M := kt_M137) (c := 5) (o := 0) (w_i w1 5 0 4) kX6_declare_c1.2.2.2.2.2.2.1 wf_X6_27 (.inl rfl) rd_i_p ?_
  refine kz_dup_x1 (M := kt_M137) kX6_declare_c1.2.2.2.2.2.2.2.1 ⟨rfl, rfl⟩ ?_
  refine kz_ic (M := kt_M137) 1 kX6_declare_c2.1 rfl ?_
  refine kz_iadd (M := kt_M137) kX6_declare_c2.2.1 ?_
  refine kz_pfi (M := kt_M137) (c := 5) (o := 0) kX6_declare_c2.2.2.1 wq_X6_27 (.inl rfl) ?_
  refine kz_nz1 (x := v2) hxp3 ?_
  refine kz_pfi (M := kt_M137) (c := 15) (o := p3) kX6_declare_c2.2.2.2.1 wq_X6_66 (.inr (by exact hlp3)) ?_
  refine kz_aload_n (M := kt_M137) kX6_declare_c2.2.2.2.2.1 rfl ?_
  refine kz_aloadv (M := kt_M137) (x := v2) kX6_declare_c2.2.2.2.2.2.1 rfl ?_
  refine kz_pfp (M := kt_M137) (n := v2) (c := 5) (o := 0) kX6_declare_c2.2.2.2.2.2.2.1 wq_X6_23 (.inl rfl) ?_
  refine kz_aloadv (M := kt_M137) (x := v2) kX6_declare_c2.2.2.2.2.2.2.2.1 rfl ?_
  exact kz_areto (x := v2) (M := kt_M137) kX6_declare_c3.1 rfl h
def zL_X6_process_p10 (E : zE) (L : Nat) (Q : kx_Rs → wS → Prop) (x1 : Option Nat) (x2 : Option Nat) (x3 : Option Nat) (w : wS) : Prop := kzE E L kt_M149 10 [(0, .ref (w_adr E.2.1 5 0)), (1, va_rf (x1)), (2, va_rf (x2)), (3, va_rf (x3))] [] w Q
def zb_X6_process_p10 (E : zE) (L : Nat) (Q : kx_Rs → wS → Prop) (x1 : Option Nat) (x2 : Option Nat) (x3 : Option Nat) (w : wS) : Prop := (if x3 = none then (∃ p1, x1 = some p1 ∧ w_l w E.2.1 14 p1 ∧ zw E (L - 22) kt_M131 [.ref (w_adr E.2.1 5 0), va_rf (w_p w 14 p1 4)] w (wk0 (fun w2 => wle w w2 → Q (.inl none) (ws_p w2 5 0 3 x2)) (fun e w => Q (.inr e) w))) else zw E (L - 22) kt_M136 [.ref (w_adr E.2.1 5 0), va_rf (x3)] w (wk0 (fun w4 => wle w w4 → (∃ p6, x3 = some p6 ∧ w_l w4 E.2.1 14 p6 ∧ zL_X6_process_p10 E L Q x1 x2 (w_p w4 14 p6 7) w4)) (fun e w => Q (.inr e) w)))
theorem zt_X6_process_p10 {E : zE} {L : Nat} {Q : kx_Rs → wS → Prop} {x1 : Option Nat} {x2 : Option Nat} {x3 : Option Nat} {w : wS} (hL : 22 ≤ L) (h : zb_X6_process_p10 E L Q x1 x2 x3 w) : kzE E L kt_M149 10 [(0, .ref (w_adr E.2.1 5 0)), (1, va_rf (x1)), (2, va_rf (x2)), (3, va_rf (x3))] [] w Q := by
  unfold zb_X6_process_p10 at h
  refine kz_aload_nv (M := kt_M149) (x := x3) kX6_process_c0.2.2.2.2.2.2.1 rfl ?_
  refine kz_ifnull (M := kt_M149) (x := x3) kX6_process_c0.2.2.2.2.2.2.2.1 (t := 27) rfl h (fun h => ?_) (fun h => ?_)
  · skip
    refine kz_aload_n (M := kt_M149) kX6_process_c1.2.2.2.2.2.2.2.1 rfl ?_
    refine kz_aload_nv (M := kt_M149) (x := x1) kX6_process_c2.1 rfl ?_
    obtain ⟨p1, hxp1, hlp1, h⟩ := h
    refine kz_nz0 (x := x1) hxp1 ?_
    refine kz_gfp (M := kt_M149) (c := 14) (o := p1) kX6_process_c2.2.1 wf_X6_99 (.inr (by exact hlp1)) ?_
    refine kz_cv0 (M := kt_M149) (c := 5) (o := 0) (As := [va_rf (w_p w 14 p1 4)]) (rest := []) kX6_process_c2.2.2.1 wl_X6_102 wMv_131 rfl (.inl rfl) rfl (Nat.le_trans (Nat.le_of_ble_eq_true rfl) hL) (by simp [lg_sl, w_cat, z_ci, z_cr, z_cl, z_cn, kt_M131]) (Nat.le_of_ble_eq_true rfl) h (fun w2 hle h => ?_) (fun _ _ _ h => kzx_no rfl h)
    have h := h hle
    have hlp1 := w_l_le hlp1 hle
    refine kz_aload_n (M := kt_M149) kX6_process_c2.2.2.2.1 rfl ?_
    refine kz_aload_nv (M := kt_M149) (x := x2) kX6_process_c2.2.2.2.2.1 rfl ?_
    refine kz_pfp (M := kt_M149) (n := x2) (c := 5) (o := 0) kX6_process_c2.2.2.2.2.2.1 wq_X6_23 (.inl rfl) ?_
    exact kz_ret (M := kt_M149) kX6_process_c2.2.2.2.2.2.2.1 rfl h
  · skip
    refine kz_aload_n (M := kt_M149) kX6_process_c1.1 rfl ?_
    refine kz_aload_nv (M := kt_M149) (x := x3) kX6_process_c1.2.1 rfl ?_
    refine kz_cv0 (M := kt_M149) (c := 5) (o := 0) (As := [va_rf (x3)]) (rest := []) kX6_process_c1.2.2.1 wl_X6_96 wMv_136 rfl (.inl rfl) rfl (Nat.le_trans (Nat.le_of_ble_eq_true rfl) hL) (by simp [lg_sl, w_cat, z_ci, z_cr, z_cl, z_cn, kt_M136]) (Nat.le_of_ble_eq_true rfl) h (fun w4 hle h => ?_) (fun _ _ _ h => kzx_no rfl h)
    have h := h hle
    refine kz_aload_nv (M := kt_M149) (x := x3) kX6_process_c1.2.2.2.1 rfl ?_
    obtain ⟨p6, hxp6, hlp6, h⟩ := h
    refine kz_nz0 (x := x3) hxp6 ?_
    refine kz_gfp (M := kt_M149) (c := 14) (o := p6) kX6_process_c1.2.2.2.2.1 wf_X6_89 (.inr (by exact hlp6)) ?_
    refine kz_stv_n (M := kt_M149) (x := w_p w4 14 p6 7) [(0, .ref (w_adr E.2.1 5 0)), (1, va_rf (x1)), (2, va_rf (x2))] kX6_process_c1.2.2.2.2.2.1 (Nat.le_of_ble_eq_true rfl) ⟨⟨rfl, rfl, .inl rfl⟩, ⟨⟨rfl, rfl, .inl rfl⟩, ⟨⟨rfl, rfl, .inr (w_cat _)⟩, trivial⟩⟩⟩ rfl ?_
    refine kz_goto (M := kt_M149) kX6_process_c1.2.2.2.2.2.2.1 (t := 10) rfl ?_
    exact kz_weak [(0, .ref (w_adr E.2.1 5 0)), (1, va_rf (x1)), (2, va_rf (x2)), (3, va_rf (w_p w4 14 p6 7))] ⟨rfl, ⟨rfl, ⟨rfl, ⟨rfl, trivial⟩⟩⟩⟩ rfl h
def zb_X6_process_p0 (E : zE) (L : Nat) (Q : kx_Rs → wS → Prop) (x1 : Option Nat) (w : wS) : Prop := (∃ p1, x1 = some p1 ∧ w_l w E.2.1 14 p1 ∧ zL_X6_process_p10 E L Q x1 (w_p w 5 0 3) (w_p w 14 p1 3) w)
theorem zt_X6_process_p0 {E : zE} {L : Nat} {Q : kx_Rs → wS → Prop} {x1 : Option Nat} {w : wS} (hL : 22 ≤ L) (h : zb_X6_process_p0 E L Q x1 w) : kzE E L kt_M149 0 [(0, .ref (w_adr E.2.1 5 0)), (1, va_rf (x1))] [] w Q := by
  unfold zb_X6_process_p0 at h
  refine kz_aload_n (M := kt_M149) kX6_process_c0.1 rfl ?_
  refine kz_gfp (M := kt_M149) (c := 5) (o := 0) kX6_process_c0.2.1 wf_X6_23 (.inl rfl) ?_
  refine kz_stv_n (M := kt_M149) (x := w_p w 5 0 3) [(0, .ref (w_adr E.2.1 5 0)), (1, va_rf (x1))] kX6_process_c0.2.2.1 (Nat.le_of_ble_eq_true rfl) ⟨⟨rfl, rfl, .inl rfl⟩, ⟨⟨rfl, rfl, .inr (w_cat _)⟩, trivial⟩⟩ rfl ?_
  refine kz_aload_nv (M := kt_M149) (x := x1) kX6_process_c0.2.2.2.1 rfl ?_
  obtain ⟨p1, hxp1, hlp1, h⟩ := h
  refine kz_nz0 (x := x1) hxp1 ?_
  refine kz_gfp (M := kt_M149) (c := 14) (o := p1) kX6_process_c0.2.2.2.2.1 wf_X6_93 (.inr (by exact hlp1)) ?_
  refine kz_stv_n (M := kt_M149) (x := w_p w 14 p1 3) [(0, .ref (w_adr E.2.1 5 0)), (1, va_rf (x1)), (2, va_rf (w_p w 5 0 3))] kX6_process_c0.2.2.2.2.2.1 (Nat.le_of_ble_eq_true rfl) ⟨⟨rfl, rfl, .inl rfl⟩, ⟨⟨rfl, rfl, .inl rfl⟩, ⟨⟨rfl, rfl, .inr (w_cat _)⟩, trivial⟩⟩⟩ rfl ?_
  exact kz_weak [(0, .ref (w_adr E.2.1 5 0)), (1, va_rf (x1)), (2, va_rf (w_p w 5 0 3)), (3, va_rf (w_p w 14 p1 3))] ⟨rfl, ⟨rfl, ⟨rfl, ⟨rfl, trivial⟩⟩⟩⟩ rfl h
def zL_X6_expressions_p2 (E : zE) (L : Nat) (Q : kx_Rs → wS → Prop) (x2 : Option Nat) (w : wS) : Prop := kzE E L kt_M141 2 [(0, .ref (w_adr E.2.1 5 0)), (2, va_rf (x2))] [] w Q
def zb_X6_expressions_p2 (E : zE) (L : Nat) (Q : kx_Rs → wS → Prop) (x2 : Option Nat) (w : wS) : Prop := (if x2 = none then Q (.inl none) w else zw E (L - 21) kt_M140 [.ref (w_adr E.2.1 5 0), va_rf (x2)] w (wk0 (fun w1 => wle w w1 → (∃ p3, x2 = some p3 ∧ w_l w1 E.2.1 14 p3 ∧ zL_X6_expressions_p2 E L Q (w_p w1 14 p3 7) w1)) (fun e w => Q (.inr e) w)))
theorem zt_X6_expressions_p2 {E : zE} {L : Nat} {Q : kx_Rs → wS → Prop} {x2 : Option Nat} {w : wS} (hL : 21 ≤ L) (h : zb_X6_expressions_p2 E L Q x2 w) : kzE E L kt_M141 2 [(0, .ref (w_adr E.2.1 5 0)), (2, va_rf (x2))] [] w Q := by
  unfold zb_X6_expressions_p2 at h
  refine kz_aload_nv (M := kt_M141) (x := x2) kX6_expressions_c0.2.2.1 rfl ?_
  refine kz_ifnull (M := kt_M141) (x := x2) kX6_expressions_c0.2.2.2.1 (t := 19) rfl h (fun h => ?_) (fun h => ?_)
  · skip
    exact kz_ret (M := kt_M141) kX6_expressions_c1.2.2.2.1 rfl h
  · skip
    refine kz_aload_n (M := kt_M141) kX6_expressions_c0.2.2.2.2.1 rfl ?_
    refine kz_aload_nv (M := kt_M141) (x := x2) kX6_expressions_c0.2.2.2.2.2.1 rfl ?_
    refine kz_cv0 (M := kt_M141) (c := 5) (o := 0) (As := [va_rf (x2)]) (rest := []) kX6_expressions_c0.2.2.2.2.2.2.1 wl_X6_137 wMv_140 rfl (.inl rfl) rfl (Nat.le_trans (Nat.le_of_ble_eq_true rfl) hL) (by simp [lg_sl, w_cat, z_ci, z_cr, z_cl, z_cn, kt_M140]) (Nat.le_of_ble_eq_true rfl) h (fun w1 hle h => ?_) (fun _ _ _ h => kzx_no rfl h)
    have h := h hle
    refine kz_aload_nv (M := kt_M141) (x := x2) kX6_expressions_c0.2.2.2.2.2.2.2.1 rfl ?_
    obtain ⟨p3, hxp3, hlp3, h⟩ := h
    refine kz_nz0 (x := x2) hxp3 ?_
    refine kz_gfp (M := kt_M141) (c := 14) (o := p3) kX6_expressions_c1.1 wf_X6_89 (.inr (by exact hlp3)) ?_
    refine kz_stv_n (M := kt_M141) (x := w_p w1 14 p3 7) [(0, .ref (w_adr E.2.1 5 0))] kX6_expressions_c1.2.1 (Nat.le_of_ble_eq_true rfl) ⟨⟨rfl, rfl, .inl rfl⟩, trivial⟩ rfl ?_
    refine kz_goto (M := kt_M141) kX6_expressions_c1.2.2.1 (t := 2) rfl ?_
    exact kz_weak [(0, .ref (w_adr E.2.1 5 0)), (2, va_rf (w_p w1 14 p3 7))] ⟨rfl, ⟨rfl, trivial⟩⟩ rfl h
def zb_X6_expressions_p0 (E : zE) (L : Nat) (Q : kx_Rs → wS → Prop) (x1 : Option Nat) (w : wS) : Prop := zL_X6_expressions_p2 E L Q x1 w
theorem zt_X6_expressions_p0 {E : zE} {L : Nat} {Q : kx_Rs → wS → Prop} {x1 : Option Nat} {w : wS} (hL : 21 ≤ L) (h : zb_X6_expressions_p0 E L Q x1 w) : kzE E L kt_M141 0 [(0, .ref (w_adr E.2.1 5 0)), (1, va_rf (x1))] [] w Q := by
  unfold zb_X6_expressions_p0 at h
  refine kz_aload_nv (M := kt_M141) (x := x1) kX6_expressions_c0.1 rfl ?_
  refine kz_stv_n (M := kt_M141) (x := x1) [(0, .ref (w_adr E.2.1 5 0))] kX6_expressions_c0.2.1 (Nat.le_of_ble_eq_true rfl) ⟨⟨rfl, rfl, .inl rfl⟩, trivial⟩ rfl ?_
  exact kz_weak [(0, .ref (w_adr E.2.1 5 0)), (2, va_rf (x1))] ⟨rfl, ⟨rfl, trivial⟩⟩ rfl h
def zL_X6_find_p5 (E : zE) (L : Nat) (Q : kx_Rs → wS → Prop) (x1 : Int32) (x2 : Int32) (x3 : Option Nat) (w : wS) : Prop := kzE E L kt_M142 5 [(0, .ref (w_adr E.2.1 5 0)), (1, .int x1), (2, .int x2), (3, va_rf (x3))] [] w Q
def zb_X6_find_p38 (E : zE) (L : Nat) (Q : kx_Rs → wS → Prop) (x3 : Option Nat) (w : wS) : Prop := Q (.inl (some (va_rf (x3)))) w
theorem zt_X6_find_p38 {E : zE} {L : Nat} {Q : kx_Rs → wS → Prop} {x3 : Option Nat} {w : wS} (hL : 22 ≤ L) (h : zb_X6_find_p38 E L Q x3 w) : kzE E L kt_M142 38 [(0, .ref (w_adr E.2.1 5 0)), (3, va_rf (x3))] [] w Q := by
  unfold zb_X6_find_p38 at h
  refine kz_aload_nv (M := kt_M142) (x := x3) kX6_find_c2.2.2.2.2.1 rfl ?_
  exact kz_areto (x := x3) (M := kt_M142) kX6_find_c2.2.2.2.2.2.1 rfl h
def zb_X6_find_p25 (E : zE) (L : Nat) (Q : kx_Rs → wS → Prop) (x2 : Int32) (x3 : Option Nat) (w : wS) : Prop := (if ¬ x3 = none then zb_X6_find_p38 E L Q x3 w else zw E (L - 22) kt_M56 [.ref (w_adr E.2.1 2 0), .int 5, .int x2] w (wk0 (fun w1 => wle w w1 → zb_X6_find_p38 E L Q x3 w1) (fun e w => Q (.inr e) w)))
theorem zt_X6_find_p25 {E : zE} {L : Nat} {Q : kx_Rs → wS → Prop} {x2 : Int32} {x3 : Option Nat} {w : wS} (hL : 22 ≤ L) (h : zb_X6_find_p25 E L Q x2 x3 w) : kzE E L kt_M142 25 [(0, .ref (w_adr E.2.1 5 0)), (2, .int x2), (3, va_rf (x3))] [] w Q := by
  unfold zb_X6_find_p25 at h
  refine kz_aload_nv (M := kt_M142) (x := x3) kX6_find_c1.2.2.2.2.2.1 rfl ?_
  refine kz_ifnonnull (M := kt_M142) (x := x3) kX6_find_c1.2.2.2.2.2.2.1 (t := 38) rfl h (fun h => ?_) (fun h => ?_)
  · skip
    exact kz_weak [(0, .ref (w_adr E.2.1 5 0)), (3, va_rf (x3))] ⟨rfl, ⟨rfl, trivial⟩⟩ rfl (zt_X6_find_p38 hL  h)
  · skip
    refine kz_aload_n (M := kt_M142) kX6_find_c1.2.2.2.2.2.2.2.1 rfl ?_
    refine kz_gfc (M := kt_M142) (x := 8) (c := 5) (o := 0) kX6_find_c2.1 wf_X6_15 (.inl rfl) ?_
    refine kz_ic (M := kt_M142) 5 kX6_find_c2.2.1 rfl ?_
    refine kz_iload_n (M := kt_M142) kX6_find_c2.2.2.1 rfl ?_
    refine kz_cv0 (M := kt_M142) (c := 2) (o := 0) (As := [.int 5, .int x2]) (rest := []) kX6_find_c2.2.2.2.1 wl_X6_70 wMv_56 rfl (.inl rfl) rfl (Nat.le_trans (Nat.le_of_ble_eq_true rfl) hL) (Nat.le_of_ble_eq_true rfl) (Nat.le_of_ble_eq_true rfl) h (fun w1 hle h => ?_) (fun _ _ _ h => kzx_no rfl h)
    have h := h hle
    exact kz_weak [(0, .ref (w_adr E.2.1 5 0)), (3, va_rf (x3))] ⟨rfl, ⟨rfl, trivial⟩⟩ rfl (zt_X6_find_p38 hL  h)
def zb_X6_find_p5 (E : zE) (L : Nat) (Q : kx_Rs → wS → Prop) (x1 : Int32) (x2 : Int32) (x3 : Option Nat) (w : wS) : Prop := (if x3 = none then zb_X6_find_p25 E L Q x2 x3 w else (∃ p1, x3 = some p1 ∧ w_l w E.2.1 15 p1 ∧ (if w_i w 15 p1 1 = x1 then zb_X6_find_p25 E L Q x2 x3 w else zL_X6_find_p5 E L Q x1 x2 (w_p w 15 p1 4) w)))
theorem zt_X6_find_p5 {E : zE} {L : Nat} {Q : kx_Rs → wS → Prop} {x1 : Int32} {x2 : Int32} {x3 : Option Nat} {w : wS} (hL : 22 ≤ L) (h : zb_X6_find_p5 E L Q x1 x2 x3 w) : kzE E L kt_M142 5 [(0, .ref (w_adr E.2.1 5 0)), (1, .int x1), (2, .int x2), (3, va_rf (x3))] [] w Q := by
  unfold zb_X6_find_p5 at h
  refine kz_aload_nv (M := kt_M142) (x := x3) kX6_find_c0.2.2.2.1 rfl ?_
  refine kz_ifnull (M := kt_M142) (x := x3) kX6_find_c0.2.2.2.2.1 (t := 25) rfl h (fun h => ?_) (fun h => ?_)
  · skip
    exact kz_weak [(0, .ref (w_adr E.2.1 5 0)), (2, .int x2), (3, va_rf (x3))] ⟨rfl, ⟨rfl, ⟨rfl, trivial⟩⟩⟩ rfl (zt_X6_find_p25 hL  h)
  · skip
    refine kz_aload_nv (M := kt_M142) (x := x3) kX6_find_c0.2.2.2.2.2.1 rfl ?_
    obtain ⟨p1, hxp1, hlp1, h⟩ := h
    refine kz_nz0 (x := x3) hxp1 ?_
    refine kz_gfi (M := kt_M142) (c := 15) (o := p1) kX6_find_c0.2.2.2.2.2.2.1 wf_X6_67 (.inr (by exact hlp1)) ?_
    refine kz_iload_n (M := kt_M142) kX6_find_c0.2.2.2.2.2.2.2.1 rfl ?_
    refine kz_icmp_eq (M := kt_M142) kX6_find_c1.1 (t := 25) rfl h (fun h => ?_) (fun h => ?_)
    · skip
      exact kz_weak [(0, .ref (w_adr E.2.1 5 0)), (2, .int x2), (3, va_rf (x3))] ⟨rfl, ⟨rfl, ⟨rfl, trivial⟩⟩⟩ rfl (zt_X6_find_p25 hL  h)
    · skip
      refine kz_aload_nv (M := kt_M142) (x := x3) kX6_find_c1.2.1 rfl ?_
      refine kz_nz0 (x := x3) hxp1 ?_
      refine kz_gfp (M := kt_M142) (c := 15) (o := p1) kX6_find_c1.2.2.1 wf_X6_63 (.inr (by exact hlp1)) ?_
      refine kz_stv_n (M := kt_M142) (x := w_p w 15 p1 4) [(0, .ref (w_adr E.2.1 5 0)), (1, .int x1), (2, .int x2)] kX6_find_c1.2.2.2.1 (Nat.le_of_ble_eq_true rfl) ⟨⟨rfl, rfl, .inl rfl⟩, ⟨⟨rfl, rfl, .inl rfl⟩, ⟨⟨rfl, rfl, .inr rfl⟩, trivial⟩⟩⟩ rfl ?_
      refine kz_goto (M := kt_M142) kX6_find_c1.2.2.2.2.1 (t := 5) rfl ?_
      exact kz_weak [(0, .ref (w_adr E.2.1 5 0)), (1, .int x1), (2, .int x2), (3, va_rf (w_p w 15 p1 4))] ⟨rfl, ⟨rfl, ⟨rfl, ⟨rfl, trivial⟩⟩⟩⟩ rfl h
def zb_X6_find_p0 (E : zE) (L : Nat) (Q : kx_Rs → wS → Prop) (x1 : Int32) (x2 : Int32) (w : wS) : Prop := zL_X6_find_p5 E L Q x1 x2 (w_p w 5 0 3) w
theorem zt_X6_find_p0 {E : zE} {L : Nat} {Q : kx_Rs → wS → Prop} {x1 : Int32} {x2 : Int32} {w : wS} (hL : 22 ≤ L) (h : zb_X6_find_p0 E L Q x1 x2 w) : kzE E L kt_M142 0 [(0, .ref (w_adr E.2.1 5 0)), (1, .int x1), (2, .int x2)] [] w Q := by
  unfold zb_X6_find_p0 at h
  refine kz_aload_n (M := kt_M142) kX6_find_c0.1 rfl ?_
  refine kz_gfp (M := kt_M142) (c := 5) (o := 0) kX6_find_c0.2.1 wf_X6_23 (.inl rfl) ?_
  refine kz_stv_n (M := kt_M142) (x := w_p w 5 0 3) [(0, .ref (w_adr E.2.1 5 0)), (1, .int x1), (2, .int x2)] kX6_find_c0.2.2.1 (Nat.le_of_ble_eq_true rfl) ⟨⟨rfl, rfl, .inl rfl⟩, ⟨⟨rfl, rfl, .inl rfl⟩, ⟨⟨rfl, rfl, .inr rfl⟩, trivial⟩⟩⟩ rfl ?_
  exact kz_weak [(0, .ref (w_adr E.2.1 5 0)), (1, .int x1), (2, .int x2), (3, va_rf (w_p w 5 0 3))] ⟨rfl, ⟨rfl, ⟨rfl, ⟨rfl, trivial⟩⟩⟩⟩ rfl h
def zb_X6_element_p32 (E : zE) (L : Nat) (Q : kx_Rs → wS → Prop) (w : wS) : Prop := Q (.inl none) w
theorem zt_X6_element_p32 {E : zE} {L : Nat} {Q : kx_Rs → wS → Prop} {w : wS} (hL : 24 ≤ L) (h : zb_X6_element_p32 E L Q  w) : kzE E L kt_M138 32 [(0, .ref (w_adr E.2.1 5 0))] [] w Q := by
  unfold zb_X6_element_p32 at h
  exact kz_ret (M := kt_M138) kX6_element_c2.1 rfl h
def zb_X6_element_p0 (E : zE) (L : Nat) (Q : kx_Rs → wS → Prop) (x1 : Option Nat) (x2 : Option Nat) (w : wS) : Prop := (∃ p1, x1 = some p1 ∧ w_l w E.2.1 14 p1 ∧ zw E (L - 24) kt_M143 [.ref (w_adr E.2.1 5 0), .int (w_i w 14 p1 9), .int (w_i w 14 p1 2), va_rf (x2)] w (wkr (fun v3 w2 => wle w w2 → (if (w_p w2 14 p1 3) = none then zb_X6_element_p32 E L Q (ws_p w2 14 p1 16 v3) else zw E (L - 21) kt_M140 [.ref (w_adr E.2.1 5 0), va_rf (w_p w2 14 p1 3)] (ws_p w2 14 p1 16 v3) (wk0 (fun w4 => wle (ws_p w2 14 p1 16 v3) w4 → zb_X6_element_p32 E L Q w4) (fun e w => Q (.inr e) w)))) (fun e w => Q (.inr e) w)))
theorem zt_X6_element_p0 {E : zE} {L : Nat} {Q : kx_Rs → wS → Prop} {x1 : Option Nat} {x2 : Option Nat} {w : wS} (hL : 24 ≤ L) (h : zb_X6_element_p0 E L Q x1 x2 w) : kzE E L kt_M138 0 [(0, .ref (w_adr E.2.1 5 0)), (1, va_rf (x1)), (2, va_rf (x2))] [] w Q := by
  unfold zb_X6_element_p0 at h
  refine kz_aload_nv (M := kt_M138) (x := x1) kX6_element_c0.1 rfl ?_
  refine kz_aload_n (M := kt_M138) kX6_element_c0.2.1 rfl ?_
  refine kz_aload_nv (M := kt_M138) (x := x1) kX6_element_c0.2.2.1 rfl ?_
  obtain ⟨p1, hxp1, hlp1, h⟩ := h
  refine kz_nz0 (x := x1) hxp1 ?_
  refine kz_gfi (M := kt_M138) (c := 14) (o := p1) kX6_element_c0.2.2.2.1 wf_X6_83 (.inr (by exact hlp1)) ?_
  refine kz_aload_nv (M := kt_M138) (x := x1) kX6_element_c0.2.2.2.2.1 rfl ?_
  refine kz_nz0 (x := x1) hxp1 ?_
  refine kz_gfi (M := kt_M138) (c := 14) (o := p1) kX6_element_c0.2.2.2.2.2.1 wf_X6_86 (.inr (by exact hlp1)) ?_
  refine kz_aload_nv (M := kt_M138) (x := x2) kX6_element_c0.2.2.2.2.2.2.1 rfl ?_
  refine kz_cvr (M := kt_M138) (c := 5) (o := 0) (As := [.int (w_i w 14 p1 9), .int (w_i w 14 p1 2), va_rf (x2)]) (rest := [va_rf (x1)]) kX6_element_c0.2.2.2.2.2.2.2.1 wl_X6_118 wMv_143 rfl (.inl rfl) rfl (Nat.le_trans (Nat.le_of_ble_eq_true rfl) hL) (by simp [lg_sl, w_cat, z_ci, z_cr, z_cl, z_cn, kt_M143]) (by simp [kx_cat, w_cat, z_ci, z_cr, z_cl, z_cn]) h (fun v3 w2 hle h => ?_) (fun _ _ _ h => kzx_no rfl h)
  have h := h hle
  have hlp1 := w_l_le hlp1 hle
  refine kz_nz1 (x := x1) hxp1 ?_
  refine kz_pfp (M := kt_M138) (n := v3) (c := 14) (o := p1) kX6_element_c1.1 wq_X6_146 (.inr (by exact hlp1)) ?_
  refine kz_aload_nv (M := kt_M138) (x := x1) kX6_element_c1.2.1 rfl ?_
  refine kz_nz0 (x := x1) hxp1 ?_
  refine kz_gfpR (M := kt_M138) (c := 14) (o := p1) (w_p w2 14 p1 3) kX6_element_c1.2.2.1 wf_X6_93 (.inr (by exact hlp1)) (rd_p_p rfl) ?_
  refine kz_ifnull (M := kt_M138) (x := w_p w2 14 p1 3) kX6_element_c1.2.2.2.1 (t := 32) rfl h (fun h => ?_) (fun h => ?_)
  · skip
    exact kz_weak [(0, .ref (w_adr E.2.1 5 0))] ⟨rfl, trivial⟩ rfl (zt_X6_element_p32 hL  h)
  · skip
    refine kz_aload_n (M := kt_M138) kX6_element_c1.2.2.2.2.1 rfl ?_
    refine kz_aload_nv (M := kt_M138) (x := x1) kX6_element_c1.2.2.2.2.2.1 rfl ?_
    refine kz_nz0 (x := x1) hxp1 ?_
    refine kz_gfpR (M := kt_M138) (c := 14) (o := p1) (w_p w2 14 p1 3) kX6_element_c1.2.2.2.2.2.2.1 wf_X6_93 (.inr (by exact hlp1)) (rd_p_p rfl) ?_
    refine kz_cv0 (M := kt_M138) (c := 5) (o := 0) (As := [va_rf (w_p w2 14 p1 3)]) (rest := []) kX6_element_c1.2.2.2.2.2.2.2.1 wl_X6_137 wMv_140 rfl (.inl rfl) rfl (Nat.le_trans (Nat.le_of_ble_eq_true rfl) hL) (by simp [lg_sl, w_cat, z_ci, z_cr, z_cl, z_cn, kt_M140]) (Nat.le_of_ble_eq_true rfl) h (fun w4 hle h => ?_) (fun _ _ _ h => kzx_no rfl h)
    have h := h hle
    have hlp1 := w_l_le hlp1 hle
    exact kz_weak [(0, .ref (w_adr E.2.1 5 0))] ⟨rfl, trivial⟩ rfl (zt_X6_element_p32 hL  h)
def zL_X6_parts_p2 (E : zE) (L : Nat) (Q : kx_Rs → wS → Prop) (x2 : Option Nat) (w : wS) : Prop := kzE E L kt_M148 2 [(0, .ref (w_adr E.2.1 5 0)), (2, va_rf (x2))] [] w Q
def zb_X6_parts_p21 (E : zE) (L : Nat) (Q : kx_Rs → wS → Prop) (x2 : Option Nat) (w : wS) : Prop := (∃ p1, x2 = some p1 ∧ w_l w E.2.1 14 p1 ∧ zL_X6_parts_p2 E L Q (w_p w 14 p1 7) w)
theorem zt_X6_parts_p21 {E : zE} {L : Nat} {Q : kx_Rs → wS → Prop} {x2 : Option Nat} {w : wS} (hL : 21 ≤ L) (h : zb_X6_parts_p21 E L Q x2 w) : kzE E L kt_M148 21 [(0, .ref (w_adr E.2.1 5 0)), (2, va_rf (x2))] [] w Q := by
  unfold zb_X6_parts_p21 at h
  refine kz_aload_nv (M := kt_M148) (x := x2) kX6_parts_c1.2.2.2.1 rfl ?_
  obtain ⟨p1, hxp1, hlp1, h⟩ := h
  refine kz_nz0 (x := x2) hxp1 ?_
  refine kz_gfp (M := kt_M148) (c := 14) (o := p1) kX6_parts_c1.2.2.2.2.1 wf_X6_89 (.inr (by exact hlp1)) ?_
  refine kz_stv_n (M := kt_M148) (x := w_p w 14 p1 7) [(0, .ref (w_adr E.2.1 5 0))] kX6_parts_c1.2.2.2.2.2.1 (Nat.le_of_ble_eq_true rfl) ⟨⟨rfl, rfl, .inl rfl⟩, trivial⟩ rfl ?_
  refine kz_goto (M := kt_M148) kX6_parts_c1.2.2.2.2.2.2.1 (t := 2) rfl ?_
  exact kz_weak [(0, .ref (w_adr E.2.1 5 0)), (2, va_rf (w_p w 14 p1 7))] ⟨rfl, ⟨rfl, trivial⟩⟩ rfl h
def zb_X6_parts_p2 (E : zE) (L : Nat) (Q : kx_Rs → wS → Prop) (x2 : Option Nat) (w : wS) : Prop := (if x2 = none then Q (.inl none) w else (∃ p1, x2 = some p1 ∧ w_l w E.2.1 14 p1 ∧ (if (w_p w 14 p1 3) = none then zb_X6_parts_p21 E L Q x2 w else zw E (L - 21) kt_M140 [.ref (w_adr E.2.1 5 0), va_rf (w_p w 14 p1 3)] w (wk0 (fun w2 => wle w w2 → zb_X6_parts_p21 E L Q x2 w2) (fun e w => Q (.inr e) w)))))
theorem zt_X6_parts_p2 {E : zE} {L : Nat} {Q : kx_Rs → wS → Prop} {x2 : Option Nat} {w : wS} (hL : 21 ≤ L) (h : zb_X6_parts_p2 E L Q x2 w) : kzE E L kt_M148 2 [(0, .ref (w_adr E.2.1 5 0)), (2, va_rf (x2))] [] w Q := by
  unfold zb_X6_parts_p2 at h
  refine kz_aload_nv (M := kt_M148) (x := x2) kX6_parts_c0.2.2.1 rfl ?_
  refine kz_ifnull (M := kt_M148) (x := x2) kX6_parts_c0.2.2.2.1 (t := 29) rfl h (fun h => ?_) (fun h => ?_)
  · skip
    exact kz_ret (M := kt_M148) kX6_parts_c1.2.2.2.2.2.2.2.1 rfl h
  · skip
    refine kz_aload_nv (M := kt_M148) (x := x2) kX6_parts_c0.2.2.2.2.1 rfl ?_
    obtain ⟨p1, hxp1, hlp1, h⟩ := h
    refine kz_nz0 (x := x2) hxp1 ?_
    refine kz_gfp (M := kt_M148) (c := 14) (o := p1) kX6_parts_c0.2.2.2.2.2.1 wf_X6_93 (.inr (by exact hlp1)) ?_
    refine kz_ifnull (M := kt_M148) (x := w_p w 14 p1 3) kX6_parts_c0.2.2.2.2.2.2.1 (t := 21) rfl h (fun h => ?_) (fun h => ?_)
    · skip
      exact kz_weak [(0, .ref (w_adr E.2.1 5 0)), (2, va_rf (x2))] ⟨rfl, ⟨rfl, trivial⟩⟩ rfl (zt_X6_parts_p21 hL  h)
    · skip
      refine kz_aload_n (M := kt_M148) kX6_parts_c0.2.2.2.2.2.2.2.1 rfl ?_
      refine kz_aload_nv (M := kt_M148) (x := x2) kX6_parts_c1.1 rfl ?_
      refine kz_nz0 (x := x2) hxp1 ?_
      refine kz_gfp (M := kt_M148) (c := 14) (o := p1) kX6_parts_c1.2.1 wf_X6_93 (.inr (by exact hlp1)) ?_
      refine kz_cv0 (M := kt_M148) (c := 5) (o := 0) (As := [va_rf (w_p w 14 p1 3)]) (rest := []) kX6_parts_c1.2.2.1 wl_X6_137 wMv_140 rfl (.inl rfl) rfl (Nat.le_trans (Nat.le_of_ble_eq_true rfl) hL) (by simp [lg_sl, w_cat, z_ci, z_cr, z_cl, z_cn, kt_M140]) (Nat.le_of_ble_eq_true rfl) h (fun w2 hle h => ?_) (fun _ _ _ h => kzx_no rfl h)
      have h := h hle
      have hlp1 := w_l_le hlp1 hle
      exact kz_weak [(0, .ref (w_adr E.2.1 5 0)), (2, va_rf (x2))] ⟨rfl, ⟨rfl, trivial⟩⟩ rfl (zt_X6_parts_p21 hL  h)
def zb_X6_parts_p0 (E : zE) (L : Nat) (Q : kx_Rs → wS → Prop) (x1 : Option Nat) (w : wS) : Prop := zL_X6_parts_p2 E L Q x1 w
theorem zt_X6_parts_p0 {E : zE} {L : Nat} {Q : kx_Rs → wS → Prop} {x1 : Option Nat} {w : wS} (hL : 21 ≤ L) (h : zb_X6_parts_p0 E L Q x1 w) : kzE E L kt_M148 0 [(0, .ref (w_adr E.2.1 5 0)), (1, va_rf (x1))] [] w Q := by
  unfold zb_X6_parts_p0 at h
  refine kz_aload_nv (M := kt_M148) (x := x1) kX6_parts_c0.1 rfl ?_
  refine kz_stv_n (M := kt_M148) (x := x1) [(0, .ref (w_adr E.2.1 5 0))] kX6_parts_c0.2.1 (Nat.le_of_ble_eq_true rfl) ⟨⟨rfl, rfl, .inl rfl⟩, trivial⟩ rfl ?_
  exact kz_weak [(0, .ref (w_adr E.2.1 5 0)), (2, va_rf (x1))] ⟨rfl, ⟨rfl, trivial⟩⟩ rfl h
def zL_X6_repeated_p26 (E : zE) (L : Nat) (Q : kx_Rs → wS → Prop) (x2 : Option Nat) (x3 : Option Nat) (w : wS) : Prop := kzE E L kt_M151 26 [(0, .ref (w_adr E.2.1 5 0)), (2, va_rf (x2)), (3, va_rf (x3))] [] w Q
def zb_X6_repeated_p26 (E : zE) (L : Nat) (Q : kx_Rs → wS → Prop) (x2 : Option Nat) (x3 : Option Nat) (w : wS) : Prop := (if x3 = none then Q (.inl none) (ws_p w 5 0 3 x2) else zw E (L - 23) kt_M149 [.ref (w_adr E.2.1 5 0), va_rf (x3)] w (wk0 (fun w1 => wle w w1 → (∃ p3, x3 = some p3 ∧ w_l w1 E.2.1 14 p3 ∧ zL_X6_repeated_p26 E L Q x2 (w_p w1 14 p3 7) w1)) (fun e w => Q (.inr e) w)))
theorem zt_X6_repeated_p26 {E : zE} {L : Nat} {Q : kx_Rs → wS → Prop} {x2 : Option Nat} {x3 : Option Nat} {w : wS} (hL : 23 ≤ L) (h : zb_X6_repeated_p26 E L Q x2 x3 w) : kzE E L kt_M151 26 [(0, .ref (w_adr E.2.1 5 0)), (2, va_rf (x2)), (3, va_rf (x3))] [] w Q := by
  unfold zb_X6_repeated_p26 at h
  refine kz_aload_nv (M := kt_M151) (x := x3) kX6_repeated_c1.2.2.2.2.2.2.1 rfl ?_
  refine kz_ifnull (M := kt_M151) (x := x3) kX6_repeated_c1.2.2.2.2.2.2.2.1 (t := 43) rfl h (fun h => ?_) (fun h => ?_)
  · skip
    refine kz_aload_n (M := kt_M151) kX6_repeated_c2.2.2.2.2.2.2.2.1 rfl ?_
    refine kz_aload_nv (M := kt_M151) (x := x2) kX6_repeated_c3.1 rfl ?_
    refine kz_pfp (M := kt_M151) (n := x2) (c := 5) (o := 0) kX6_repeated_c3.2.1 wq_X6_23 (.inl rfl) ?_
    exact kz_ret (M := kt_M151) kX6_repeated_c3.2.2.1 rfl h
  · skip
    refine kz_aload_n (M := kt_M151) kX6_repeated_c2.1 rfl ?_
    refine kz_aload_nv (M := kt_M151) (x := x3) kX6_repeated_c2.2.1 rfl ?_
    refine kz_cv0 (M := kt_M151) (c := 5) (o := 0) (As := [va_rf (x3)]) (rest := []) kX6_repeated_c2.2.2.1 wl_X6_54 wMv_149 rfl (.inl rfl) rfl (Nat.le_trans (Nat.le_of_ble_eq_true rfl) hL) (by simp [lg_sl, w_cat, z_ci, z_cr, z_cl, z_cn, kt_M149]) (Nat.le_of_ble_eq_true rfl) h (fun w1 hle h => ?_) (fun _ _ _ h => kzx_no rfl h)
    have h := h hle
    refine kz_aload_nv (M := kt_M151) (x := x3) kX6_repeated_c2.2.2.2.1 rfl ?_
    obtain ⟨p3, hxp3, hlp3, h⟩ := h
    refine kz_nz0 (x := x3) hxp3 ?_
    refine kz_gfp (M := kt_M151) (c := 14) (o := p3) kX6_repeated_c2.2.2.2.2.1 wf_X6_89 (.inr (by exact hlp3)) ?_
    refine kz_stv_n (M := kt_M151) (x := w_p w1 14 p3 7) [(0, .ref (w_adr E.2.1 5 0)), (2, va_rf (x2))] kX6_repeated_c2.2.2.2.2.2.1 (Nat.le_of_ble_eq_true rfl) ⟨⟨rfl, rfl, .inl rfl⟩, ⟨⟨rfl, rfl, .inr (w_cat _)⟩, trivial⟩⟩ rfl ?_
    refine kz_goto (M := kt_M151) kX6_repeated_c2.2.2.2.2.2.2.1 (t := 26) rfl ?_
    exact kz_weak [(0, .ref (w_adr E.2.1 5 0)), (2, va_rf (x2)), (3, va_rf (w_p w1 14 p3 7))] ⟨rfl, ⟨rfl, ⟨rfl, trivial⟩⟩⟩ rfl h
def zb_X6_repeated_p0 (E : zE) (L : Nat) (Q : kx_Rs → wS → Prop) (x1 : Option Nat) (w : wS) : Prop := (∃ p1, x1 = some p1 ∧ w_l w E.2.1 14 p1 ∧ zw E (L - 21) kt_M152 [.ref (w_adr E.2.1 5 0), va_rf (w_p w 14 p1 3)] (ws_i w 14 p1 10 (w_i w 5 0 4)) (wk0 (fun w2 => wle (ws_i w 14 p1 10 (w_i w 5 0 4)) w2 → zL_X6_repeated_p26 E L Q (w_p w 5 0 3) (w_p w2 14 p1 4) w2) (fun e w => Q (.inr e) w)))
theorem zt_X6_repeated_p0 {E : zE} {L : Nat} {Q : kx_Rs → wS → Prop} {x1 : Option Nat} {w : wS} (hL : 23 ≤ L) (h : zb_X6_repeated_p0 E L Q x1 w) : kzE E L kt_M151 0 [(0, .ref (w_adr E.2.1 5 0)), (1, va_rf (x1))] [] w Q := by
  unfold zb_X6_repeated_p0 at h
  refine kz_aload_n (M := kt_M151) kX6_repeated_c0.1 rfl ?_
  refine kz_gfp (M := kt_M151) (c := 5) (o := 0) kX6_repeated_c0.2.1 wf_X6_23 (.inl rfl) ?_
  refine kz_stv_n (M := kt_M151) (x := w_p w 5 0 3) [(0, .ref (w_adr E.2.1 5 0)), (1, va_rf (x1))] kX6_repeated_c0.2.2.1 (Nat.le_of_ble_eq_true rfl) ⟨⟨rfl, rfl, .inl rfl⟩, ⟨⟨rfl, rfl, .inr (w_cat _)⟩, trivial⟩⟩ rfl ?_
  refine kz_aload_nv (M := kt_M151) (x := x1) kX6_repeated_c0.2.2.2.1 rfl ?_
  refine kz_aload_n (M := kt_M151) kX6_repeated_c0.2.2.2.2.1 rfl ?_
  refine kz_gfi (M := kt_M151) (c := 5) (o := 0) kX6_repeated_c0.2.2.2.2.2.1 wf_X6_27 (.inl rfl) ?_
  obtain ⟨p1, hxp1, hlp1, h⟩ := h
  refine kz_nz1 (x := x1) hxp1 ?_
  refine kz_pfi (M := kt_M151) (c := 14) (o := p1) kX6_repeated_c0.2.2.2.2.2.2.1 wq_X6_227 (.inr (by exact hlp1)) ?_
  refine kz_aload_n (M := kt_M151) kX6_repeated_c0.2.2.2.2.2.2.2.1 rfl ?_
  refine kz_aload_nv (M := kt_M151) (x := x1) kX6_repeated_c1.1 rfl ?_
  refine kz_nz0 (x := x1) hxp1 ?_
  refine kz_gfpR (M := kt_M151) (c := 14) (o := p1) (w_p w 14 p1 3) kX6_repeated_c1.2.1 wf_X6_93 (.inr (by exact hlp1)) rd_p_i ?_
  refine kz_cv0 (M := kt_M151) (c := 5) (o := 0) (As := [va_rf (w_p w 14 p1 3)]) (rest := []) kX6_repeated_c1.2.2.1 wl_X6_259 wMv_152 rfl (.inl rfl) rfl (Nat.le_trans (Nat.le_of_ble_eq_true rfl) hL) (by simp [lg_sl, w_cat, z_ci, z_cr, z_cl, z_cn, kt_M152]) (Nat.le_of_ble_eq_true rfl) h (fun w2 hle h => ?_) (fun _ _ _ h => kzx_no rfl h)
  have h := h hle
  have hlp1 := w_l_le hlp1 hle
  refine kz_aload_nv (M := kt_M151) (x := x1) kX6_repeated_c1.2.2.2.1 rfl ?_
  refine kz_nz0 (x := x1) hxp1 ?_
  refine kz_gfp (M := kt_M151) (c := 14) (o := p1) kX6_repeated_c1.2.2.2.2.1 wf_X6_99 (.inr (by exact hlp1)) ?_
  refine kz_stv_n (M := kt_M151) (x := w_p w2 14 p1 4) [(0, .ref (w_adr E.2.1 5 0)), (2, va_rf (w_p w 5 0 3))] kX6_repeated_c1.2.2.2.2.2.1 (Nat.le_of_ble_eq_true rfl) ⟨⟨rfl, rfl, .inl rfl⟩, ⟨⟨rfl, rfl, .inr (w_cat _)⟩, trivial⟩⟩ rfl ?_
  exact kz_weak [(0, .ref (w_adr E.2.1 5 0)), (2, va_rf (w_p w 5 0 3)), (3, va_rf (w_p w2 14 p1 4))] ⟨rfl, ⟨rfl, ⟨rfl, trivial⟩⟩⟩ rfl h
def zL_X6_alternation_p18 (E : zE) (L : Nat) (Q : kx_Rs → wS → Prop) (x2 : Option Nat) (x3 : Option Nat) (w : wS) : Prop := kzE E L kt_M133 18 [(0, .ref (w_adr E.2.1 5 0)), (2, va_rf (x2)), (3, va_rf (x3))] [] w Q
def zb_X6_alternation_p68 (E : zE) (L : Nat) (Q : kx_Rs → wS → Prop) (x2 : Option Nat) (x3 : Option Nat) (w : wS) : Prop := (∃ p1, x3 = some p1 ∧ w_l w E.2.1 14 p1 ∧ zL_X6_alternation_p18 E L Q x2 (w_p w 14 p1 7) w)
theorem zt_X6_alternation_p68 {E : zE} {L : Nat} {Q : kx_Rs → wS → Prop} {x2 : Option Nat} {x3 : Option Nat} {w : wS} (hL : 25 ≤ L) (h : zb_X6_alternation_p68 E L Q x2 x3 w) : kzE E L kt_M133 68 [(0, .ref (w_adr E.2.1 5 0)), (2, va_rf (x2)), (3, va_rf (x3))] [] w Q := by
  unfold zb_X6_alternation_p68 at h
  refine kz_aload_nv (M := kt_M133) (x := x3) kX6_alternation_c4.2.2.1 rfl ?_
  obtain ⟨p1, hxp1, hlp1, h⟩ := h
  refine kz_nz0 (x := x3) hxp1 ?_
  refine kz_gfp (M := kt_M133) (c := 14) (o := p1) kX6_alternation_c4.2.2.2.1 wf_X6_89 (.inr (by exact hlp1)) ?_
  refine kz_stv_n (M := kt_M133) (x := w_p w 14 p1 7) [(0, .ref (w_adr E.2.1 5 0)), (2, va_rf (x2))] kX6_alternation_c4.2.2.2.2.1 (Nat.le_of_ble_eq_true rfl) ⟨⟨rfl, rfl, .inl rfl⟩, ⟨⟨rfl, rfl, .inr (w_cat _)⟩, trivial⟩⟩ rfl ?_
  refine kz_goto (M := kt_M133) kX6_alternation_c4.2.2.2.2.2.1 (t := 18) rfl ?_
  exact kz_weak [(0, .ref (w_adr E.2.1 5 0)), (2, va_rf (x2)), (3, va_rf (w_p w 14 p1 7))] ⟨rfl, ⟨rfl, ⟨rfl, trivial⟩⟩⟩ rfl h
def zb_X6_alternation_p53 (E : zE) (L : Nat) (Q : kx_Rs → wS → Prop) (x2 : Option Nat) (x3 : Option Nat) (w : wS) : Prop := (∃ p1, x3 = some p1 ∧ w_l w E.2.1 14 p1 ∧ (if (w_p w 14 p1 6) = none then zb_X6_alternation_p68 E L Q x2 x3 w else zw E (L - 23) kt_M149 [.ref (w_adr E.2.1 5 0), va_rf (w_p w 14 p1 6)] w (wk0 (fun w2 => wle w w2 → zb_X6_alternation_p68 E L Q x2 x3 w2) (fun e w => Q (.inr e) w))))
theorem zt_X6_alternation_p53 {E : zE} {L : Nat} {Q : kx_Rs → wS → Prop} {x2 : Option Nat} {x3 : Option Nat} {w : wS} (hL : 25 ≤ L) (h : zb_X6_alternation_p53 E L Q x2 x3 w) : kzE E L kt_M133 53 [(0, .ref (w_adr E.2.1 5 0)), (2, va_rf (x2)), (3, va_rf (x3))] [] w Q := by
  unfold zb_X6_alternation_p53 at h
  refine kz_aload_nv (M := kt_M133) (x := x3) kX6_alternation_c3.2.2.2.1 rfl ?_
  obtain ⟨p1, hxp1, hlp1, h⟩ := h
  refine kz_nz0 (x := x3) hxp1 ?_
  refine kz_gfp (M := kt_M133) (c := 14) (o := p1) kX6_alternation_c3.2.2.2.2.1 wf_X6_220 (.inr (by exact hlp1)) ?_
  refine kz_ifnull (M := kt_M133) (x := w_p w 14 p1 6) kX6_alternation_c3.2.2.2.2.2.1 (t := 68) rfl h (fun h => ?_) (fun h => ?_)
  · skip
    exact kz_weak [(0, .ref (w_adr E.2.1 5 0)), (2, va_rf (x2)), (3, va_rf (x3))] ⟨rfl, ⟨rfl, ⟨rfl, trivial⟩⟩⟩ rfl (zt_X6_alternation_p68 hL  h)
  · skip
    refine kz_aload_n (M := kt_M133) kX6_alternation_c3.2.2.2.2.2.2.1 rfl ?_
    refine kz_aload_nv (M := kt_M133) (x := x3) kX6_alternation_c3.2.2.2.2.2.2.2.1 rfl ?_
    refine kz_nz0 (x := x3) hxp1 ?_
    refine kz_gfp (M := kt_M133) (c := 14) (o := p1) kX6_alternation_c4.1 wf_X6_220 (.inr (by exact hlp1)) ?_
    refine kz_cv0 (M := kt_M133) (c := 5) (o := 0) (As := [va_rf (w_p w 14 p1 6)]) (rest := []) kX6_alternation_c4.2.1 wl_X6_54 wMv_149 rfl (.inl rfl) rfl (Nat.le_trans (Nat.le_of_ble_eq_true rfl) hL) (by simp [lg_sl, w_cat, z_ci, z_cr, z_cl, z_cn, kt_M149]) (Nat.le_of_ble_eq_true rfl) h (fun w2 hle h => ?_) (fun _ _ _ h => kzx_no rfl h)
    have h := h hle
    have hlp1 := w_l_le hlp1 hle
    exact kz_weak [(0, .ref (w_adr E.2.1 5 0)), (2, va_rf (x2)), (3, va_rf (x3))] ⟨rfl, ⟨rfl, ⟨rfl, trivial⟩⟩⟩ rfl (zt_X6_alternation_p68 hL  h)
def zb_X6_alternation_p37 (E : zE) (L : Nat) (Q : kx_Rs → wS → Prop) (x2 : Option Nat) (x3 : Option Nat) (w : wS) : Prop := (∃ p1, x3 = some p1 ∧ w_l w E.2.1 14 p1 ∧ (if w_i w 14 p1 10 ≤ 0 then zb_X6_alternation_p53 E L Q x2 x3 w else zw E (L - 25) kt_M144 [.ref (w_adr E.2.1 5 0), va_rf (x3), .int (w_i w 14 p1 10)] w (wk0 (fun w2 => wle w w2 → zb_X6_alternation_p53 E L Q x2 x3 w2) (fun e w => Q (.inr e) w))))
theorem zt_X6_alternation_p37 {E : zE} {L : Nat} {Q : kx_Rs → wS → Prop} {x2 : Option Nat} {x3 : Option Nat} {w : wS} (hL : 25 ≤ L) (h : zb_X6_alternation_p37 E L Q x2 x3 w) : kzE E L kt_M133 37 [(0, .ref (w_adr E.2.1 5 0)), (2, va_rf (x2)), (3, va_rf (x3))] [] w Q := by
  unfold zb_X6_alternation_p37 at h
  refine kz_aload_nv (M := kt_M133) (x := x3) kX6_alternation_c2.2.2.2.1 rfl ?_
  obtain ⟨p1, hxp1, hlp1, h⟩ := h
  refine kz_nz0 (x := x3) hxp1 ?_
  refine kz_gfi (M := kt_M133) (c := 14) (o := p1) kX6_alternation_c2.2.2.2.2.1 wf_X6_227 (.inr (by exact hlp1)) ?_
  refine kz_if_le (M := kt_M133) kX6_alternation_c2.2.2.2.2.2.1 (t := 53) rfl h (fun h => ?_) (fun h => ?_)
  · skip
    exact kz_weak [(0, .ref (w_adr E.2.1 5 0)), (2, va_rf (x2)), (3, va_rf (x3))] ⟨rfl, ⟨rfl, ⟨rfl, trivial⟩⟩⟩ rfl (zt_X6_alternation_p53 hL  h)
  · skip
    refine kz_aload_n (M := kt_M133) kX6_alternation_c2.2.2.2.2.2.2.1 rfl ?_
    refine kz_aload_nv (M := kt_M133) (x := x3) kX6_alternation_c2.2.2.2.2.2.2.2.1 rfl ?_
    refine kz_aload_nv (M := kt_M133) (x := x3) kX6_alternation_c3.1 rfl ?_
    refine kz_nz0 (x := x3) hxp1 ?_
    refine kz_gfi (M := kt_M133) (c := 14) (o := p1) kX6_alternation_c3.2.1 wf_X6_227 (.inr (by exact hlp1)) ?_
    refine kz_cv0 (M := kt_M133) (c := 5) (o := 0) (As := [va_rf (x3), .int (w_i w 14 p1 10)]) (rest := []) kX6_alternation_c3.2.2.1 wl_X6_240 wMv_144 rfl (.inl rfl) rfl (Nat.le_trans (Nat.le_of_ble_eq_true rfl) hL) (by simp [lg_sl, w_cat, z_ci, z_cr, z_cl, z_cn, kt_M144]) (Nat.le_of_ble_eq_true rfl) h (fun w2 hle h => ?_) (fun _ _ _ h => kzx_no rfl h)
    have h := h hle
    have hlp1 := w_l_le hlp1 hle
    exact kz_weak [(0, .ref (w_adr E.2.1 5 0)), (2, va_rf (x2)), (3, va_rf (x3))] ⟨rfl, ⟨rfl, ⟨rfl, trivial⟩⟩⟩ rfl (zt_X6_alternation_p53 hL  h)
def zb_X6_alternation_p18 (E : zE) (L : Nat) (Q : kx_Rs → wS → Prop) (x2 : Option Nat) (x3 : Option Nat) (w : wS) : Prop := (if x3 = none then Q (.inl none) (ws_p w 5 0 3 x2) else (∃ p1, x3 = some p1 ∧ w_l w E.2.1 14 p1 ∧ (if (w_p w 14 p1 5) = none then zb_X6_alternation_p37 E L Q x2 x3 w else zw E (L - 21) kt_M140 [.ref (w_adr E.2.1 5 0), va_rf (w_p w 14 p1 5)] w (wk0 (fun w2 => wle w w2 → zb_X6_alternation_p37 E L Q x2 x3 w2) (fun e w => Q (.inr e) w)))))
theorem zt_X6_alternation_p18 {E : zE} {L : Nat} {Q : kx_Rs → wS → Prop} {x2 : Option Nat} {x3 : Option Nat} {w : wS} (hL : 25 ≤ L) (h : zb_X6_alternation_p18 E L Q x2 x3 w) : kzE E L kt_M133 18 [(0, .ref (w_adr E.2.1 5 0)), (2, va_rf (x2)), (3, va_rf (x3))] [] w Q := by
  unfold zb_X6_alternation_p18 at h
  refine kz_aload_nv (M := kt_M133) (x := x3) kX6_alternation_c1.2.2.1 rfl ?_
  refine kz_ifnull (M := kt_M133) (x := x3) kX6_alternation_c1.2.2.2.1 (t := 76) rfl h (fun h => ?_) (fun h => ?_)
  · skip
    refine kz_aload_n (M := kt_M133) kX6_alternation_c4.2.2.2.2.2.2.1 rfl ?_
    refine kz_aload_nv (M := kt_M133) (x := x2) kX6_alternation_c4.2.2.2.2.2.2.2.1 rfl ?_
    refine kz_pfp (M := kt_M133) (n := x2) (c := 5) (o := 0) kX6_alternation_c5.1 wq_X6_23 (.inl rfl) ?_
    exact kz_ret (M := kt_M133) kX6_alternation_c5.2.1 rfl h
  · skip
    refine kz_aload_nv (M := kt_M133) (x := x3) kX6_alternation_c1.2.2.2.2.1 rfl ?_
    obtain ⟨p1, hxp1, hlp1, h⟩ := h
    refine kz_nz0 (x := x3) hxp1 ?_
    refine kz_gfp (M := kt_M133) (c := 14) (o := p1) kX6_alternation_c1.2.2.2.2.2.1 wf_X6_112 (.inr (by exact hlp1)) ?_
    refine kz_ifnull (M := kt_M133) (x := w_p w 14 p1 5) kX6_alternation_c1.2.2.2.2.2.2.1 (t := 37) rfl h (fun h => ?_) (fun h => ?_)
    · skip
      exact kz_weak [(0, .ref (w_adr E.2.1 5 0)), (2, va_rf (x2)), (3, va_rf (x3))] ⟨rfl, ⟨rfl, ⟨rfl, trivial⟩⟩⟩ rfl (zt_X6_alternation_p37 hL  h)
    · skip
      refine kz_aload_n (M := kt_M133) kX6_alternation_c1.2.2.2.2.2.2.2.1 rfl ?_
      refine kz_aload_nv (M := kt_M133) (x := x3) kX6_alternation_c2.1 rfl ?_
      refine kz_nz0 (x := x3) hxp1 ?_
      refine kz_gfp (M := kt_M133) (c := 14) (o := p1) kX6_alternation_c2.2.1 wf_X6_112 (.inr (by exact hlp1)) ?_
      refine kz_cv0 (M := kt_M133) (c := 5) (o := 0) (As := [va_rf (w_p w 14 p1 5)]) (rest := []) kX6_alternation_c2.2.2.1 wl_X6_137 wMv_140 rfl (.inl rfl) rfl (Nat.le_trans (Nat.le_of_ble_eq_true rfl) hL) (by simp [lg_sl, w_cat, z_ci, z_cr, z_cl, z_cn, kt_M140]) (Nat.le_of_ble_eq_true rfl) h (fun w2 hle h => ?_) (fun _ _ _ h => kzx_no rfl h)
      have h := h hle
      have hlp1 := w_l_le hlp1 hle
      exact kz_weak [(0, .ref (w_adr E.2.1 5 0)), (2, va_rf (x2)), (3, va_rf (x3))] ⟨rfl, ⟨rfl, ⟨rfl, trivial⟩⟩⟩ rfl (zt_X6_alternation_p37 hL  h)
def zb_X6_alternation_p0 (E : zE) (L : Nat) (Q : kx_Rs → wS → Prop) (x1 : Option Nat) (w : wS) : Prop := (∃ p1, x1 = some p1 ∧ w_l w E.2.1 14 p1 ∧ zw E (L - 21) kt_M152 [.ref (w_adr E.2.1 5 0), va_rf (w_p w 14 p1 3)] w (wk0 (fun w2 => wle w w2 → zL_X6_alternation_p18 E L Q (w_p w 5 0 3) (w_p w2 14 p1 4) w2) (fun e w => Q (.inr e) w)))
theorem zt_X6_alternation_p0 {E : zE} {L : Nat} {Q : kx_Rs → wS → Prop} {x1 : Option Nat} {w : wS} (hL : 25 ≤ L) (h : zb_X6_alternation_p0 E L Q x1 w) : kzE E L kt_M133 0 [(0, .ref (w_adr E.2.1 5 0)), (1, va_rf (x1))] [] w Q := by
  unfold zb_X6_alternation_p0 at h
  refine kz_aload_n (M := kt_M133) kX6_alternation_c0.1 rfl ?_
  refine kz_gfp (M := kt_M133) (c := 5) (o := 0) kX6_alternation_c0.2.1 wf_X6_23 (.inl rfl) ?_
  refine kz_stv_n (M := kt_M133) (x := w_p w 5 0 3) [(0, .ref (w_adr E.2.1 5 0)), (1, va_rf (x1))] kX6_alternation_c0.2.2.1 (Nat.le_of_ble_eq_true rfl) ⟨⟨rfl, rfl, .inl rfl⟩, ⟨⟨rfl, rfl, .inr (w_cat _)⟩, trivial⟩⟩ rfl ?_
  refine kz_aload_n (M := kt_M133) kX6_alternation_c0.2.2.2.1 rfl ?_
  refine kz_aload_nv (M := kt_M133) (x := x1) kX6_alternation_c0.2.2.2.2.1 rfl ?_
  obtain ⟨p1, hxp1, hlp1, h⟩ := h
  refine kz_nz0 (x := x1) hxp1 ?_
  refine kz_gfp (M := kt_M133) (c := 14) (o := p1) kX6_alternation_c0.2.2.2.2.2.1 wf_X6_93 (.inr (by exact hlp1)) ?_
  refine kz_cv0 (M := kt_M133) (c := 5) (o := 0) (As := [va_rf (w_p w 14 p1 3)]) (rest := []) kX6_alternation_c0.2.2.2.2.2.2.1 wl_X6_259 wMv_152 rfl (.inl rfl) rfl (Nat.le_trans (Nat.le_of_ble_eq_true rfl) hL) (by simp [lg_sl, w_cat, z_ci, z_cr, z_cl, z_cn, kt_M152]) (Nat.le_of_ble_eq_true rfl) h (fun w2 hle h => ?_) (fun _ _ _ h => kzx_no rfl h)
  have h := h hle
  have hlp1 := w_l_le hlp1 hle
  refine kz_aload_nv (M := kt_M133) (x := x1) kX6_alternation_c0.2.2.2.2.2.2.2.1 rfl ?_
  refine kz_nz0 (x := x1) hxp1 ?_
  refine kz_gfp (M := kt_M133) (c := 14) (o := p1) kX6_alternation_c1.1 wf_X6_99 (.inr (by exact hlp1)) ?_
  refine kz_stv_n (M := kt_M133) (x := w_p w2 14 p1 4) [(0, .ref (w_adr E.2.1 5 0)), (2, va_rf (w_p w 5 0 3))] kX6_alternation_c1.2.1 (Nat.le_of_ble_eq_true rfl) ⟨⟨rfl, rfl, .inl rfl⟩, ⟨⟨rfl, rfl, .inr (w_cat _)⟩, trivial⟩⟩ rfl ?_
  exact kz_weak [(0, .ref (w_adr E.2.1 5 0)), (2, va_rf (w_p w 5 0 3)), (3, va_rf (w_p w2 14 p1 4))] ⟨rfl, ⟨rfl, ⟨rfl, trivial⟩⟩⟩ rfl h
