/-! ===== methods over the typed state (printed by tools/gen_lift.py) ===== -/
set_option maxRecDepth 100000
theorem wq_X19_15 {adE adK adV : Nat → Nat} {zr : Nat → Value} {b L0 : Nat} {xs : Nat → Int32} {lo : Nat} : wP (kw_V adE adK adV zr b L0 xs lo) wG "MeetingHouse$Unit" 15 16 1 0 .int := wPb_ok (by decide +kernel) wf_X19_15 (r := "MeetingHouse$Unit") (n := "level") (d := "I") (by decide +kernel) (by decide +kernel)
theorem wq_X19_19 {adE adK adV : Nat → Nat} {zr : Nat → Value} {b L0 : Nat} {xs : Nat → Int32} {lo : Nat} : wP (kw_V adE adK adV zr b L0 xs lo) wG "MeetingHouse$Unit" 19 16 2 0 .int := wPb_ok (by decide +kernel) wf_X19_19 (r := "MeetingHouse$Unit") (n := "slots") (d := "I") (by decide +kernel) (by decide +kernel)
theorem wq_X19_22 {adE adK adV : Nat → Nat} {zr : Nat → Value} {b L0 : Nat} {xs : Nat → Int32} {lo : Nat} : wP (kw_V adE adK adV zr b L0 xs lo) wG "MeetingHouse$Unit" 22 16 3 0 .int := wPb_ok (by decide +kernel) wf_X19_22 (r := "MeetingHouse$Unit") (n := "code") (d := "I") (by decide +kernel) (by decide +kernel)
theorem wq_X19_25 {adE adK adV : Nat → Nat} {zr : Nat → Value} {b L0 : Nat} {xs : Nat → Int32} {lo : Nat} : wP (kw_V adE adK adV zr b L0 xs lo) wG "MeetingHouse$Unit" 25 16 4 0 .int := wPb_ok (by decide +kernel) wf_X19_25 (r := "MeetingHouse$Unit") (n := "number") (d := "I") (by decide +kernel) (by decide +kernel)
theorem wq_X19_28 {adE adK adV : Nat → Nat} {zr : Nat → Value} {b L0 : Nat} {xs : Nat → Int32} {lo : Nat} : wP (kw_V adE adK adV zr b L0 xs lo) wG "MeetingHouse$Unit" 28 16 5 0 .int := wPb_ok (by decide +kernel) wf_X19_28 (r := "MeetingHouse$Unit") (n := "given") (d := "I") (by decide +kernel) (by decide +kernel)
theorem wq_X19_31 {adE adK adV : Nat → Nat} {zr : Nat → Value} {b L0 : Nat} {xs : Nat → Int32} {lo : Nat} : wP (kw_V adE adK adV zr b L0 xs lo) wG "MeetingHouse$Unit" 31 16 6 0 .int := wPb_ok (by decide +kernel) wf_X19_31 (r := "MeetingHouse$Unit") (n := "formals") (d := "I") (by decide +kernel) (by decide +kernel)
theorem wq_X19_9 {adE adK adV : Nat → Nat} {zr : Nat → Value} {b L0 : Nat} {xs : Nat → Int32} {lo : Nat} : wP (kw_V adE adK adV zr b L0 xs lo) wG "MeetingHouse$Unit" 9 16 0 2 (.object "MeetingHouse$Unit") := wPb_ok (by decide +kernel) wf_X19_9 (r := "MeetingHouse$Unit") (n := "outer") (d := "LMeetingHouse$Unit;") (by decide +kernel) (by decide +kernel)
def zb_X19_begin_p20 (E : zE) (L : Nat) (Q : kx_Rs → wS → Prop) (x0 : Nat) (x2 : Int32) (y0 : Int32) (w : wS) : Prop := Q (.inl (some (va_rf (some (w_adr E.2.1 16 x0))))) (ws_i (ws_i (ws_i (ws_i (ws_i (ws_i w 16 x0 1 y0) 16 x0 2 4) 16 x0 3 (-1)) 16 x0 4 x2) 16 x0 5 0) 16 x0 6 (-1))
theorem zt_X19_begin_p20 {E : zE} {L : Nat} {Q : kx_Rs → wS → Prop} {x0 : Nat} {x2 : Int32} {y0 : Int32} {w : wS} (hL : 19 ≤ L) (hl0 : w_l w E.2.1 16 x0) (h : zb_X19_begin_p20 E L Q x0 x2 y0 w) : kzE E L kt_M292 20 [(0, .ref (w_adr E.2.1 16 x0)), (2, .int x2)] [.int y0, .ref (w_adr E.2.1 16 x0)] w Q := by
  unfold zb_X19_begin_p20 at h
  refine kz_pfi (M := kt_M292) (c := 16) (o := x0) kX19_begin_c1.2.2.2.2.1 wq_X19_15 (.inr (by exact hl0)) ?_
  refine kz_aload_n (M := kt_M292) kX19_begin_c1.2.2.2.2.2.1 rfl ?_
  refine kz_ic (M := kt_M292) 4 kX19_begin_c1.2.2.2.2.2.2.1 rfl ?_
  refine kz_pfi (M := kt_M292) (c := 16) (o := x0) kX19_begin_c1.2.2.2.2.2.2.2.1 wq_X19_19 (.inr (by exact hl0)) ?_
  refine kz_aload_n (M := kt_M292) kX19_begin_c2.1 rfl ?_
  refine kz_ic (M := kt_M292) (-1) kX19_begin_c2.2.1 rfl ?_
  refine kz_pfi (M := kt_M292) (c := 16) (o := x0) kX19_begin_c2.2.2.1 wq_X19_22 (.inr (by exact hl0)) ?_
  refine kz_aload_n (M := kt_M292) kX19_begin_c2.2.2.2.1 rfl ?_
  refine kz_iload_n (M := kt_M292) kX19_begin_c2.2.2.2.2.1 rfl ?_
  refine kz_pfi (M := kt_M292) (c := 16) (o := x0) kX19_begin_c2.2.2.2.2.2.1 wq_X19_25 (.inr (by exact hl0)) ?_
  refine kz_aload_n (M := kt_M292) kX19_begin_c2.2.2.2.2.2.2.1 rfl ?_
  refine kz_ic (M := kt_M292) 0 kX19_begin_c2.2.2.2.2.2.2.2.1 rfl ?_
  refine kz_pfi (M := kt_M292) (c := 16) (o := x0) kX19_begin_c3.1 wq_X19_28 (.inr (by exact hl0)) ?_
  refine kz_aload_n (M := kt_M292) kX19_begin_c3.2.1 rfl ?_
  refine kz_ic (M := kt_M292) (-1) kX19_begin_c3.2.2.1 rfl ?_
  refine kz_pfi (M := kt_M292) (c := 16) (o := x0) kX19_begin_c3.2.2.2.1 wq_X19_31 (.inr (by exact hl0)) ?_
  refine kz_aload_n (M := kt_M292) kX19_begin_c3.2.2.2.2.1 rfl ?_
  exact kz_areto (x := some (w_adr E.2.1 16 x0)) (M := kt_M292) kX19_begin_c3.2.2.2.2.2.1 rfl h
def zb_X19_begin_p0 (E : zE) (L : Nat) (Q : kx_Rs → wS → Prop) (x0 : Nat) (x1 : Option Nat) (x2 : Int32) (w : wS) : Prop := (if ¬ x1 = none then (∃ p1, x1 = some p1 ∧ w_l (ws_p w 16 x0 0 x1) E.2.1 16 p1 ∧ zb_X19_begin_p20 E L Q x0 x2 ((w_i w 16 p1 1) + 1) (ws_p w 16 x0 0 x1)) else zb_X19_begin_p20 E L Q x0 x2 0 (ws_p w 16 x0 0 x1))
theorem zt_X19_begin_p0 {E : zE} {L : Nat} {Q : kx_Rs → wS → Prop} {x0 : Nat} {x1 : Option Nat} {x2 : Int32} {w : wS} (hL : 19 ≤ L) (hl0 : w_l w E.2.1 16 x0) (h : zb_X19_begin_p0 E L Q x0 x1 x2 w) : kzE E L kt_M292 0 [(0, .ref (w_adr E.2.1 16 x0)), (1, va_rf (x1)), (2, .int x2)] [] w Q := by
  unfold zb_X19_begin_p0 at h
  refine kz_aload_n (M := kt_M292) kX19_begin_c0.1 rfl ?_
  refine kz_aload_nv (M := kt_M292) (x := x1) kX19_begin_c0.2.1 rfl ?_
  refine kz_pfp (M := kt_M292) (n := x1) (c := 16) (o := x0) kX19_begin_c0.2.2.1 wq_X19_9 (.inr (by exact hl0)) ?_
  refine kz_aload_n (M := kt_M292) kX19_begin_c0.2.2.2.1 rfl ?_
  refine kz_aload_nv (M := kt_M292) (x := x1) kX19_begin_c0.2.2.2.2.1 rfl ?_
  refine kz_ifnonnull (M := kt_M292) (x := x1) kX19_begin_c0.2.2.2.2.2.1 (t := 14) rfl h (fun h => ?_) (fun h => ?_)
  · skip
    refine kz_aload_nv (M := kt_M292) (x := x1) kX19_begin_c1.1 rfl ?_
    obtain ⟨p1, hxp1, hlp1, h⟩ := h
    refine kz_nz0 (x := x1) hxp1 ?_
    refine kz_gfiR (M := kt_M292) (c := 16) (o := p1) (w_i w 16 p1 1) kX19_begin_c1.2.1 wf_X19_15 (.inr (by exact hlp1)) rd_i_p ?_
    refine kz_ic (M := kt_M292) 1 kX19_begin_c1.2.2.1 rfl ?_
    refine kz_iadd (M := kt_M292) kX19_begin_c1.2.2.2.1 ?_
    exact kz_weak [(0, .ref (w_adr E.2.1 16 x0)), (2, .int x2)] ⟨rfl, ⟨rfl, trivial⟩⟩ rfl (zt_X19_begin_p20 hL hl0  h)
  · skip
    refine kz_ic (M := kt_M292) 0 kX19_begin_c0.2.2.2.2.2.2.1 rfl ?_
    refine kz_goto (M := kt_M292) kX19_begin_c0.2.2.2.2.2.2.2.1 (t := 20) rfl ?_
    exact kz_weak [(0, .ref (w_adr E.2.1 16 x0)), (2, .int x2)] ⟨rfl, ⟨rfl, trivial⟩⟩ rfl (zt_X19_begin_p20 hL hl0  h)
