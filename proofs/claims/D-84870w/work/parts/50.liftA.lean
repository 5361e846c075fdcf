/-! ===== methods over the typed state (printed by tools/gen_lift.py) ===== -/
set_option maxRecDepth 100000
theorem wq_X10_13 {adE adK adV : Nat → Nat} {zr : Nat → Value} {b L0 : Nat} {xs : Nat → Int32} {lo : Nat} : wP (kw_V adE adK adV zr b L0 xs lo) wG "MeetingHouse$Row" 13 9 1 0 .int := wPb_ok (by decide +kernel) wf_X10_13 (r := "MeetingHouse$Row") (n := "many") (d := "I") (by decide +kernel) (by decide +kernel)
theorem wq_X12_15 {adE adK adV : Nat → Nat} {zr : Nat → Value} {b L0 : Nat} {xs : Nat → Int32} {lo : Nat} : wP (kw_V adE adK adV zr b L0 xs lo) wG "MeetingHouse$Memory" 15 11 1 3 (.array .int) := wPb_ok (by decide +kernel) wf_X12_15 (r := "MeetingHouse$Memory") (n := "base") (d := "[I") (by decide +kernel) (by decide +kernel)
theorem wq_X12_18 {adE adK adV : Nat → Nat} {zr : Nat → Value} {b L0 : Nat} {xs : Nat → Int32} {lo : Nat} : wP (kw_V adE adK adV zr b L0 xs lo) wG "MeetingHouse$Memory" 18 11 2 3 (.array .int) := wPb_ok (by decide +kernel) wf_X12_18 (r := "MeetingHouse$Memory") (n := "size") (d := "[I") (by decide +kernel) (by decide +kernel)
theorem wq_X12_21 {adE adK adV : Nat → Nat} {zr : Nat → Value} {b L0 : Nat} {xs : Nat → Int32} {lo : Nat} : wP (kw_V adE adK adV zr b L0 xs lo) wG "MeetingHouse$Memory" 21 11 3 3 (.array .int) := wPb_ok (by decide +kernel) wf_X12_21 (r := "MeetingHouse$Memory") (n := "told") (d := "[I") (by decide +kernel) (by decide +kernel)
theorem wq_X12_24 {adE adK adV : Nat → Nat} {zr : Nat → Value} {b L0 : Nat} {xs : Nat → Int32} {lo : Nat} : wP (kw_V adE adK adV zr b L0 xs lo) wG "MeetingHouse$Memory" 24 11 4 3 (.array .int) := wPb_ok (by decide +kernel) wf_X12_24 (r := "MeetingHouse$Memory") (n := "at") (d := "[I") (by decide +kernel) (by decide +kernel)
theorem wq_X12_27 {adE adK adV : Nat → Nat} {zr : Nat → Value} {b L0 : Nat} {xs : Nat → Int32} {lo : Nat} : wP (kw_V adE adK adV zr b L0 xs lo) wG "MeetingHouse$Memory" 27 11 5 3 (.array .int) := wPb_ok (by decide +kernel) wf_X12_27 (r := "MeetingHouse$Memory") (n := "order") (d := "[I") (by decide +kernel) (by decide +kernel)
theorem wq_X12_30 {adE adK adV : Nat → Nat} {zr : Nat → Value} {b L0 : Nat} {xs : Nat → Int32} {lo : Nat} : wP (kw_V adE adK adV zr b L0 xs lo) wG "MeetingHouse$Memory" 30 11 6 3 (.array .int) := wPb_ok (by decide +kernel) wf_X12_30 (r := "MeetingHouse$Memory") (n := "spare") (d := "[I") (by decide +kernel) (by decide +kernel)
theorem wq_X12_33 {adE adK adV : Nat → Nat} {zr : Nat → Value} {b L0 : Nat} {xs : Nat → Int32} {lo : Nat} : wP (kw_V adE adK adV zr b L0 xs lo) wG "MeetingHouse$Memory" 33 11 7 0 .int := wPb_ok (by decide +kernel) wf_X12_33 (r := "MeetingHouse$Memory") (n := "top") (d := "I") (by decide +kernel) (by decide +kernel)
theorem wq_X12_37 {adE adK adV : Nat → Nat} {zr : Nat → Value} {b L0 : Nat} {xs : Nat → Int32} {lo : Nat} : wP (kw_V adE adK adV zr b L0 xs lo) wG "MeetingHouse$Memory" 37 11 8 0 .int := wPb_ok (by decide +kernel) wf_X12_37 (r := "MeetingHouse$Memory") (n := "handles") (d := "I") (by decide +kernel) (by decide +kernel)
theorem wq_X12_40 {adE adK adV : Nat → Nat} {zr : Nat → Value} {b L0 : Nat} {xs : Nat → Int32} {lo : Nat} : wP (kw_V adE adK adV zr b L0 xs lo) wG "MeetingHouse$Memory" 40 11 9 0 .int := wPb_ok (by decide +kernel) wf_X12_40 (r := "MeetingHouse$Memory") (n := "orders") (d := "I") (by decide +kernel) (by decide +kernel)
theorem wq_X12_43 {adE adK adV : Nat → Nat} {zr : Nat → Value} {b L0 : Nat} {xs : Nat → Int32} {lo : Nat} : wP (kw_V adE adK adV zr b L0 xs lo) wG "MeetingHouse$Memory" 43 11 10 0 .int := wPb_ok (by decide +kernel) wf_X12_43 (r := "MeetingHouse$Memory") (n := "spares") (d := "I") (by decide +kernel) (by decide +kernel)
theorem wq_X12_46 {adE adK adV : Nat → Nat} {zr : Nat → Value} {b L0 : Nat} {xs : Nat → Int32} {lo : Nat} : wP (kw_V adE adK adV zr b L0 xs lo) wG "MeetingHouse$Memory" 46 11 11 0 .int := wPb_ok (by decide +kernel) wf_X12_46 (r := "MeetingHouse$Memory") (n := "live") (d := "I") (by decide +kernel) (by decide +kernel)
def zb_X10_clear_p0 (E : zE) (L : Nat) (Q : kx_Rs → wS → Prop) (x0 : Nat) (w : wS) : Prop := Q (.inl none) (ws_i w 9 x0 1 0)
theorem zt_X10_clear_p0 {E : zE} {L : Nat} {Q : kx_Rs → wS → Prop} {x0 : Nat} {w : wS} (hL : 19 ≤ L) (hl0 : w_l w E.2.1 9 x0) (h : zb_X10_clear_p0 E L Q x0 w) : kzE E L kt_M220 0 [(0, .ref (w_adr E.2.1 9 x0))] [] w Q := by
  unfold zb_X10_clear_p0 at h
  refine kz_aload_n (M := kt_M220) kX10_clear_c0.1 rfl ?_
  refine kz_ic (M := kt_M220) 0 kX10_clear_c0.2.1 rfl ?_
  refine kz_pfi (M := kt_M220) (c := 9) (o := x0) kX10_clear_c0.2.2.1 wq_X10_13 (.inr hl0) ?_
  exact kz_ret (M := kt_M220) kX10_clear_c0.2.2.2.1 rfl h
def zb_X10_set_p0 (E : zE) (L : Nat) (Q : kx_Rs → wS → Prop) (x0 : Nat) (x1 : Int32) (x2 : Int32) (w : wS) : Prop := (kx_inb x1 (w_n w 9 x0 0) = true ∧ Q (.inl none) (ws_a w 9 x0 0 (x1).toNatClampNeg x2))
theorem zt_X10_set_p0 {E : zE} {L : Nat} {Q : kx_Rs → wS → Prop} {x0 : Nat} {x1 : Int32} {x2 : Int32} {w : wS} (hL : 19 ≤ L) (hl0 : w_l w E.2.1 9 x0) (h : zb_X10_set_p0 E L Q x0 x1 x2 w) : kzE E L kt_M222 0 [(0, .ref (w_adr E.2.1 9 x0)), (1, .int x1), (2, .int x2)] [] w Q := by
  unfold zb_X10_set_p0 at h
  refine kz_aload_n (M := kt_M222) kX10_set_c0.1 rfl ?_
  refine kz_gfa (M := kt_M222) (c := 9) (o := x0) kX10_set_c0.2.1 wf_X10_7 (.inr hl0) ?_
  refine kz_iload_n (M := kt_M222) kX10_set_c0.2.2.1 rfl ?_
  refine kz_iload_n (M := kt_M222) kX10_set_c0.2.2.2.1 rfl ?_
  refine kz_iast (M := kt_M222) (c := 9) (o := x0) (k := 0) (a := (w_d w 9 x0 0)) kX10_set_c0.2.2.2.2.1 (.inr ⟨.inr hl0, rfl, rfl⟩) rfl ot_0 h (fun h => ?_)
  exact kz_ret (M := kt_M222) kX10_set_c0.2.2.2.2.2.1 rfl h
def zb_X10_get_p0 (E : zE) (L : Nat) (Q : kx_Rs → wS → Prop) (x0 : Nat) (x1 : Int32) (w : wS) : Prop := (kx_inb x1 (w_n w 9 x0 0) = true ∧ Q (.inl (some (.int (w_a w 9 x0 0 (x1).toNatClampNeg)))) w)
theorem zt_X10_get_p0 {E : zE} {L : Nat} {Q : kx_Rs → wS → Prop} {x0 : Nat} {x1 : Int32} {w : wS} (hL : 19 ≤ L) (hl0 : w_l w E.2.1 9 x0) (h : zb_X10_get_p0 E L Q x0 x1 w) : kzE E L kt_M221 0 [(0, .ref (w_adr E.2.1 9 x0)), (1, .int x1)] [] w Q := by
  unfold zb_X10_get_p0 at h
  refine kz_aload_n (M := kt_M221) kX10_get_c0.1 rfl ?_
  refine kz_gfa (M := kt_M221) (c := 9) (o := x0) kX10_get_c0.2.1 wf_X10_7 (.inr hl0) ?_
  refine kz_iload_n (M := kt_M221) kX10_get_c0.2.2.1 rfl ?_
  refine kz_iald (M := kt_M221) (c := 9) (o := x0) (k := 0) (a := (w_d w 9 x0 0)) kX10_get_c0.2.2.2.1 (.inr ⟨.inr hl0, rfl, rfl⟩) rfl ot_0 h (fun h => ?_)
  exact kz_iret (M := kt_M221) kX10_get_c0.2.2.2.2.1 rfl rfl h
def zb_X12_set_p0 (E : zE) (L : Nat) (Q : kx_Rs → wS → Prop) (x1 : Int32) (x2 : Int32) (w : wS) : Prop := (kx_inb (x1 >>> (13 &&& 31)) (w_n w 11 0 1) = true ∧ (kx_inb ((w_a w 11 0 1 ((x1 >>> (13 &&& 31))).toNatClampNeg) + (x1 &&& 8191)) (w_n w 11 0 0) = true ∧ Q (.inl none) (ws_a w 11 0 0 (((w_a w 11 0 1 ((x1 >>> (13 &&& 31))).toNatClampNeg) + (x1 &&& 8191))).toNatClampNeg x2)))
theorem zt_X12_set_p0 {E : zE} {L : Nat} {Q : kx_Rs → wS → Prop} {x1 : Int32} {x2 : Int32} {w : wS} (hL : 19 ≤ L) (h : zb_X12_set_p0 E L Q x1 x2 w) : kzE E L kt_M127 0 [(0, .ref (w_adr E.2.1 11 0)), (1, .int x1), (2, .int x2)] [] w Q := by
  unfold zb_X12_set_p0 at h
  refine kz_aload_n (M := kt_M127) kX12_set_c0.1 rfl ?_
  refine kz_gfa (M := kt_M127) (c := 11) (o := 0) kX12_set_c0.2.1 wf_X12_9 (.inl rfl) ?_
  refine kz_aload_n (M := kt_M127) kX12_set_c0.2.2.1 rfl ?_
  refine kz_gfa (M := kt_M127) (c := 11) (o := 0) kX12_set_c0.2.2.2.1 wf_X12_15 (.inl rfl) ?_
  refine kz_iload_n (M := kt_M127) kX12_set_c0.2.2.2.2.1 rfl ?_
  refine kz_bi (M := kt_M127) 13 kX12_set_c0.2.2.2.2.2.1 rfl ?_
  refine kz_ishr (M := kt_M127) kX12_set_c0.2.2.2.2.2.2.1 ?_
  refine kz_iald (M := kt_M127) (c := 11) (o := 0) (k := 1) (a := (w_d w 11 0 1)) kX12_set_c0.2.2.2.2.2.2.2.1 ow_11_0_1 oa_11_0_1 ot_0 h (fun h => ?_)
  refine kz_iload_n (M := kt_M127) kX12_set_c1.1 rfl ?_
  refine kz_si (M := kt_M127) 8191 kX12_set_c1.2.1 rfl ?_
  refine kz_iand (M := kt_M127) kX12_set_c1.2.2.1 ?_
  refine kz_iadd (M := kt_M127) kX12_set_c1.2.2.2.1 ?_
  refine kz_iload_n (M := kt_M127) kX12_set_c1.2.2.2.2.1 rfl ?_
  refine kz_iast (M := kt_M127) (c := 11) (o := 0) (k := 0) (a := (w_d w 11 0 0)) kX12_set_c1.2.2.2.2.2.1 ow_11_0_0 oa_11_0_0 ot_0 h (fun h => ?_)
  exact kz_ret (M := kt_M127) kX12_set_c1.2.2.2.2.2.2.1 rfl h
def zb_X12_slot_p0 (E : zE) (L : Nat) (Q : kx_Rs → wS → Prop) (x1 : Int32) (x2 : Int32) (w : wS) : Prop := (kx_inb x1 (w_n w 11 0 1) = true ∧ (kx_inb ((w_a w 11 0 1 (x1).toNatClampNeg) + x2) (w_n w 11 0 0) = true ∧ Q (.inl (some (.int (w_a w 11 0 0 (((w_a w 11 0 1 (x1).toNatClampNeg) + x2)).toNatClampNeg)))) w))
theorem zt_X12_slot_p0 {E : zE} {L : Nat} {Q : kx_Rs → wS → Prop} {x1 : Int32} {x2 : Int32} {w : wS} (hL : 19 ≤ L) (h : zb_X12_slot_p0 E L Q x1 x2 w) : kzE E L kt_M129 0 [(0, .ref (w_adr E.2.1 11 0)), (1, .int x1), (2, .int x2)] [] w Q := by
  unfold zb_X12_slot_p0 at h
  refine kz_aload_n (M := kt_M129) kX12_slot_c0.1 rfl ?_
  refine kz_gfa (M := kt_M129) (c := 11) (o := 0) kX12_slot_c0.2.1 wf_X12_9 (.inl rfl) ?_
  refine kz_aload_n (M := kt_M129) kX12_slot_c0.2.2.1 rfl ?_
  refine kz_gfa (M := kt_M129) (c := 11) (o := 0) kX12_slot_c0.2.2.2.1 wf_X12_15 (.inl rfl) ?_
  refine kz_iload_n (M := kt_M129) kX12_slot_c0.2.2.2.2.1 rfl ?_
  refine kz_iald (M := kt_M129) (c := 11) (o := 0) (k := 1) (a := (w_d w 11 0 1)) kX12_slot_c0.2.2.2.2.2.1 ow_11_0_1 oa_11_0_1 ot_0 h (fun h => ?_)
  refine kz_iload_n (M := kt_M129) kX12_slot_c0.2.2.2.2.2.2.1 rfl ?_
  refine kz_iadd (M := kt_M129) kX12_slot_c0.2.2.2.2.2.2.2.1 ?_
  refine kz_iald (M := kt_M129) (c := 11) (o := 0) (k := 0) (a := (w_d w 11 0 0)) kX12_slot_c1.1 ow_11_0_0 oa_11_0_0 ot_0 h (fun h => ?_)
  exact kz_iret (M := kt_M129) kX12_slot_c1.2.1 rfl rfl h
def zb_X12_free_p0 (E : zE) (L : Nat) (Q : kx_Rs → wS → Prop) (x1 : Int32) (w : wS) : Prop := (kx_inb x1 (w_n w 11 0 2) = true ∧ (kx_inb x1 (w_n w 11 0 4) = true ∧ (kx_inb (w_a w 11 0 4 (x1).toNatClampNeg) (w_n w 11 0 5) = true ∧ (kx_inb (w_i w 11 0 10) (w_n w 11 0 6) = true ∧ Q (.inl none) (ws_a (ws_i (ws_a (ws_i w 11 0 11 ((w_i w 11 0 11) - (w_a w 11 0 2 (x1).toNatClampNeg))) 11 0 5 (w_a w 11 0 4 (x1).toNatClampNeg).toNatClampNeg (-1)) 11 0 10 ((w_i w 11 0 10) + 1)) 11 0 6 (w_i w 11 0 10).toNatClampNeg x1)))))
theorem zt_X12_free_p0 {E : zE} {L : Nat} {Q : kx_Rs → wS → Prop} {x1 : Int32} {w : wS} (hL : 19 ≤ L) (h : zb_X12_free_p0 E L Q x1 w) : kzE E L kt_M122 0 [(0, .ref (w_adr E.2.1 11 0)), (1, .int x1)] [] w Q := by
  unfold zb_X12_free_p0 at h
  refine kz_aload_n (M := kt_M122) kX12_free_c0.1 rfl ?_
  refine kz_dup (M := kt_M122) kX12_free_c0.2.1 rfl ?_
  refine kz_gfi (M := kt_M122) (c := 11) (o := 0) kX12_free_c0.2.2.1 wf_X12_46 (.inl rfl) ?_
  refine kz_aload_n (M := kt_M122) kX12_free_c0.2.2.2.1 rfl ?_
  refine kz_gfa (M := kt_M122) (c := 11) (o := 0) kX12_free_c0.2.2.2.2.1 wf_X12_18 (.inl rfl) ?_
  refine kz_iload_n (M := kt_M122) kX12_free_c0.2.2.2.2.2.1 rfl ?_
  refine kz_iald (M := kt_M122) (c := 11) (o := 0) (k := 2) (a := (w_d w 11 0 2)) kX12_free_c0.2.2.2.2.2.2.1 ow_11_0_2 oa_11_0_2 ot_0 h (fun h => ?_)
  refine kz_isub (M := kt_M122) kX12_free_c0.2.2.2.2.2.2.2.1 ?_
  refine kz_pfi (M := kt_M122) (c := 11) (o := 0) kX12_free_c1.1 wq_X12_46 (.inl rfl) ?_
  refine kz_aload_n (M := kt_M122) kX12_free_c1.2.1 rfl ?_
  refine kz_gfa (M := kt_M122) (c := 11) (o := 0) kX12_free_c1.2.2.1 wf_X12_27 (.inl rfl) ?_
  refine kz_aload_n (M := kt_M122) kX12_free_c1.2.2.2.1 rfl ?_
  refine kz_gfa (M := kt_M122) (c := 11) (o := 0) kX12_free_c1.2.2.2.2.1 wf_X12_24 (.inl rfl) ?_
  refine kz_iload_n (M := kt_M122) kX12_free_c1.2.2.2.2.2.1 rfl ?_
  refine kz_ialdR (M := kt_M122) (n := w_n w 11 0 4) (c := 11) (o := 0) (k := 4) (a := (w_d (ws_i w 11 0 11 ((w_i w 11 0 11) - (w_a w 11 0 2 (x1).toNatClampNeg))) 11 0 4)) (w_a w 11 0 4 (x1).toNatClampNeg) kX12_free_c1.2.2.2.2.2.2.1 ow_11_0_4 oa_11_0_4 ot_0 rd_n_i rd_a_i h (fun h => ?_)
  refine kz_ic (M := kt_M122) (-1) kX12_free_c1.2.2.2.2.2.2.2.1 rfl ?_
  refine kz_iastR (M := kt_M122) (n := w_n w 11 0 5) (c := 11) (o := 0) (k := 5) (a := (w_d (ws_i w 11 0 11 ((w_i w 11 0 11) - (w_a w 11 0 2 (x1).toNatClampNeg))) 11 0 5)) kX12_free_c2.1 ow_11_0_5 oa_11_0_5 ot_0 rd_n_i h (fun h => ?_)
  refine kz_aload_n (M := kt_M122) kX12_free_c2.2.1 rfl ?_
  refine kz_gfa (M := kt_M122) (c := 11) (o := 0) kX12_free_c2.2.2.1 wf_X12_30 (.inl rfl) ?_
  refine kz_aload_n (M := kt_M122) kX12_free_c2.2.2.2.1 rfl ?_
  refine kz_dup (M := kt_M122) kX12_free_c2.2.2.2.2.1 rfl ?_
  refine kz_gfiR (M := kt_M122) (c := 11) (o := 0) (w_i w 11 0 10) kX12_free_c2.2.2.2.2.2.1 wf_X12_43 (.inl rfl) (rd_i_a.trans (rd_i_i rfl)) ?_
  refine kz_dup_x1 (M := kt_M122) kX12_free_c2.2.2.2.2.2.2.1 ⟨rfl, rfl⟩ ?_
  refine kz_ic (M := kt_M122) 1 kX12_free_c2.2.2.2.2.2.2.2.1 rfl ?_
  refine kz_iadd (M := kt_M122) kX12_free_c3.1 ?_
  refine kz_pfi (M := kt_M122) (c := 11) (o := 0) kX12_free_c3.2.1 wq_X12_43 (.inl rfl) ?_
  refine kz_iload_n (M := kt_M122) kX12_free_c3.2.2.1 rfl ?_
  refine kz_iastR (M := kt_M122) (n := w_n w 11 0 6) (c := 11) (o := 0) (k := 6) (a := (w_d (ws_a (ws_i w 11 0 11 ((w_i w 11 0 11) - (w_a w 11 0 2 (x1).toNatClampNeg))) 11 0 5 (w_a w 11 0 4 (x1).toNatClampNeg).toNatClampNeg (-1)) 11 0 6)) kX12_free_c3.2.2.2.1 ow_11_0_6 rfl ot_0 (rd_n_i.trans (rd_n_a.trans rd_n_i)) h (fun h => ?_)
  exact kz_ret (M := kt_M122) kX12_free_c3.2.2.2.2.1 rfl h
def zb_X12_get_p0 (E : zE) (L : Nat) (Q : kx_Rs → wS → Prop) (x1 : Int32) (w : wS) : Prop := (kx_inb (x1 >>> (13 &&& 31)) (w_n w 11 0 1) = true ∧ (kx_inb ((w_a w 11 0 1 ((x1 >>> (13 &&& 31))).toNatClampNeg) + (x1 &&& 8191)) (w_n w 11 0 0) = true ∧ Q (.inl (some (.int (w_a w 11 0 0 (((w_a w 11 0 1 ((x1 >>> (13 &&& 31))).toNatClampNeg) + (x1 &&& 8191))).toNatClampNeg)))) w))
theorem zt_X12_get_p0 {E : zE} {L : Nat} {Q : kx_Rs → wS → Prop} {x1 : Int32} {w : wS} (hL : 19 ≤ L) (h : zb_X12_get_p0 E L Q x1 w) : kzE E L kt_M123 0 [(0, .ref (w_adr E.2.1 11 0)), (1, .int x1)] [] w Q := by
  unfold zb_X12_get_p0 at h
  refine kz_aload_n (M := kt_M123) kX12_get_c0.1 rfl ?_
  refine kz_gfa (M := kt_M123) (c := 11) (o := 0) kX12_get_c0.2.1 wf_X12_9 (.inl rfl) ?_
  refine kz_aload_n (M := kt_M123) kX12_get_c0.2.2.1 rfl ?_
  refine kz_gfa (M := kt_M123) (c := 11) (o := 0) kX12_get_c0.2.2.2.1 wf_X12_15 (.inl rfl) ?_
  refine kz_iload_n (M := kt_M123) kX12_get_c0.2.2.2.2.1 rfl ?_
  refine kz_bi (M := kt_M123) 13 kX12_get_c0.2.2.2.2.2.1 rfl ?_
  refine kz_ishr (M := kt_M123) kX12_get_c0.2.2.2.2.2.2.1 ?_
  refine kz_iald (M := kt_M123) (c := 11) (o := 0) (k := 1) (a := (w_d w 11 0 1)) kX12_get_c0.2.2.2.2.2.2.2.1 ow_11_0_1 oa_11_0_1 ot_0 h (fun h => ?_)
  refine kz_iload_n (M := kt_M123) kX12_get_c1.1 rfl ?_
  refine kz_si (M := kt_M123) 8191 kX12_get_c1.2.1 rfl ?_
  refine kz_iand (M := kt_M123) kX12_get_c1.2.2.1 ?_
  refine kz_iadd (M := kt_M123) kX12_get_c1.2.2.2.1 ?_
  refine kz_iald (M := kt_M123) (c := 11) (o := 0) (k := 0) (a := (w_d w 11 0 0)) kX12_get_c1.2.2.2.2.1 ow_11_0_0 oa_11_0_0 ot_0 h (fun h => ?_)
  exact kz_iret (M := kt_M123) kX12_get_c1.2.2.2.2.2.1 rfl rfl h
def zL_X12_make_p195 (E : zE) (L : Nat) (Q : kx_Rs → wS → Prop) (x1 : Int32) (x3 : Int32) (x4 : Int32) (w : wS) : Prop := kzE E L kt_M125 195 [(0, .ref (w_adr E.2.1 11 0)), (1, .int x1), (3, .int x3), (4, .int x4)] [] w Q
def zb_X12_make_p195 (E : zE) (L : Nat) (Q : kx_Rs → wS → Prop) (x1 : Int32) (x3 : Int32) (x4 : Int32) (w : wS) : Prop := (if x1 ≤ x4 then Q (.inl (some (.int x3))) (ws_i (ws_i w 11 0 7 ((w_i w 11 0 7) + x1)) 11 0 11 ((w_i w 11 0 11) + x1)) else (kx_inb ((w_i w 11 0 7) + x4) (w_n w 11 0 0) = true ∧ zL_X12_make_p195 E L Q x1 x3 (x4 + 1) (ws_a w 11 0 0 (((w_i w 11 0 7) + x4)).toNatClampNeg 0)))
theorem zt_X12_make_p195 {E : zE} {L : Nat} {Q : kx_Rs → wS → Prop} {x1 : Int32} {x3 : Int32} {x4 : Int32} {w : wS} (hL : 25 ≤ L) (h : zb_X12_make_p195 E L Q x1 x3 x4 w) : kzE E L kt_M125 195 [(0, .ref (w_adr E.2.1 11 0)), (1, .int x1), (3, .int x3), (4, .int x4)] [] w Q := by
  unfold zb_X12_make_p195 at h
  refine kz_iload (M := kt_M125) kX12_make_c13.2.2.2.2.2.2.1 rfl ?_
  refine kz_iload_n (M := kt_M125) kX12_make_c13.2.2.2.2.2.2.2.1 rfl ?_
  refine kz_icmp_ge (M := kt_M125) kX12_make_c14.1 (t := 220) rfl h (fun h => ?_) (fun h => ?_)
  · skip
    refine kz_aload_n (M := kt_M125) kX12_make_c15.2.2.2.1 rfl ?_
    refine kz_dup (M := kt_M125) kX12_make_c15.2.2.2.2.1 rfl ?_
    refine kz_gfi (M := kt_M125) (c := 11) (o := 0) kX12_make_c15.2.2.2.2.2.1 wf_X12_33 (.inl rfl) ?_
    refine kz_iload_n (M := kt_M125) kX12_make_c15.2.2.2.2.2.2.1 rfl ?_
    refine kz_iadd (M := kt_M125) kX12_make_c15.2.2.2.2.2.2.2.1 ?_
    refine kz_pfi (M := kt_M125) (c := 11) (o := 0) kX12_make_c16.1 wq_X12_33 (.inl rfl) ?_
    refine kz_aload_n (M := kt_M125) kX12_make_c16.2.1 rfl ?_
    refine kz_dup (M := kt_M125) kX12_make_c16.2.2.1 rfl ?_
    refine kz_gfiR (M := kt_M125) (c := 11) (o := 0) (w_i w 11 0 11) kX12_make_c16.2.2.2.1 wf_X12_46 (.inl rfl) (rd_i_i rfl) ?_
    refine kz_iload_n (M := kt_M125) kX12_make_c16.2.2.2.2.1 rfl ?_
    refine kz_iadd (M := kt_M125) kX12_make_c16.2.2.2.2.2.1 ?_
    refine kz_pfi (M := kt_M125) (c := 11) (o := 0) kX12_make_c16.2.2.2.2.2.2.1 wq_X12_46 (.inl rfl) ?_
    refine kz_iload_n (M := kt_M125) kX12_make_c16.2.2.2.2.2.2.2.1 rfl ?_
    exact kz_iret (M := kt_M125) kX12_make_c17.1 rfl rfl h
  · skip
    refine kz_aload_n (M := kt_M125) kX12_make_c14.2.1 rfl ?_
    refine kz_gfa (M := kt_M125) (c := 11) (o := 0) kX12_make_c14.2.2.1 wf_X12_9 (.inl rfl) ?_
    refine kz_aload_n (M := kt_M125) kX12_make_c14.2.2.2.1 rfl ?_
    refine kz_gfi (M := kt_M125) (c := 11) (o := 0) kX12_make_c14.2.2.2.2.1 wf_X12_33 (.inl rfl) ?_
    refine kz_iload (M := kt_M125) kX12_make_c14.2.2.2.2.2.1 rfl ?_
    refine kz_iadd (M := kt_M125) kX12_make_c14.2.2.2.2.2.2.1 ?_
    refine kz_ic (M := kt_M125) 0 kX12_make_c14.2.2.2.2.2.2.2.1 rfl ?_
    refine kz_iast (M := kt_M125) (c := 11) (o := 0) (k := 0) (a := (w_d w 11 0 0)) kX12_make_c15.1 ow_11_0_0 oa_11_0_0 ot_0 h (fun h => ?_)
    refine kz_inc (M := kt_M125) [(0, .ref (w_adr E.2.1 11 0)), (1, .int x1), (3, .int x3)] kX12_make_c15.2.1 rfl (Nat.le_of_ble_eq_true rfl) ⟨⟨rfl, rfl, .inl rfl⟩, ⟨⟨rfl, rfl, .inl rfl⟩, ⟨⟨rfl, rfl, .inr rfl⟩, trivial⟩⟩⟩ rfl ?_
    refine kz_goto (M := kt_M125) kX12_make_c15.2.2.1 (t := 195) rfl ?_
    exact kz_weak [(0, .ref (w_adr E.2.1 11 0)), (1, .int x1), (3, .int x3), (4, .int (x4 + 1))] ⟨rfl, ⟨rfl, ⟨rfl, ⟨rfl, trivial⟩⟩⟩⟩ rfl h
def zb_X12_make_p141 (E : zE) (L : Nat) (Q : kx_Rs → wS → Prop) (x1 : Int32) (x2 : Int32) (x3 : Int32) (w : wS) : Prop := (kx_inb x3 (w_n w 11 0 1) = true ∧ (kx_inb x3 (w_n w 11 0 2) = true ∧ (kx_inb x3 (w_n w 11 0 3) = true ∧ (kx_inb x3 (w_n w 11 0 4) = true ∧ (kx_inb (w_i w 11 0 9) (w_n w 11 0 5) = true ∧ zL_X12_make_p195 E L Q x1 x3 0 (ws_a (ws_i (ws_a (ws_a (ws_a (ws_a w 11 0 1 (x3).toNatClampNeg (w_i w 11 0 7)) 11 0 2 (x3).toNatClampNeg x1) 11 0 3 (x3).toNatClampNeg x2) 11 0 4 (x3).toNatClampNeg (w_i w 11 0 9)) 11 0 9 ((w_i w 11 0 9) + 1)) 11 0 5 (w_i w 11 0 9).toNatClampNeg x3))))))
theorem zt_X12_make_p141 {E : zE} {L : Nat} {Q : kx_Rs → wS → Prop} {x1 : Int32} {x2 : Int32} {x3 : Int32} {w : wS} (hL : 25 ≤ L) (h : zb_X12_make_p141 E L Q x1 x2 x3 w) : kzE E L kt_M125 141 [(0, .ref (w_adr E.2.1 11 0)), (1, .int x1), (2, .int x2), (3, .int x3)] [] w Q := by
  unfold zb_X12_make_p141 at h
  refine kz_aload_n (M := kt_M125) kX12_make_c9.2.2.2.1 rfl ?_
  refine kz_gfa (M := kt_M125) (c := 11) (o := 0) kX12_make_c9.2.2.2.2.1 wf_X12_15 (.inl rfl) ?_
  refine kz_iload_n (M := kt_M125) kX12_make_c9.2.2.2.2.2.1 rfl ?_
  refine kz_aload_n (M := kt_M125) kX12_make_c9.2.2.2.2.2.2.1 rfl ?_
  refine kz_gfi (M := kt_M125) (c := 11) (o := 0) kX12_make_c9.2.2.2.2.2.2.2.1 wf_X12_33 (.inl rfl) ?_
  refine kz_iast (M := kt_M125) (c := 11) (o := 0) (k := 1) (a := (w_d w 11 0 1)) kX12_make_c10.1 ow_11_0_1 oa_11_0_1 ot_0 h (fun h => ?_)
  refine kz_aload_n (M := kt_M125) kX12_make_c10.2.1 rfl ?_
  refine kz_gfa (M := kt_M125) (c := 11) (o := 0) kX12_make_c10.2.2.1 wf_X12_18 (.inl rfl) ?_
  refine kz_iload_n (M := kt_M125) kX12_make_c10.2.2.2.1 rfl ?_
  refine kz_iload_n (M := kt_M125) kX12_make_c10.2.2.2.2.1 rfl ?_
  refine kz_iastR (M := kt_M125) (n := w_n w 11 0 2) (c := 11) (o := 0) (k := 2) (a := (w_d (ws_a w 11 0 1 (x3).toNatClampNeg (w_i w 11 0 7)) 11 0 2)) kX12_make_c10.2.2.2.2.2.1 ow_11_0_2 oa_11_0_2 ot_0 rd_n_a h (fun h => ?_)
  refine kz_aload_n (M := kt_M125) kX12_make_c10.2.2.2.2.2.2.1 rfl ?_
  refine kz_gfa (M := kt_M125) (c := 11) (o := 0) kX12_make_c10.2.2.2.2.2.2.2.1 wf_X12_21 (.inl rfl) ?_
  refine kz_iload_n (M := kt_M125) kX12_make_c11.1 rfl ?_
  refine kz_iload_n (M := kt_M125) kX12_make_c11.2.1 rfl ?_
  refine kz_iastR (M := kt_M125) (n := w_n w 11 0 3) (c := 11) (o := 0) (k := 3) (a := (w_d (ws_a (ws_a w 11 0 1 (x3).toNatClampNeg (w_i w 11 0 7)) 11 0 2 (x3).toNatClampNeg x1) 11 0 3)) kX12_make_c11.2.2.1 ow_11_0_3 oa_11_0_3 ot_0 (rd_n_a.trans rd_n_a) h (fun h => ?_)
  refine kz_aload_n (M := kt_M125) kX12_make_c11.2.2.2.1 rfl ?_
  refine kz_gfa (M := kt_M125) (c := 11) (o := 0) kX12_make_c11.2.2.2.2.1 wf_X12_24 (.inl rfl) ?_
  refine kz_iload_n (M := kt_M125) kX12_make_c11.2.2.2.2.2.1 rfl ?_
  refine kz_aload_n (M := kt_M125) kX12_make_c11.2.2.2.2.2.2.1 rfl ?_
  refine kz_gfiR (M := kt_M125) (c := 11) (o := 0) (w_i w 11 0 9) kX12_make_c11.2.2.2.2.2.2.2.1 wf_X12_40 (.inl rfl) (rd_i_a.trans (rd_i_a.trans rd_i_a)) ?_
  refine kz_iastR (M := kt_M125) (n := w_n w 11 0 4) (c := 11) (o := 0) (k := 4) (a := (w_d (ws_a (ws_a (ws_a w 11 0 1 (x3).toNatClampNeg (w_i w 11 0 7)) 11 0 2 (x3).toNatClampNeg x1) 11 0 3 (x3).toNatClampNeg x2) 11 0 4)) kX12_make_c12.1 ow_11_0_4 oa_11_0_4 ot_0 (rd_n_a.trans (rd_n_a.trans rd_n_a)) h (fun h => ?_)
  refine kz_aload_n (M := kt_M125) kX12_make_c12.2.1 rfl ?_
  refine kz_gfa (M := kt_M125) (c := 11) (o := 0) kX12_make_c12.2.2.1 wf_X12_27 (.inl rfl) ?_
  refine kz_aload_n (M := kt_M125) kX12_make_c12.2.2.2.1 rfl ?_
  refine kz_dup (M := kt_M125) kX12_make_c12.2.2.2.2.1 rfl ?_
  refine kz_gfiR (M := kt_M125) (c := 11) (o := 0) (w_i w 11 0 9) kX12_make_c12.2.2.2.2.2.1 wf_X12_40 (.inl rfl) (rd_i_a.trans (rd_i_a.trans (rd_i_a.trans rd_i_a))) ?_
  refine kz_dup_x1 (M := kt_M125) kX12_make_c12.2.2.2.2.2.2.1 ⟨rfl, rfl⟩ ?_
  refine kz_ic (M := kt_M125) 1 kX12_make_c12.2.2.2.2.2.2.2.1 rfl ?_
  refine kz_iadd (M := kt_M125) kX12_make_c13.1 ?_
  refine kz_pfi (M := kt_M125) (c := 11) (o := 0) kX12_make_c13.2.1 wq_X12_40 (.inl rfl) ?_
  refine kz_iload_n (M := kt_M125) kX12_make_c13.2.2.1 rfl ?_
  refine kz_iastR (M := kt_M125) (n := w_n w 11 0 5) (c := 11) (o := 0) (k := 5) (a := (w_d (ws_a (ws_a (ws_a (ws_a w 11 0 1 (x3).toNatClampNeg (w_i w 11 0 7)) 11 0 2 (x3).toNatClampNeg x1) 11 0 3 (x3).toNatClampNeg x2) 11 0 4 (x3).toNatClampNeg (w_i w 11 0 9)) 11 0 5)) kX12_make_c13.2.2.2.1 ow_11_0_5 rfl ot_0 (rd_n_i.trans (rd_n_a.trans (rd_n_a.trans (rd_n_a.trans rd_n_a)))) h (fun h => ?_)
  refine kz_ic (M := kt_M125) 0 kX12_make_c13.2.2.2.2.1 rfl ?_
  refine kz_sti (M := kt_M125) [(0, .ref (w_adr E.2.1 11 0)), (1, .int x1), (3, .int x3)] kX12_make_c13.2.2.2.2.2.1 (Nat.le_of_ble_eq_true rfl) ⟨⟨rfl, rfl, .inl rfl⟩, ⟨⟨rfl, rfl, .inl rfl⟩, ⟨⟨rfl, rfl, .inr rfl⟩, trivial⟩⟩⟩ rfl ?_
  exact kz_weak [(0, .ref (w_adr E.2.1 11 0)), (1, .int x1), (3, .int x3), (4, .int 0)] ⟨rfl, ⟨rfl, ⟨rfl, ⟨rfl, trivial⟩⟩⟩⟩ rfl h
def zb_X12_make_p68 (E : zE) (L : Nat) (Q : kx_Rs → wS → Prop) (x1 : Int32) (x2 : Int32) (y0 : Int32) (w : wS) : Prop := (if ¬ y0 = (Int32.ofNat (w_n w 11 0 1)) then zb_X12_make_p141 E L Q x1 x2 y0 w else zw E (L - 22) kt_M124 [.ref (w_d w 11 0 1), .int y0] w (wkr (fun v2 w1 => wle w w1 → (∃ a3, v2 = some a3 ∧ (w_o w1 a3 = some (99, a3, 0) ∧ w_t w1 a3 = 0) ∧ zw E (L - 22) kt_M124 [.ref (w_d (ws_put w1 11 0 1 a3) 11 0 2), .int y0] (ws_put w1 11 0 1 a3) (wkr (fun v5 w4 => wle (ws_put w1 11 0 1 a3) w4 → (∃ a6, v5 = some a6 ∧ (w_o w4 a6 = some (99, a6, 0) ∧ w_t w4 a6 = 0) ∧ zw E (L - 22) kt_M124 [.ref (w_d (ws_put w4 11 0 2 a6) 11 0 3), .int y0] (ws_put w4 11 0 2 a6) (wkr (fun v8 w7 => wle (ws_put w4 11 0 2 a6) w7 → (∃ a9, v8 = some a9 ∧ (w_o w7 a9 = some (99, a9, 0) ∧ w_t w7 a9 = 0) ∧ zw E (L - 22) kt_M124 [.ref (w_d (ws_put w7 11 0 3 a9) 11 0 4), .int y0] (ws_put w7 11 0 3 a9) (wkr (fun v11 w10 => wle (ws_put w7 11 0 3 a9) w10 → (∃ a12, v11 = some a12 ∧ (w_o w10 a12 = some (99, a12, 0) ∧ w_t w10 a12 = 0) ∧ zw E (L - 22) kt_M124 [.ref (w_d (ws_put w10 11 0 4 a12) 11 0 6), .int (w_i (ws_put w10 11 0 4 a12) 11 0 10)] (ws_put w10 11 0 4 a12) (wkr (fun v14 w13 => wle (ws_put w10 11 0 4 a12) w13 → (∃ a15, v14 = some a15 ∧ (w_o w13 a15 = some (99, a15, 0) ∧ w_t w13 a15 = 0) ∧ zb_X12_make_p141 E L Q x1 x2 y0 (ws_put w13 11 0 6 a15))) (fun e w => Q (.inr e) w)))) (fun e w => Q (.inr e) w)))) (fun e w => Q (.inr e) w)))) (fun e w => Q (.inr e) w)))) (fun e w => Q (.inr e) w)))
theorem zt_X12_make_p68 {E : zE} {L : Nat} {Q : kx_Rs → wS → Prop} {x1 : Int32} {x2 : Int32} {y0 : Int32} {w : wS} (hL : 25 ≤ L) (h : zb_X12_make_p68 E L Q x1 x2 y0 w) : kzE E L kt_M125 68 [(0, .ref (w_adr E.2.1 11 0)), (1, .int x1), (2, .int x2)] [.int y0] w Q := by
  unfold zb_X12_make_p68 at h
  refine kz_sti_n (M := kt_M125) [(0, .ref (w_adr E.2.1 11 0)), (1, .int x1), (2, .int x2)] kX12_make_c4.2.2.2.2.2.2.1 (Nat.le_of_ble_eq_true rfl) ⟨⟨rfl, rfl, .inl rfl⟩, ⟨⟨rfl, rfl, .inl rfl⟩, ⟨⟨rfl, rfl, .inr rfl⟩, trivial⟩⟩⟩ rfl ?_
  refine kz_iload_n (M := kt_M125) kX12_make_c4.2.2.2.2.2.2.2.1 rfl ?_
  refine kz_aload_n (M := kt_M125) kX12_make_c5.1 rfl ?_
  refine kz_gfa (M := kt_M125) (c := 11) (o := 0) kX12_make_c5.2.1 wf_X12_15 (.inl rfl) ?_
  refine kz_alen (M := kt_M125) (c := 11) (o := 0) (k := 1) (a := (w_d w 11 0 1)) (τ := 0) kX12_make_c5.2.2.1 ow_11_0_1 oa_11_0_1 (Nat.le_of_ble_eq_true rfl) ?_
  refine kz_icmp_ne (M := kt_M125) kX12_make_c5.2.2.2.1 (t := 141) rfl h (fun h => ?_) (fun h => ?_)
  · skip
    exact kz_weak [(0, .ref (w_adr E.2.1 11 0)), (1, .int x1), (2, .int x2), (3, .int y0)] ⟨rfl, ⟨rfl, ⟨rfl, ⟨rfl, trivial⟩⟩⟩⟩ rfl (zt_X12_make_p141 hL  h)
  · skip
    refine kz_aload_n (M := kt_M125) kX12_make_c5.2.2.2.2.1 rfl ?_
    refine kz_aload_n (M := kt_M125) kX12_make_c5.2.2.2.2.2.1 rfl ?_
    refine kz_gfa (M := kt_M125) (c := 11) (o := 0) kX12_make_c5.2.2.2.2.2.2.1 wf_X12_15 (.inl rfl) ?_
    refine kz_iload_n (M := kt_M125) kX12_make_c5.2.2.2.2.2.2.2.1 rfl ?_
    refine kz_csr (M := kt_M125) (As := [.ref (w_d w 11 0 1), .int y0]) (rest := [.ref (w_adr E.2.1 11 0)]) kX12_make_c6.1 wl_X12_59 wMs_124 rfl (Nat.le_trans (Nat.le_of_ble_eq_true rfl) hL) (Nat.le_of_ble_eq_true rfl) (Nat.le_of_ble_eq_true rfl) h (fun v2 w1 hle h => ?_) (fun _ _ _ h => kzx_no rfl h)
    have h := h hle
    obtain ⟨a3, hx, h⟩ := h
    refine kz_nz0 (M := kt_M125) (x := v2) hx ?_
    refine kz_pfa (M := kt_M125) (c := 11) (o := 0) (τ := 0) kX12_make_c6.2.1 wq_X12_15 (.inl rfl) rfl h (fun h => ?_)
    refine kz_aload_n (M := kt_M125) kX12_make_c6.2.2.1 rfl ?_
    refine kz_aload_n (M := kt_M125) kX12_make_c6.2.2.2.1 rfl ?_
    refine kz_gfa (M := kt_M125) (c := 11) (o := 0) kX12_make_c6.2.2.2.2.1 wf_X12_18 (.inl rfl) ?_
    refine kz_iload_n (M := kt_M125) kX12_make_c6.2.2.2.2.2.1 rfl ?_
    refine kz_csr (M := kt_M125) (As := [.ref (w_d (ws_put w1 11 0 1 a3) 11 0 2), .int y0]) (rest := [.ref (w_adr E.2.1 11 0)]) kX12_make_c6.2.2.2.2.2.2.1 wl_X12_59 wMs_124 rfl (Nat.le_trans (Nat.le_of_ble_eq_true rfl) hL) (Nat.le_of_ble_eq_true rfl) (Nat.le_of_ble_eq_true rfl) h (fun v5 w4 hle h => ?_) (fun _ _ _ h => kzx_no rfl h)
    have h := h hle
    obtain ⟨a6, hx, h⟩ := h
    refine kz_nz0 (M := kt_M125) (x := v5) hx ?_
    refine kz_pfa (M := kt_M125) (c := 11) (o := 0) (τ := 0) kX12_make_c6.2.2.2.2.2.2.2.1 wq_X12_18 (.inl rfl) rfl h (fun h => ?_)
    refine kz_aload_n (M := kt_M125) kX12_make_c7.1 rfl ?_
    refine kz_aload_n (M := kt_M125) kX12_make_c7.2.1 rfl ?_
    refine kz_gfa (M := kt_M125) (c := 11) (o := 0) kX12_make_c7.2.2.1 wf_X12_21 (.inl rfl) ?_
    refine kz_iload_n (M := kt_M125) kX12_make_c7.2.2.2.1 rfl ?_
    refine kz_csr (M := kt_M125) (As := [.ref (w_d (ws_put w4 11 0 2 a6) 11 0 3), .int y0]) (rest := [.ref (w_adr E.2.1 11 0)]) kX12_make_c7.2.2.2.2.1 wl_X12_59 wMs_124 rfl (Nat.le_trans (Nat.le_of_ble_eq_true rfl) hL) (Nat.le_of_ble_eq_true rfl) (Nat.le_of_ble_eq_true rfl) h (fun v8 w7 hle h => ?_) (fun _ _ _ h => kzx_no rfl h)
    have h := h hle
    obtain ⟨a9, hx, h⟩ := h
    refine kz_nz0 (M := kt_M125) (x := v8) hx ?_
    refine kz_pfa (M := kt_M125) (c := 11) (o := 0) (τ := 0) kX12_make_c7.2.2.2.2.2.1 wq_X12_21 (.inl rfl) rfl h (fun h => ?_)
    refine kz_aload_n (M := kt_M125) kX12_make_c7.2.2.2.2.2.2.1 rfl ?_
    refine kz_aload_n (M := kt_M125) kX12_make_c7.2.2.2.2.2.2.2.1 rfl ?_
    refine kz_gfa (M := kt_M125) (c := 11) (o := 0) kX12_make_c8.1 wf_X12_24 (.inl rfl) ?_
    refine kz_iload_n (M := kt_M125) kX12_make_c8.2.1 rfl ?_
    refine kz_csr (M := kt_M125) (As := [.ref (w_d (ws_put w7 11 0 3 a9) 11 0 4), .int y0]) (rest := [.ref (w_adr E.2.1 11 0)]) kX12_make_c8.2.2.1 wl_X12_59 wMs_124 rfl (Nat.le_trans (Nat.le_of_ble_eq_true rfl) hL) (Nat.le_of_ble_eq_true rfl) (Nat.le_of_ble_eq_true rfl) h (fun v11 w10 hle h => ?_) (fun _ _ _ h => kzx_no rfl h)
    have h := h hle
    obtain ⟨a12, hx, h⟩ := h
    refine kz_nz0 (M := kt_M125) (x := v11) hx ?_
    refine kz_pfa (M := kt_M125) (c := 11) (o := 0) (τ := 0) kX12_make_c8.2.2.2.1 wq_X12_24 (.inl rfl) rfl h (fun h => ?_)
    refine kz_aload_n (M := kt_M125) kX12_make_c8.2.2.2.2.1 rfl ?_
    refine kz_aload_n (M := kt_M125) kX12_make_c8.2.2.2.2.2.1 rfl ?_
    refine kz_gfa (M := kt_M125) (c := 11) (o := 0) kX12_make_c8.2.2.2.2.2.2.1 wf_X12_30 (.inl rfl) ?_
    refine kz_aload_n (M := kt_M125) kX12_make_c8.2.2.2.2.2.2.2.1 rfl ?_
    refine kz_gfi (M := kt_M125) (c := 11) (o := 0) kX12_make_c9.1 wf_X12_43 (.inl rfl) ?_
    refine kz_csr (M := kt_M125) (As := [.ref (w_d (ws_put w10 11 0 4 a12) 11 0 6), .int (w_i (ws_put w10 11 0 4 a12) 11 0 10)]) (rest := [.ref (w_adr E.2.1 11 0)]) kX12_make_c9.2.1 wl_X12_59 wMs_124 rfl (Nat.le_trans (Nat.le_of_ble_eq_true rfl) hL) (Nat.le_of_ble_eq_true rfl) (Nat.le_of_ble_eq_true rfl) h (fun v14 w13 hle h => ?_) (fun _ _ _ h => kzx_no rfl h)
    have h := h hle
    obtain ⟨a15, hx, h⟩ := h
    refine kz_nz0 (M := kt_M125) (x := v14) hx ?_
    refine kz_pfa (M := kt_M125) (c := 11) (o := 0) (τ := 0) kX12_make_c9.2.2.1 wq_X12_30 (.inl rfl) rfl h (fun h => ?_)
    exact kz_weak [(0, .ref (w_adr E.2.1 11 0)), (1, .int x1), (2, .int x2), (3, .int y0)] ⟨rfl, ⟨rfl, ⟨rfl, ⟨rfl, trivial⟩⟩⟩⟩ rfl (zt_X12_make_p141 hL  h)
def zb_X12_make_p31 (E : zE) (L : Nat) (Q : kx_Rs → wS → Prop) (x1 : Int32) (x2 : Int32) (w : wS) : Prop := (if w_i w 11 0 10 ≤ 0 then zb_X12_make_p68 E L Q x1 x2 (w_i w 11 0 8) (ws_i w 11 0 8 ((w_i w 11 0 8) + 1)) else (kx_inb ((w_i w 11 0 10) - 1) (w_n w 11 0 6) = true ∧ zb_X12_make_p68 E L Q x1 x2 (w_a w 11 0 6 (((w_i w 11 0 10) - 1)).toNatClampNeg) (ws_i w 11 0 10 ((w_i w 11 0 10) - 1))))
theorem zt_X12_make_p31 {E : zE} {L : Nat} {Q : kx_Rs → wS → Prop} {x1 : Int32} {x2 : Int32} {w : wS} (hL : 25 ≤ L) (h : zb_X12_make_p31 E L Q x1 x2 w) : kzE E L kt_M125 31 [(0, .ref (w_adr E.2.1 11 0)), (1, .int x1), (2, .int x2)] [] w Q := by
  unfold zb_X12_make_p31 at h
  refine kz_aload_n (M := kt_M125) kX12_make_c2.2.1 rfl ?_
  refine kz_gfi (M := kt_M125) (c := 11) (o := 0) kX12_make_c2.2.2.1 wf_X12_43 (.inl rfl) ?_
  refine kz_if_le (M := kt_M125) kX12_make_c2.2.2.2.1 (t := 57) rfl h (fun h => ?_) (fun h => ?_)
  · skip
    refine kz_aload_n (M := kt_M125) kX12_make_c3.2.2.2.2.2.2.2.1 rfl ?_
    refine kz_dup (M := kt_M125) kX12_make_c4.1 rfl ?_
    refine kz_gfi (M := kt_M125) (c := 11) (o := 0) kX12_make_c4.2.1 wf_X12_37 (.inl rfl) ?_
    refine kz_dup_x1 (M := kt_M125) kX12_make_c4.2.2.1 ⟨rfl, rfl⟩ ?_
    refine kz_ic (M := kt_M125) 1 kX12_make_c4.2.2.2.1 rfl ?_
    refine kz_iadd (M := kt_M125) kX12_make_c4.2.2.2.2.1 ?_
    refine kz_pfi (M := kt_M125) (c := 11) (o := 0) kX12_make_c4.2.2.2.2.2.1 wq_X12_37 (.inl rfl) ?_
    exact kz_weak [(0, .ref (w_adr E.2.1 11 0)), (1, .int x1), (2, .int x2)] ⟨rfl, ⟨rfl, ⟨rfl, trivial⟩⟩⟩ rfl (zt_X12_make_p68 hL  h)
  · skip
    refine kz_aload_n (M := kt_M125) kX12_make_c2.2.2.2.2.1 rfl ?_
    refine kz_gfa (M := kt_M125) (c := 11) (o := 0) kX12_make_c2.2.2.2.2.2.1 wf_X12_30 (.inl rfl) ?_
    refine kz_aload_n (M := kt_M125) kX12_make_c2.2.2.2.2.2.2.1 rfl ?_
    refine kz_dup (M := kt_M125) kX12_make_c2.2.2.2.2.2.2.2.1 rfl ?_
    refine kz_gfi (M := kt_M125) (c := 11) (o := 0) kX12_make_c3.1 wf_X12_43 (.inl rfl) ?_
    refine kz_ic (M := kt_M125) 1 kX12_make_c3.2.1 rfl ?_
    refine kz_isub (M := kt_M125) kX12_make_c3.2.2.1 ?_
    refine kz_dup_x1 (M := kt_M125) kX12_make_c3.2.2.2.1 ⟨rfl, rfl⟩ ?_
    refine kz_pfi (M := kt_M125) (c := 11) (o := 0) kX12_make_c3.2.2.2.2.1 wq_X12_43 (.inl rfl) ?_
    refine kz_ialdR (M := kt_M125) (n := w_n w 11 0 6) (c := 11) (o := 0) (k := 6) (a := (w_d w 11 0 6)) (w_a w 11 0 6 (((w_i w 11 0 10) - 1)).toNatClampNeg) kX12_make_c3.2.2.2.2.2.1 ow_11_0_6 rfl ot_0 rd_n_i rd_a_i h (fun h => ?_)
    refine kz_goto (M := kt_M125) kX12_make_c3.2.2.2.2.2.2.1 (t := 68) rfl ?_
    exact kz_weak [(0, .ref (w_adr E.2.1 11 0)), (1, .int x1), (2, .int x2)] ⟨rfl, ⟨rfl, ⟨rfl, trivial⟩⟩⟩ rfl (zt_X12_make_p68 hL  h)
def zb_X12_make_p26 (E : zE) (L : Nat) (Q : kx_Rs → wS → Prop) (x1 : Int32) (x2 : Int32) (w : wS) : Prop := zw E (L - 25) kt_M121 [.ref (w_adr E.2.1 11 0), .int x1] w (wk0 (fun w1 => wle w w1 → zb_X12_make_p31 E L Q x1 x2 w1) (fun e w => Q (.inr e) w))
theorem zt_X12_make_p26 {E : zE} {L : Nat} {Q : kx_Rs → wS → Prop} {x1 : Int32} {x2 : Int32} {w : wS} (hL : 25 ≤ L) (h : zb_X12_make_p26 E L Q x1 x2 w) : kzE E L kt_M125 26 [(0, .ref (w_adr E.2.1 11 0)), (1, .int x1), (2, .int x2)] [] w Q := by
  unfold zb_X12_make_p26 at h
  refine kz_aload_n (M := kt_M125) kX12_make_c1.2.2.2.2.2.2.1 rfl ?_
  refine kz_iload_n (M := kt_M125) kX12_make_c1.2.2.2.2.2.2.2.1 rfl ?_
  refine kz_cv0 (M := kt_M125) (c := 11) (o := 0) (As := [.int x1]) (rest := []) kX12_make_c2.1 wl_X12_55 wMv_121 rfl (.inl rfl) rfl (Nat.le_trans (Nat.le_of_ble_eq_true rfl) hL) (Nat.le_of_ble_eq_true rfl) (Nat.le_of_ble_eq_true rfl) h (fun w1 hle h => ?_) (fun _ _ _ h => kzx_no rfl h)
  have h := h hle
  exact kz_weak [(0, .ref (w_adr E.2.1 11 0)), (1, .int x1), (2, .int x2)] ⟨rfl, ⟨rfl, ⟨rfl, trivial⟩⟩⟩ rfl (zt_X12_make_p31 hL  h)
def zb_X12_make_p0 (E : zE) (L : Nat) (Q : kx_Rs → wS → Prop) (x1 : Int32) (x2 : Int32) (w : wS) : Prop := (if (Int32.ofNat (w_n w 11 0 0)) < ((w_i w 11 0 7) + x1) then zb_X12_make_p26 E L Q x1 x2 w else (if ¬ w_i w 11 0 9 = (Int32.ofNat (w_n w 11 0 5)) then zb_X12_make_p31 E L Q x1 x2 w else zb_X12_make_p26 E L Q x1 x2 w))
theorem zt_X12_make_p0 {E : zE} {L : Nat} {Q : kx_Rs → wS → Prop} {x1 : Int32} {x2 : Int32} {w : wS} (hL : 25 ≤ L) (h : zb_X12_make_p0 E L Q x1 x2 w) : kzE E L kt_M125 0 [(0, .ref (w_adr E.2.1 11 0)), (1, .int x1), (2, .int x2)] [] w Q := by
  unfold zb_X12_make_p0 at h
  refine kz_aload_n (M := kt_M125) kX12_make_c0.1 rfl ?_
  refine kz_gfi (M := kt_M125) (c := 11) (o := 0) kX12_make_c0.2.1 wf_X12_33 (.inl rfl) ?_
  refine kz_iload_n (M := kt_M125) kX12_make_c0.2.2.1 rfl ?_
  refine kz_iadd (M := kt_M125) kX12_make_c0.2.2.2.1 ?_
  refine kz_aload_n (M := kt_M125) kX12_make_c0.2.2.2.2.1 rfl ?_
  refine kz_gfa (M := kt_M125) (c := 11) (o := 0) kX12_make_c0.2.2.2.2.2.1 wf_X12_9 (.inl rfl) ?_
  refine kz_alen (M := kt_M125) (c := 11) (o := 0) (k := 0) (a := (w_d w 11 0 0)) (τ := 0) kX12_make_c0.2.2.2.2.2.2.1 ow_11_0_0 oa_11_0_0 (Nat.le_of_ble_eq_true rfl) ?_
  refine kz_icmp_gt (M := kt_M125) kX12_make_c0.2.2.2.2.2.2.2.1 (t := 26) rfl h (fun h => ?_) (fun h => ?_)
  · skip
    exact kz_weak [(0, .ref (w_adr E.2.1 11 0)), (1, .int x1), (2, .int x2)] ⟨rfl, ⟨rfl, ⟨rfl, trivial⟩⟩⟩ rfl (zt_X12_make_p26 hL  h)
  · skip
    refine kz_aload_n (M := kt_M125) kX12_make_c1.1 rfl ?_
    refine kz_gfi (M := kt_M125) (c := 11) (o := 0) kX12_make_c1.2.1 wf_X12_40 (.inl rfl) ?_
    refine kz_aload_n (M := kt_M125) kX12_make_c1.2.2.1 rfl ?_
    refine kz_gfa (M := kt_M125) (c := 11) (o := 0) kX12_make_c1.2.2.2.1 wf_X12_27 (.inl rfl) ?_
    refine kz_alen (M := kt_M125) (c := 11) (o := 0) (k := 5) (a := (w_d w 11 0 5)) (τ := 0) kX12_make_c1.2.2.2.2.1 ow_11_0_5 oa_11_0_5 (Nat.le_of_ble_eq_true rfl) ?_
    refine kz_icmp_ne (M := kt_M125) kX12_make_c1.2.2.2.2.2.1 (t := 31) rfl h (fun h => ?_) (fun h => ?_)
    · skip
      exact kz_weak [(0, .ref (w_adr E.2.1 11 0)), (1, .int x1), (2, .int x2)] ⟨rfl, ⟨rfl, ⟨rfl, trivial⟩⟩⟩ rfl (zt_X12_make_p31 hL  h)
    · skip
      exact kz_weak [(0, .ref (w_adr E.2.1 11 0)), (1, .int x1), (2, .int x2)] ⟨rfl, ⟨rfl, ⟨rfl, trivial⟩⟩⟩ rfl (zt_X12_make_p26 hL  h)
def zb_X12_setSlot_p0 (E : zE) (L : Nat) (Q : kx_Rs → wS → Prop) (x1 : Int32) (x2 : Int32) (x3 : Int32) (w : wS) : Prop := (kx_inb x1 (w_n w 11 0 1) = true ∧ (kx_inb ((w_a w 11 0 1 (x1).toNatClampNeg) + x2) (w_n w 11 0 0) = true ∧ Q (.inl none) (ws_a w 11 0 0 (((w_a w 11 0 1 (x1).toNatClampNeg) + x2)).toNatClampNeg x3)))
theorem zt_X12_setSlot_p0 {E : zE} {L : Nat} {Q : kx_Rs → wS → Prop} {x1 : Int32} {x2 : Int32} {x3 : Int32} {w : wS} (hL : 19 ≤ L) (h : zb_X12_setSlot_p0 E L Q x1 x2 x3 w) : kzE E L kt_M128 0 [(0, .ref (w_adr E.2.1 11 0)), (1, .int x1), (2, .int x2), (3, .int x3)] [] w Q := by
  unfold zb_X12_setSlot_p0 at h
  refine kz_aload_n (M := kt_M128) kX12_setSlot_c0.1 rfl ?_
  refine kz_gfa (M := kt_M128) (c := 11) (o := 0) kX12_setSlot_c0.2.1 wf_X12_9 (.inl rfl) ?_
  refine kz_aload_n (M := kt_M128) kX12_setSlot_c0.2.2.1 rfl ?_
  refine kz_gfa (M := kt_M128) (c := 11) (o := 0) kX12_setSlot_c0.2.2.2.1 wf_X12_15 (.inl rfl) ?_
  refine kz_iload_n (M := kt_M128) kX12_setSlot_c0.2.2.2.2.1 rfl ?_
  refine kz_iald (M := kt_M128) (c := 11) (o := 0) (k := 1) (a := (w_d w 11 0 1)) kX12_setSlot_c0.2.2.2.2.2.1 ow_11_0_1 oa_11_0_1 ot_0 h (fun h => ?_)
  refine kz_iload_n (M := kt_M128) kX12_setSlot_c0.2.2.2.2.2.2.1 rfl ?_
  refine kz_iadd (M := kt_M128) kX12_setSlot_c0.2.2.2.2.2.2.2.1 ?_
  refine kz_iload_n (M := kt_M128) kX12_setSlot_c1.1 rfl ?_
  refine kz_iast (M := kt_M128) (c := 11) (o := 0) (k := 0) (a := (w_d w 11 0 0)) kX12_setSlot_c1.2.1 ow_11_0_0 oa_11_0_0 ot_0 h (fun h => ?_)
  exact kz_ret (M := kt_M128) kX12_setSlot_c1.2.2.1 rfl h
def zb_X12_clear_p0 (E : zE) (L : Nat) (Q : kx_Rs → wS → Prop) (w : wS) : Prop := Q (.inl none) (ws_i (ws_i (ws_i (ws_i (ws_i w 11 0 7 0) 11 0 8 1) 11 0 9 0) 11 0 10 0) 11 0 11 0)
theorem zt_X12_clear_p0 {E : zE} {L : Nat} {Q : kx_Rs → wS → Prop} {w : wS} (hL : 19 ≤ L) (h : zb_X12_clear_p0 E L Q  w) : kzE E L kt_M120 0 [(0, .ref (w_adr E.2.1 11 0))] [] w Q := by
  unfold zb_X12_clear_p0 at h
  refine kz_aload_n (M := kt_M120) kX12_clear_c0.1 rfl ?_
  refine kz_ic (M := kt_M120) 0 kX12_clear_c0.2.1 rfl ?_
  refine kz_pfi (M := kt_M120) (c := 11) (o := 0) kX12_clear_c0.2.2.1 wq_X12_33 (.inl rfl) ?_
  refine kz_aload_n (M := kt_M120) kX12_clear_c0.2.2.2.1 rfl ?_
  refine kz_ic (M := kt_M120) 1 kX12_clear_c0.2.2.2.2.1 rfl ?_
  refine kz_pfi (M := kt_M120) (c := 11) (o := 0) kX12_clear_c0.2.2.2.2.2.1 wq_X12_37 (.inl rfl) ?_
  refine kz_aload_n (M := kt_M120) kX12_clear_c0.2.2.2.2.2.2.1 rfl ?_
  refine kz_ic (M := kt_M120) 0 kX12_clear_c0.2.2.2.2.2.2.2.1 rfl ?_
  refine kz_pfi (M := kt_M120) (c := 11) (o := 0) kX12_clear_c1.1 wq_X12_40 (.inl rfl) ?_
  refine kz_aload_n (M := kt_M120) kX12_clear_c1.2.1 rfl ?_
  refine kz_ic (M := kt_M120) 0 kX12_clear_c1.2.2.1 rfl ?_
  refine kz_pfi (M := kt_M120) (c := 11) (o := 0) kX12_clear_c1.2.2.2.1 wq_X12_43 (.inl rfl) ?_
  refine kz_aload_n (M := kt_M120) kX12_clear_c1.2.2.2.2.1 rfl ?_
  refine kz_ic (M := kt_M120) 0 kX12_clear_c1.2.2.2.2.2.1 rfl ?_
  refine kz_pfi (M := kt_M120) (c := 11) (o := 0) kX12_clear_c1.2.2.2.2.2.2.1 wq_X12_46 (.inl rfl) ?_
  exact kz_ret (M := kt_M120) kX12_clear_c1.2.2.2.2.2.2.2.1 rfl h
