/-! ===== methods over the typed state (printed by tools/gen_lift.py) ===== -/
set_option maxRecDepth 100000
theorem wq_X13_295 {adE adK adV : Nat → Nat} {zr : Nat → Value} {b L0 : Nat} {xs : Nat → Int32} {lo : Nat} : wP (kw_V adE adK adV zr b L0 xs lo) wG "MeetingHouseModel" 295 12 81 3 (.array .int) := wPb_ok (by decide +kernel) wf_X13_295 (r := "MeetingHouseModel") (n := "effectOf") (d := "[I") (by decide +kernel) (by decide +kernel)
theorem wq_X13_298 {adE adK adV : Nat → Nat} {zr : Nat → Value} {b L0 : Nat} {xs : Nat → Int32} {lo : Nat} : wP (kw_V adE adK adV zr b L0 xs lo) wG "MeetingHouseModel" 298 12 82 3 (.array .int) := wPb_ok (by decide +kernel) wf_X13_298 (r := "MeetingHouseModel") (n := "effectHow") (d := "[I") (by decide +kernel) (by decide +kernel)
theorem wq_X13_350 {adE adK adV : Nat → Nat} {zr : Nat → Value} {b L0 : Nat} {xs : Nat → Int32} {lo : Nat} : wP (kw_V adE adK adV zr b L0 xs lo) wG "MeetingHouseModel" 350 12 111 3 (.array .int) := wPb_ok (by decide +kernel) wf_X13_350 (r := "MeetingHouseModel") (n := "heap") (d := "[I") (by decide +kernel) (by decide +kernel)
theorem wq_X13_353 {adE adK adV : Nat → Nat} {zr : Nat → Value} {b L0 : Nat} {xs : Nat → Int32} {lo : Nat} : wP (kw_V adE adK adV zr b L0 xs lo) wG "MeetingHouseModel" 353 12 112 3 (.array .int) := wPb_ok (by decide +kernel) wf_X13_353 (r := "MeetingHouseModel") (n := "changedBy") (d := "[I") (by decide +kernel) (by decide +kernel)
theorem wq_X13_356 {adE adK adV : Nat → Nat} {zr : Nat → Value} {b L0 : Nat} {xs : Nat → Int32} {lo : Nat} : wP (kw_V adE adK adV zr b L0 xs lo) wG "MeetingHouseModel" 356 12 113 3 (.array .int) := wPb_ok (by decide +kernel) wf_X13_356 (r := "MeetingHouseModel") (n := "usedBy") (d := "[I") (by decide +kernel) (by decide +kernel)
theorem wq_X13_359 {adE adK adV : Nat → Nat} {zr : Nat → Value} {b L0 : Nat} {xs : Nat → Int32} {lo : Nat} : wP (kw_V adE adK adV zr b L0 xs lo) wG "MeetingHouseModel" 359 12 116 3 (.array .int) := wPb_ok (by decide +kernel) wf_X13_359 (r := "MeetingHouseModel") (n := "pieceAt") (d := "[I") (by decide +kernel) (by decide +kernel)
theorem wq_X13_362 {adE adK adV : Nat → Nat} {zr : Nat → Value} {b L0 : Nat} {xs : Nat → Int32} {lo : Nat} : wP (kw_V adE adK adV zr b L0 xs lo) wG "MeetingHouseModel" 362 12 117 3 (.array .int) := wPb_ok (by decide +kernel) wf_X13_362 (r := "MeetingHouseModel") (n := "pieceSize") (d := "[I") (by decide +kernel) (by decide +kernel)
theorem wq_X13_370 {adE adK adV : Nat → Nat} {zr : Nat → Value} {b L0 : Nat} {xs : Nat → Int32} {lo : Nat} : wP (kw_V adE adK adV zr b L0 xs lo) wG "MeetingHouseModel" 370 12 121 3 (.array .int) := wPb_ok (by decide +kernel) wf_X13_370 (r := "MeetingHouseModel") (n := "gapAt") (d := "[I") (by decide +kernel) (by decide +kernel)
theorem wq_X13_373 {adE adK adV : Nat → Nat} {zr : Nat → Value} {b L0 : Nat} {xs : Nat → Int32} {lo : Nat} : wP (kw_V adE adK adV zr b L0 xs lo) wG "MeetingHouseModel" 373 12 122 3 (.array .int) := wPb_ok (by decide +kernel) wf_X13_373 (r := "MeetingHouseModel") (n := "gapSize") (d := "[I") (by decide +kernel) (by decide +kernel)
theorem wq_X13_439 {adE adK adV : Nat → Nat} {zr : Nat → Value} {b L0 : Nat} {xs : Nat → Int32} {lo : Nat} : wP (kw_V adE adK adV zr b L0 xs lo) wG "MeetingHouseModel" 439 12 171 3 (.array .int) := wPb_ok (by decide +kernel) wf_X13_439 (r := "MeetingHouseModel") (n := "tableAt") (d := "[I") (by decide +kernel) (by decide +kernel)
theorem wq_X13_442 {adE adK adV : Nat → Nat} {zr : Nat → Value} {b L0 : Nat} {xs : Nat → Int32} {lo : Nat} : wP (kw_V adE adK adV zr b L0 xs lo) wG "MeetingHouseModel" 442 12 172 3 (.array .int) := wPb_ok (by decide +kernel) wf_X13_442 (r := "MeetingHouseModel") (n := "tableSize") (d := "[I") (by decide +kernel) (by decide +kernel)
theorem wq_X13_445 {adE adK adV : Nat → Nat} {zr : Nat → Value} {b L0 : Nat} {xs : Nat → Int32} {lo : Nat} : wP (kw_V adE adK adV zr b L0 xs lo) wG "MeetingHouseModel" 445 12 175 3 (.array .int) := wPb_ok (by decide +kernel) wf_X13_445 (r := "MeetingHouseModel") (n := "vAt") (d := "[I") (by decide +kernel) (by decide +kernel)
theorem wq_X13_448 {adE adK adV : Nat → Nat} {zr : Nat → Value} {b L0 : Nat} {xs : Nat → Int32} {lo : Nat} : wP (kw_V adE adK adV zr b L0 xs lo) wG "MeetingHouseModel" 448 12 176 3 (.array .int) := wPb_ok (by decide +kernel) wf_X13_448 (r := "MeetingHouseModel") (n := "vSize") (d := "[I") (by decide +kernel) (by decide +kernel)
def zL_X13_longer_p9 (E : zE) (L : Nat) (Q : kx_Rs → wS → Prop) (c0 o0 k0 : Nat) (x1 : Nat) (x2 : Int32) (w : wS) : Prop := kzE E L kt_M461 9 [(0, .ref (w_aa wG E.2.1 w c0 o0 k0)), (1, .ref x1), (2, .int x2)] [] w Q
def zb_X13_longer_p9 (E : zE) (L : Nat) (Q : kx_Rs → wS → Prop) (c0 o0 k0 : Nat) (x1 : Nat) (x2 : Int32) (w : wS) : Prop := (if (Int32.ofNat (w_n w c0 o0 k0)) ≤ x2 then Q (.inl (some (.ref x1))) w else (kx_inb x2 (w_n w c0 o0 k0) = true ∧ ((w_o w x1 = some (99, x1, 0) ∧ w_t w x1 = 0) ∧ kx_inb x2 (w_n w 99 x1 0) = true ∧ zL_X13_longer_p9 E L Q c0 o0 k0 x1 (x2 + 1) (ws_a w 99 x1 0 (x2).toNatClampNeg (w_a w c0 o0 k0 (x2).toNatClampNeg)))))
theorem zt_X13_longer_p9 {E : zE} {L : Nat} {Q : kx_Rs → wS → Prop} {c0 o0 k0 : Nat} {x1 : Nat} {x2 : Int32} {w : wS} (hL : 19 ≤ L) (ho0 : w_own w wG E.2.1 0 c0 o0 k0) (h : zb_X13_longer_p9 E L Q c0 o0 k0 x1 x2 w) : kzE E L kt_M461 9 [(0, .ref (w_aa wG E.2.1 w c0 o0 k0)), (1, .ref x1), (2, .int x2)] [] w Q := by
  unfold zb_X13_longer_p9 at h
  refine kz_iload_n (M := kt_M461) kX13_longer_c1.1 rfl ?_
  refine kz_aload_n (M := kt_M461) kX13_longer_c1.2.1 rfl ?_
  refine kz_alen (M := kt_M461) (c := c0) (o := o0) (k := k0) (a := (w_aa wG E.2.1 w c0 o0 k0)) (τ := 0) kX13_longer_c1.2.2.1 ho0 rfl (Nat.le_of_ble_eq_true rfl) ?_
  refine kz_icmp_ge (M := kt_M461) kX13_longer_c1.2.2.2.1 (t := 27) rfl h (fun h => ?_) (fun h => ?_)
  · skip
    refine kz_aload_n (M := kt_M461) kX13_longer_c2.2.2.2.2.1 rfl ?_
    exact kz_areta (M := kt_M461) kX13_longer_c2.2.2.2.2.2.1 rfl h
  · skip
    refine kz_aload_n (M := kt_M461) kX13_longer_c1.2.2.2.2.1 rfl ?_
    refine kz_iload_n (M := kt_M461) kX13_longer_c1.2.2.2.2.2.1 rfl ?_
    refine kz_aload_n (M := kt_M461) kX13_longer_c1.2.2.2.2.2.2.1 rfl ?_
    refine kz_iload_n (M := kt_M461) kX13_longer_c1.2.2.2.2.2.2.2.1 rfl ?_
    refine kz_iald (M := kt_M461) (c := c0) (o := o0) (k := k0) (a := (w_aa wG E.2.1 w c0 o0 k0)) kX13_longer_c2.1 ho0 rfl ot_0 h (fun h => ?_)
    obtain ⟨h0, h⟩ := h
    refine kz_iast (M := kt_M461) (c := 99) (o := x1) (k := 0) (a := x1) kX13_longer_c2.2.1 (.inl ⟨rfl, rfl, h0.1, h0.2⟩) rfl ot_0 h (fun h => ?_)
    refine kz_inc (M := kt_M461) [(0, .ref (w_aa wG E.2.1 (ws_a w 99 x1 0 (x2).toNatClampNeg (w_a w c0 o0 k0 (x2).toNatClampNeg)) c0 o0 k0)), (1, .ref x1)] kX13_longer_c2.2.2.1 rfl (Nat.le_of_ble_eq_true rfl) ⟨⟨rfl, rfl, .inl rfl⟩, ⟨⟨rfl, rfl, .inr rfl⟩, trivial⟩⟩ rfl ?_
    refine kz_goto (M := kt_M461) kX13_longer_c2.2.2.2.1 (t := 9) rfl ?_
    exact kz_weak [(0, .ref (w_aa wG E.2.1 (ws_a w 99 x1 0 (x2).toNatClampNeg (w_a w c0 o0 k0 (x2).toNatClampNeg)) c0 o0 k0)), (1, .ref x1), (2, .int (x2 + 1))] ⟨rfl, ⟨rfl, ⟨rfl, trivial⟩⟩⟩ rfl h
def zb_X13_longer_p0 (E : zE) (L : Nat) (Q : kx_Rs → wS → Prop) (c0 o0 k0 : Nat) (w : wS) : Prop := ((¬ (2 * (Int32.ofNat (w_n w c0 o0 k0))) < 0 ∧ ((2 * (Int32.ofNat (w_n w c0 o0 k0)))).toNatClampNeg * 4 ≤ 536870912 ∧ 1 ≤ w_C w ∧ ((2 * (Int32.ofNat (w_n w c0 o0 k0)))).toNatClampNeg ≤ w_S w) ∧ zL_X13_longer_p9 E L Q c0 o0 k0 (w_z w) 0 (ws_new w 0 ((2 * (Int32.ofNat (w_n w c0 o0 k0)))).toNatClampNeg))
theorem zt_X13_longer_p0 {E : zE} {L : Nat} {Q : kx_Rs → wS → Prop} {c0 o0 k0 : Nat} {w : wS} (hL : 19 ≤ L) (ho0 : w_own w wG E.2.1 0 c0 o0 k0) (h : zb_X13_longer_p0 E L Q c0 o0 k0 w) : kzE E L kt_M461 0 [(0, .ref (w_aa wG E.2.1 w c0 o0 k0))] [] w Q := by
  unfold zb_X13_longer_p0 at h
  refine kz_ic (M := kt_M461) 2 kX13_longer_c0.1 rfl ?_
  refine kz_aload_n (M := kt_M461) kX13_longer_c0.2.1 rfl ?_
  refine kz_alen (M := kt_M461) (c := c0) (o := o0) (k := k0) (a := (w_aa wG E.2.1 w c0 o0 k0)) (τ := 0) kX13_longer_c0.2.2.1 ho0 rfl (Nat.le_of_ble_eq_true rfl) ?_
  refine kz_imul (M := kt_M461) kX13_longer_c0.2.2.2.1 ?_
  refine kz_newi (M := kt_M461) kX13_longer_c0.2.2.2.2.1 ot_f0 ot_0 ot_ai h (fun h => ?_)
  refine kz_sta_n (M := kt_M461) [(0, .ref (w_aa wG E.2.1 (ws_new w 0 ((2 * (Int32.ofNat (w_n w c0 o0 k0)))).toNatClampNeg) c0 o0 k0))] kX13_longer_c0.2.2.2.2.2.1 (Nat.le_of_ble_eq_true rfl) ⟨⟨rfl, rfl, .inr rfl⟩, trivial⟩ rfl ?_
  refine kz_ic (M := kt_M461) 0 kX13_longer_c0.2.2.2.2.2.2.1 rfl ?_
  refine kz_sti_n (M := kt_M461) [(0, .ref (w_aa wG E.2.1 (ws_new w 0 ((2 * (Int32.ofNat (w_n w c0 o0 k0)))).toNatClampNeg) c0 o0 k0)), (1, .ref (w_z w))] kX13_longer_c0.2.2.2.2.2.2.2.1 (Nat.le_of_ble_eq_true rfl) ⟨⟨rfl, rfl, .inl rfl⟩, ⟨⟨rfl, rfl, .inr rfl⟩, trivial⟩⟩ rfl ?_
  exact kz_weak [(0, .ref (w_aa wG E.2.1 (ws_new w 0 ((2 * (Int32.ofNat (w_n w c0 o0 k0)))).toNatClampNeg) c0 o0 k0)), (1, .ref (w_z w)), (2, .int 0)] ⟨rfl, ⟨rfl, ⟨rfl, trivial⟩⟩⟩ rfl h
def zL_X13_give_p145 (E : zE) (L : Nat) (Q : kx_Rs → wS → Prop) (x1 : Int32) (x2 : Int32) (x3 : Int32) (w : wS) : Prop := kzE E L kt_M419 145 [(0, .ref (w_adr E.2.1 12 0)), (1, .int x1), (2, .int x2), (3, .int x3)] [] w Q
def zL_X13_give_p95 (E : zE) (L : Nat) (Q : kx_Rs → wS → Prop) (x1 : Int32) (x2 : Int32) (w : wS) : Prop := kzE E L kt_M419 95 [(0, .ref (w_adr E.2.1 12 0)), (1, .int x1), (2, .int x2)] [] w Q
def zL_X13_give_p4 (E : zE) (L : Nat) (Q : kx_Rs → wS → Prop) (x1 : Int32) (x2 : Int32) (x3 : Int32) (w : wS) : Prop := kzE E L kt_M419 4 [(0, .ref (w_adr E.2.1 12 0)), (1, .int x1), (2, .int x2), (3, .int x3)] [] w Q
def zb_X13_give_p145 (E : zE) (L : Nat) (Q : kx_Rs → wS → Prop) (x1 : Int32) (x2 : Int32) (x3 : Int32) (w : wS) : Prop := (if (x2 + x1) ≤ x3 then Q (.inl (some (.int x2))) w else (kx_inb x3 (w_n w 12 0 111) = true ∧ (kx_inb x3 (w_n w 12 0 112) = true ∧ (kx_inb x3 (w_n w 12 0 113) = true ∧ zL_X13_give_p145 E L Q x1 x2 (x3 + 1) (ws_a (ws_a (ws_a w 12 0 111 (x3).toNatClampNeg 0) 12 0 112 (x3).toNatClampNeg (-1)) 12 0 113 (x3).toNatClampNeg (-1))))))
theorem zt_X13_give_p145 {E : zE} {L : Nat} {Q : kx_Rs → wS → Prop} {x1 : Int32} {x2 : Int32} {x3 : Int32} {w : wS} (hL : 22 ≤ L) (h : zb_X13_give_p145 E L Q x1 x2 x3 w) : kzE E L kt_M419 145 [(0, .ref (w_adr E.2.1 12 0)), (1, .int x1), (2, .int x2), (3, .int x3)] [] w Q := by
  unfold zb_X13_give_p145 at h
  refine kz_iload_n (M := kt_M419) kX13_give_c10.2.2.2.1 rfl ?_
  refine kz_iload_n (M := kt_M419) kX13_give_c10.2.2.2.2.1 rfl ?_
  refine kz_iload_n (M := kt_M419) kX13_give_c10.2.2.2.2.2.1 rfl ?_
  refine kz_iadd (M := kt_M419) kX13_give_c10.2.2.2.2.2.2.1 ?_
  refine kz_icmp_ge (M := kt_M419) kX13_give_c10.2.2.2.2.2.2.2.1 (t := 179) rfl h (fun h => ?_) (fun h => ?_)
  · skip
    refine kz_iload_n (M := kt_M419) kX13_give_c13.2.1 rfl ?_
    exact kz_iret (M := kt_M419) kX13_give_c13.2.2.1 rfl rfl h
  · skip
    refine kz_aload_n (M := kt_M419) kX13_give_c11.1 rfl ?_
    refine kz_gfa (M := kt_M419) (c := 12) (o := 0) kX13_give_c11.2.1 wf_X13_350 (.inl rfl) ?_
    refine kz_iload_n (M := kt_M419) kX13_give_c11.2.2.1 rfl ?_
    refine kz_ic (M := kt_M419) 0 kX13_give_c11.2.2.2.1 rfl ?_
    refine kz_iast (M := kt_M419) (c := 12) (o := 0) (k := 111) (a := (w_d w 12 0 111)) kX13_give_c11.2.2.2.2.1 ow_12_0_111 oa_12_0_111 ot_0 h (fun h => ?_)
    refine kz_aload_n (M := kt_M419) kX13_give_c11.2.2.2.2.2.1 rfl ?_
    refine kz_gfa (M := kt_M419) (c := 12) (o := 0) kX13_give_c11.2.2.2.2.2.2.1 wf_X13_353 (.inl rfl) ?_
    refine kz_iload_n (M := kt_M419) kX13_give_c11.2.2.2.2.2.2.2.1 rfl ?_
    refine kz_ic (M := kt_M419) (-1) kX13_give_c12.1 rfl ?_
    refine kz_iastR (M := kt_M419) (n := w_n w 12 0 112) (c := 12) (o := 0) (k := 112) (a := (w_d (ws_a w 12 0 111 (x3).toNatClampNeg 0) 12 0 112)) kX13_give_c12.2.1 ow_12_0_112 oa_12_0_112 ot_0 rd_n_a h (fun h => ?_)
    refine kz_aload_n (M := kt_M419) kX13_give_c12.2.2.1 rfl ?_
    refine kz_gfa (M := kt_M419) (c := 12) (o := 0) kX13_give_c12.2.2.2.1 wf_X13_356 (.inl rfl) ?_
    refine kz_iload_n (M := kt_M419) kX13_give_c12.2.2.2.2.1 rfl ?_
    refine kz_ic (M := kt_M419) (-1) kX13_give_c12.2.2.2.2.2.1 rfl ?_
    refine kz_iastR (M := kt_M419) (n := w_n w 12 0 113) (c := 12) (o := 0) (k := 113) (a := (w_d (ws_a (ws_a w 12 0 111 (x3).toNatClampNeg 0) 12 0 112 (x3).toNatClampNeg (-1)) 12 0 113)) kX13_give_c12.2.2.2.2.2.2.1 ow_12_0_113 oa_12_0_113 ot_0 (rd_n_a.trans rd_n_a) h (fun h => ?_)
    refine kz_inc (M := kt_M419) [(0, .ref (w_adr E.2.1 12 0)), (1, .int x1), (2, .int x2)] kX13_give_c12.2.2.2.2.2.2.2.1 rfl (Nat.le_of_ble_eq_true rfl) ⟨⟨rfl, rfl, .inl rfl⟩, ⟨⟨rfl, rfl, .inl rfl⟩, ⟨⟨rfl, rfl, .inr rfl⟩, trivial⟩⟩⟩ rfl ?_
    refine kz_goto (M := kt_M419) kX13_give_c13.1 (t := 145) rfl ?_
    exact kz_weak [(0, .ref (w_adr E.2.1 12 0)), (1, .int x1), (2, .int x2), (3, .int (x3 + 1))] ⟨rfl, ⟨rfl, ⟨rfl, ⟨rfl, trivial⟩⟩⟩⟩ rfl h
def zb_X13_give_p143 (E : zE) (L : Nat) (Q : kx_Rs → wS → Prop) (x1 : Int32) (x2 : Int32) (w : wS) : Prop := zL_X13_give_p145 E L Q x1 x2 x2 w
theorem zt_X13_give_p143 {E : zE} {L : Nat} {Q : kx_Rs → wS → Prop} {x1 : Int32} {x2 : Int32} {w : wS} (hL : 22 ≤ L) (h : zb_X13_give_p143 E L Q x1 x2 w) : kzE E L kt_M419 143 [(0, .ref (w_adr E.2.1 12 0)), (1, .int x1), (2, .int x2)] [] w Q := by
  unfold zb_X13_give_p143 at h
  refine kz_iload_n (M := kt_M419) kX13_give_c10.2.1 rfl ?_
  refine kz_sti_n (M := kt_M419) [(0, .ref (w_adr E.2.1 12 0)), (1, .int x1), (2, .int x2)] kX13_give_c10.2.2.1 (Nat.le_of_ble_eq_true rfl) ⟨⟨rfl, rfl, .inl rfl⟩, ⟨⟨rfl, rfl, .inl rfl⟩, ⟨⟨rfl, rfl, .inr rfl⟩, trivial⟩⟩⟩ rfl ?_
  exact kz_weak [(0, .ref (w_adr E.2.1 12 0)), (1, .int x1), (2, .int x2), (3, .int x2)] ⟨rfl, ⟨rfl, ⟨rfl, ⟨rfl, trivial⟩⟩⟩⟩ rfl h
def zb_X13_give_p95 (E : zE) (L : Nat) (Q : kx_Rs → wS → Prop) (x1 : Int32) (x2 : Int32) (w : wS) : Prop := (if w_i w 12 0 114 ≤ (Int32.ofNat (w_n w 12 0 111)) then zb_X13_give_p143 E L Q x1 x2 w else zw E (L - 22) kt_M461 [.ref (w_d w 12 0 111)] w (wkr (fun v2 w1 => wle w w1 → (∃ a3, v2 = some a3 ∧ (w_o w1 a3 = some (99, a3, 0) ∧ w_t w1 a3 = 0) ∧ zw E (L - 22) kt_M461 [.ref (w_d (ws_put w1 12 0 111 a3) 12 0 112)] (ws_put w1 12 0 111 a3) (wkr (fun v5 w4 => wle (ws_put w1 12 0 111 a3) w4 → (∃ a6, v5 = some a6 ∧ (w_o w4 a6 = some (99, a6, 0) ∧ w_t w4 a6 = 0) ∧ zw E (L - 22) kt_M461 [.ref (w_d (ws_put w4 12 0 112 a6) 12 0 113)] (ws_put w4 12 0 112 a6) (wkr (fun v8 w7 => wle (ws_put w4 12 0 112 a6) w7 → (∃ a9, v8 = some a9 ∧ (w_o w7 a9 = some (99, a9, 0) ∧ w_t w7 a9 = 0) ∧ zL_X13_give_p95 E L Q x1 x2 (ws_put w7 12 0 113 a9))) (fun e w => Q (.inr e) w)))) (fun e w => Q (.inr e) w)))) (fun e w => Q (.inr e) w)))
theorem zt_X13_give_p95 {E : zE} {L : Nat} {Q : kx_Rs → wS → Prop} {x1 : Int32} {x2 : Int32} {w : wS} (hL : 22 ≤ L) (h : zb_X13_give_p95 E L Q x1 x2 w) : kzE E L kt_M419 95 [(0, .ref (w_adr E.2.1 12 0)), (1, .int x1), (2, .int x2)] [] w Q := by
  unfold zb_X13_give_p95 at h
  refine kz_aload_n (M := kt_M419) kX13_give_c7.2.2.2.1 rfl ?_
  refine kz_gfi (M := kt_M419) (c := 12) (o := 0) kX13_give_c7.2.2.2.2.1 wf_X13_1149 (.inl rfl) ?_
  refine kz_aload_n (M := kt_M419) kX13_give_c7.2.2.2.2.2.1 rfl ?_
  refine kz_gfa (M := kt_M419) (c := 12) (o := 0) kX13_give_c7.2.2.2.2.2.2.1 wf_X13_350 (.inl rfl) ?_
  refine kz_alen (M := kt_M419) (c := 12) (o := 0) (k := 111) (a := (w_d w 12 0 111)) (τ := 0) kX13_give_c7.2.2.2.2.2.2.2.1 ow_12_0_111 oa_12_0_111 (Nat.le_of_ble_eq_true rfl) ?_
  refine kz_icmp_le (M := kt_M419) kX13_give_c8.1 (t := 143) rfl h (fun h => ?_) (fun h => ?_)
  · skip
    exact kz_weak [(0, .ref (w_adr E.2.1 12 0)), (1, .int x1), (2, .int x2)] ⟨rfl, ⟨rfl, ⟨rfl, trivial⟩⟩⟩ rfl (zt_X13_give_p143 hL  h)
  · skip
    refine kz_aload_n (M := kt_M419) kX13_give_c8.2.1 rfl ?_
    refine kz_aload_n (M := kt_M419) kX13_give_c8.2.2.1 rfl ?_
    refine kz_gfa (M := kt_M419) (c := 12) (o := 0) kX13_give_c8.2.2.2.1 wf_X13_350 (.inl rfl) ?_
    refine kz_csr (M := kt_M419) (As := [.ref (w_d w 12 0 111)]) (rest := [.ref (w_adr E.2.1 12 0)]) kX13_give_c8.2.2.2.2.1 wl_X13_1007 wMs_461 rfl (Nat.le_trans (Nat.le_of_ble_eq_true rfl) hL) (Nat.le_of_ble_eq_true rfl) (Nat.le_of_ble_eq_true rfl) h (fun v2 w1 hle h => ?_) (fun _ _ _ h => kzx_no rfl h)
    have h := h hle
    obtain ⟨a3, hx, h⟩ := h
    refine kz_nz0 (M := kt_M419) (x := v2) hx ?_
    refine kz_pfa (M := kt_M419) (c := 12) (o := 0) (τ := 0) kX13_give_c8.2.2.2.2.2.1 wq_X13_350 (.inl rfl) rfl h (fun h => ?_)
    refine kz_aload_n (M := kt_M419) kX13_give_c8.2.2.2.2.2.2.1 rfl ?_
    refine kz_aload_n (M := kt_M419) kX13_give_c8.2.2.2.2.2.2.2.1 rfl ?_
    refine kz_gfa (M := kt_M419) (c := 12) (o := 0) kX13_give_c9.1 wf_X13_353 (.inl rfl) ?_
    refine kz_csr (M := kt_M419) (As := [.ref (w_d (ws_put w1 12 0 111 a3) 12 0 112)]) (rest := [.ref (w_adr E.2.1 12 0)]) kX13_give_c9.2.1 wl_X13_1007 wMs_461 rfl (Nat.le_trans (Nat.le_of_ble_eq_true rfl) hL) (Nat.le_of_ble_eq_true rfl) (Nat.le_of_ble_eq_true rfl) h (fun v5 w4 hle h => ?_) (fun _ _ _ h => kzx_no rfl h)
    have h := h hle
    obtain ⟨a6, hx, h⟩ := h
    refine kz_nz0 (M := kt_M419) (x := v5) hx ?_
    refine kz_pfa (M := kt_M419) (c := 12) (o := 0) (τ := 0) kX13_give_c9.2.2.1 wq_X13_353 (.inl rfl) rfl h (fun h => ?_)
    refine kz_aload_n (M := kt_M419) kX13_give_c9.2.2.2.1 rfl ?_
    refine kz_aload_n (M := kt_M419) kX13_give_c9.2.2.2.2.1 rfl ?_
    refine kz_gfa (M := kt_M419) (c := 12) (o := 0) kX13_give_c9.2.2.2.2.2.1 wf_X13_356 (.inl rfl) ?_
    refine kz_csr (M := kt_M419) (As := [.ref (w_d (ws_put w4 12 0 112 a6) 12 0 113)]) (rest := [.ref (w_adr E.2.1 12 0)]) kX13_give_c9.2.2.2.2.2.2.1 wl_X13_1007 wMs_461 rfl (Nat.le_trans (Nat.le_of_ble_eq_true rfl) hL) (Nat.le_of_ble_eq_true rfl) (Nat.le_of_ble_eq_true rfl) h (fun v8 w7 hle h => ?_) (fun _ _ _ h => kzx_no rfl h)
    have h := h hle
    obtain ⟨a9, hx, h⟩ := h
    refine kz_nz0 (M := kt_M419) (x := v8) hx ?_
    refine kz_pfa (M := kt_M419) (c := 12) (o := 0) (τ := 0) kX13_give_c9.2.2.2.2.2.2.2.1 wq_X13_356 (.inl rfl) rfl h (fun h => ?_)
    refine kz_goto (M := kt_M419) kX13_give_c10.1 (t := 95) rfl ?_
    exact kz_weak [(0, .ref (w_adr E.2.1 12 0)), (1, .int x1), (2, .int x2)] ⟨rfl, ⟨rfl, ⟨rfl, trivial⟩⟩⟩ rfl h
def zb_X13_give_p76 (E : zE) (L : Nat) (Q : kx_Rs → wS → Prop) (x1 : Int32) (x2 : Int32) (w : wS) : Prop := (if 0 ≤ x2 then zb_X13_give_p143 E L Q x1 x2 w else zL_X13_give_p95 E L Q x1 (w_i w 12 0 114) (ws_i w 12 0 114 ((w_i w 12 0 114) + x1)))
theorem zt_X13_give_p76 {E : zE} {L : Nat} {Q : kx_Rs → wS → Prop} {x1 : Int32} {x2 : Int32} {w : wS} (hL : 22 ≤ L) (h : zb_X13_give_p76 E L Q x1 x2 w) : kzE E L kt_M419 76 [(0, .ref (w_adr E.2.1 12 0)), (1, .int x1), (2, .int x2)] [] w Q := by
  unfold zb_X13_give_p76 at h
  refine kz_iload_n (M := kt_M419) kX13_give_c6.1 rfl ?_
  refine kz_if_ge (M := kt_M419) kX13_give_c6.2.1 (t := 143) rfl h (fun h => ?_) (fun h => ?_)
  · skip
    exact kz_weak [(0, .ref (w_adr E.2.1 12 0)), (1, .int x1), (2, .int x2)] ⟨rfl, ⟨rfl, ⟨rfl, trivial⟩⟩⟩ rfl (zt_X13_give_p143 hL  h)
  · skip
    refine kz_aload_n (M := kt_M419) kX13_give_c6.2.2.1 rfl ?_
    refine kz_gfi (M := kt_M419) (c := 12) (o := 0) kX13_give_c6.2.2.2.1 wf_X13_1149 (.inl rfl) ?_
    refine kz_sti_n (M := kt_M419) [(0, .ref (w_adr E.2.1 12 0)), (1, .int x1)] kX13_give_c6.2.2.2.2.1 (Nat.le_of_ble_eq_true rfl) ⟨⟨rfl, rfl, .inl rfl⟩, ⟨⟨rfl, rfl, .inr rfl⟩, trivial⟩⟩ rfl ?_
    refine kz_aload_n (M := kt_M419) kX13_give_c6.2.2.2.2.2.1 rfl ?_
    refine kz_dup (M := kt_M419) kX13_give_c6.2.2.2.2.2.2.1 rfl ?_
    refine kz_gfi (M := kt_M419) (c := 12) (o := 0) kX13_give_c6.2.2.2.2.2.2.2.1 wf_X13_1149 (.inl rfl) ?_
    refine kz_iload_n (M := kt_M419) kX13_give_c7.1 rfl ?_
    refine kz_iadd (M := kt_M419) kX13_give_c7.2.1 ?_
    refine kz_pfi (M := kt_M419) (c := 12) (o := 0) kX13_give_c7.2.2.1 wq_X13_1149 (.inl rfl) ?_
    exact kz_weak [(0, .ref (w_adr E.2.1 12 0)), (1, .int x1), (2, .int (w_i w 12 0 114))] ⟨rfl, ⟨rfl, ⟨rfl, trivial⟩⟩⟩ rfl h
def zb_X13_give_p70 (E : zE) (L : Nat) (Q : kx_Rs → wS → Prop) (x1 : Int32) (x2 : Int32) (x3 : Int32) (w : wS) : Prop := zL_X13_give_p4 E L Q x1 x2 (x3 + 1) w
theorem zt_X13_give_p70 {E : zE} {L : Nat} {Q : kx_Rs → wS → Prop} {x1 : Int32} {x2 : Int32} {x3 : Int32} {w : wS} (hL : 22 ≤ L) (h : zb_X13_give_p70 E L Q x1 x2 x3 w) : kzE E L kt_M419 70 [(0, .ref (w_adr E.2.1 12 0)), (1, .int x1), (2, .int x2), (3, .int x3)] [] w Q := by
  unfold zb_X13_give_p70 at h
  refine kz_inc (M := kt_M419) [(0, .ref (w_adr E.2.1 12 0)), (1, .int x1), (2, .int x2)] kX13_give_c5.2.2.2.2.2.2.1 rfl (Nat.le_of_ble_eq_true rfl) ⟨⟨rfl, rfl, .inl rfl⟩, ⟨⟨rfl, rfl, .inl rfl⟩, ⟨⟨rfl, rfl, .inr rfl⟩, trivial⟩⟩⟩ rfl ?_
  refine kz_goto (M := kt_M419) kX13_give_c5.2.2.2.2.2.2.2.1 (t := 4) rfl ?_
  exact kz_weak [(0, .ref (w_adr E.2.1 12 0)), (1, .int x1), (2, .int x2), (3, .int (x3 + 1))] ⟨rfl, ⟨rfl, ⟨rfl, ⟨rfl, trivial⟩⟩⟩⟩ rfl h
def zb_X13_give_p4 (E : zE) (L : Nat) (Q : kx_Rs → wS → Prop) (x1 : Int32) (x2 : Int32) (x3 : Int32) (w : wS) : Prop := (if w_i w 12 0 115 ≤ x3 then zb_X13_give_p76 E L Q x1 x2 w else (if 0 ≤ x2 then zb_X13_give_p76 E L Q x1 x2 w else (kx_inb x3 (w_n w 12 0 117) = true ∧ (if x1 ≤ w_a w 12 0 117 (x3).toNatClampNeg then (kx_inb x3 (w_n w 12 0 116) = true ∧ (kx_inb x3 (w_n w 12 0 116) = true ∧ (kx_inb x3 (w_n w 12 0 116) = true ∧ (kx_inb x3 (w_n w 12 0 117) = true ∧ (kx_inb x3 (w_n w 12 0 117) = true ∧ (kx_inb x3 (w_n w 12 0 117) = true ∧ (if ¬ w_a (ws_a (ws_a w 12 0 116 (x3).toNatClampNeg ((w_a w 12 0 116 (x3).toNatClampNeg) + x1)) 12 0 117 (x3).toNatClampNeg ((w_a w 12 0 117 (x3).toNatClampNeg) - x1)) 12 0 117 (x3).toNatClampNeg = 0 then zb_X13_give_p70 E L Q x1 (w_a w 12 0 116 (x3).toNatClampNeg) x3 (ws_a (ws_a w 12 0 116 (x3).toNatClampNeg ((w_a w 12 0 116 (x3).toNatClampNeg) + x1)) 12 0 117 (x3).toNatClampNeg ((w_a w 12 0 117 (x3).toNatClampNeg) - x1)) else zw E (L - 22) kt_M391 [.ref (w_adr E.2.1 12 0), .int x3] (ws_a (ws_a w 12 0 116 (x3).toNatClampNeg ((w_a w 12 0 116 (x3).toNatClampNeg) + x1)) 12 0 117 (x3).toNatClampNeg ((w_a w 12 0 117 (x3).toNatClampNeg) - x1)) (wk0 (fun w1 => wle (ws_a (ws_a w 12 0 116 (x3).toNatClampNeg ((w_a w 12 0 116 (x3).toNatClampNeg) + x1)) 12 0 117 (x3).toNatClampNeg ((w_a w 12 0 117 (x3).toNatClampNeg) - x1)) w1 → zb_X13_give_p70 E L Q x1 (w_a w 12 0 116 (x3).toNatClampNeg) x3 w1) (fun e w => Q (.inr e) w))))))))) else zb_X13_give_p70 E L Q x1 x2 x3 w))))
theorem zt_X13_give_p4 {E : zE} {L : Nat} {Q : kx_Rs → wS → Prop} {x1 : Int32} {x2 : Int32} {x3 : Int32} {w : wS} (hL : 22 ≤ L) (h : zb_X13_give_p4 E L Q x1 x2 x3 w) : kzE E L kt_M419 4 [(0, .ref (w_adr E.2.1 12 0)), (1, .int x1), (2, .int x2), (3, .int x3)] [] w Q := by
  unfold zb_X13_give_p4 at h
  refine kz_iload_n (M := kt_M419) kX13_give_c0.2.2.2.2.1 rfl ?_
  refine kz_aload_n (M := kt_M419) kX13_give_c0.2.2.2.2.2.1 rfl ?_
  refine kz_gfi (M := kt_M419) (c := 12) (o := 0) kX13_give_c0.2.2.2.2.2.2.1 wf_X13_1143 (.inl rfl) ?_
  refine kz_icmp_ge (M := kt_M419) kX13_give_c0.2.2.2.2.2.2.2.1 (t := 76) rfl h (fun h => ?_) (fun h => ?_)
  · skip
    exact kz_weak [(0, .ref (w_adr E.2.1 12 0)), (1, .int x1), (2, .int x2)] ⟨rfl, ⟨rfl, ⟨rfl, trivial⟩⟩⟩ rfl (zt_X13_give_p76 hL  h)
  · skip
    refine kz_iload_n (M := kt_M419) kX13_give_c1.1 rfl ?_
    refine kz_if_ge (M := kt_M419) kX13_give_c1.2.1 (t := 76) rfl h (fun h => ?_) (fun h => ?_)
    · skip
      exact kz_weak [(0, .ref (w_adr E.2.1 12 0)), (1, .int x1), (2, .int x2)] ⟨rfl, ⟨rfl, ⟨rfl, trivial⟩⟩⟩ rfl (zt_X13_give_p76 hL  h)
    · skip
      refine kz_aload_n (M := kt_M419) kX13_give_c1.2.2.1 rfl ?_
      refine kz_gfa (M := kt_M419) (c := 12) (o := 0) kX13_give_c1.2.2.2.1 wf_X13_362 (.inl rfl) ?_
      refine kz_iload_n (M := kt_M419) kX13_give_c1.2.2.2.2.1 rfl ?_
      refine kz_iald (M := kt_M419) (c := 12) (o := 0) (k := 117) (a := (w_d w 12 0 117)) kX13_give_c1.2.2.2.2.2.1 ow_12_0_117 oa_12_0_117 ot_0 h (fun h => ?_)
      refine kz_iload_n (M := kt_M419) kX13_give_c1.2.2.2.2.2.2.1 rfl ?_
      refine kz_icmp_ge (M := kt_M419) kX13_give_c1.2.2.2.2.2.2.2.1 (t := 29) rfl h (fun h => ?_) (fun h => ?_)
      · skip
        refine kz_aload_n (M := kt_M419) kX13_give_c2.2.1 rfl ?_
        refine kz_gfa (M := kt_M419) (c := 12) (o := 0) kX13_give_c2.2.2.1 wf_X13_359 (.inl rfl) ?_
        refine kz_iload_n (M := kt_M419) kX13_give_c2.2.2.2.1 rfl ?_
        refine kz_iald (M := kt_M419) (c := 12) (o := 0) (k := 116) (a := (w_d w 12 0 116)) kX13_give_c2.2.2.2.2.1 ow_12_0_116 oa_12_0_116 ot_0 h (fun h => ?_)
        refine kz_sti_n (M := kt_M419) [(0, .ref (w_adr E.2.1 12 0)), (1, .int x1), (3, .int x3)] kX13_give_c2.2.2.2.2.2.1 (Nat.le_of_ble_eq_true rfl) ⟨⟨rfl, rfl, .inl rfl⟩, ⟨⟨rfl, rfl, .inr rfl⟩, ⟨⟨rfl, rfl, .inl rfl⟩, trivial⟩⟩⟩ rfl ?_
        refine kz_aload_n (M := kt_M419) kX13_give_c2.2.2.2.2.2.2.1 rfl ?_
        refine kz_gfa (M := kt_M419) (c := 12) (o := 0) kX13_give_c2.2.2.2.2.2.2.2.1 wf_X13_359 (.inl rfl) ?_
        refine kz_iload_n (M := kt_M419) kX13_give_c3.1 rfl ?_
        refine kz_dup2 (M := kt_M419) kX13_give_c3.2.1 ⟨rfl, rfl⟩ ?_
        refine kz_iald (M := kt_M419) (c := 12) (o := 0) (k := 116) (a := (w_d w 12 0 116)) kX13_give_c3.2.2.1 ow_12_0_116 oa_12_0_116 ot_0 h (fun h => ?_)
        refine kz_iload_n (M := kt_M419) kX13_give_c3.2.2.2.1 rfl ?_
        refine kz_iadd (M := kt_M419) kX13_give_c3.2.2.2.2.1 ?_
        refine kz_iast (M := kt_M419) (c := 12) (o := 0) (k := 116) (a := (w_d w 12 0 116)) kX13_give_c3.2.2.2.2.2.1 ow_12_0_116 oa_12_0_116 ot_0 h (fun h => ?_)
        refine kz_aload_n (M := kt_M419) kX13_give_c3.2.2.2.2.2.2.1 rfl ?_
        refine kz_gfa (M := kt_M419) (c := 12) (o := 0) kX13_give_c3.2.2.2.2.2.2.2.1 wf_X13_362 (.inl rfl) ?_
        refine kz_iload_n (M := kt_M419) kX13_give_c4.1 rfl ?_
        refine kz_dup2 (M := kt_M419) kX13_give_c4.2.1 ⟨rfl, rfl⟩ ?_
        refine kz_ialdR (M := kt_M419) (n := w_n w 12 0 117) (c := 12) (o := 0) (k := 117) (a := (w_d (ws_a w 12 0 116 (x3).toNatClampNeg ((w_a w 12 0 116 (x3).toNatClampNeg) + x1)) 12 0 117)) (w_a w 12 0 117 (x3).toNatClampNeg) kX13_give_c4.2.2.1 ow_12_0_117 oa_12_0_117 ot_0 rd_n_a (rd_a_a rfl) h (fun h => ?_)
        refine kz_iload_n (M := kt_M419) kX13_give_c4.2.2.2.1 rfl ?_
        refine kz_isub (M := kt_M419) kX13_give_c4.2.2.2.2.1 ?_
        refine kz_iastR (M := kt_M419) (n := w_n w 12 0 117) (c := 12) (o := 0) (k := 117) (a := (w_d (ws_a w 12 0 116 (x3).toNatClampNeg ((w_a w 12 0 116 (x3).toNatClampNeg) + x1)) 12 0 117)) kX13_give_c4.2.2.2.2.2.1 ow_12_0_117 oa_12_0_117 ot_0 rd_n_a h (fun h => ?_)
        refine kz_aload_n (M := kt_M419) kX13_give_c4.2.2.2.2.2.2.1 rfl ?_
        refine kz_gfa (M := kt_M419) (c := 12) (o := 0) kX13_give_c4.2.2.2.2.2.2.2.1 wf_X13_362 (.inl rfl) ?_
        refine kz_iload_n (M := kt_M419) kX13_give_c5.1 rfl ?_
        refine kz_ialdR (M := kt_M419) (n := w_n w 12 0 117) (c := 12) (o := 0) (k := 117) (a := (w_d (ws_a (ws_a w 12 0 116 (x3).toNatClampNeg ((w_a w 12 0 116 (x3).toNatClampNeg) + x1)) 12 0 117 (x3).toNatClampNeg ((w_a w 12 0 117 (x3).toNatClampNeg) - x1)) 12 0 117)) (w_a (ws_a (ws_a w 12 0 116 (x3).toNatClampNeg ((w_a w 12 0 116 (x3).toNatClampNeg) + x1)) 12 0 117 (x3).toNatClampNeg ((w_a w 12 0 117 (x3).toNatClampNeg) - x1)) 12 0 117 (x3).toNatClampNeg) kX13_give_c5.2.1 ow_12_0_117 oa_12_0_117 ot_0 (rd_n_a.trans rd_n_a) rfl h (fun h => ?_)
        refine kz_if_ne (M := kt_M419) kX13_give_c5.2.2.1 (t := 70) rfl h (fun h => ?_) (fun h => ?_)
        · skip
          exact kz_weak [(0, .ref (w_adr E.2.1 12 0)), (1, .int x1), (2, .int (w_a w 12 0 116 (x3).toNatClampNeg)), (3, .int x3)] ⟨rfl, ⟨rfl, ⟨rfl, ⟨rfl, trivial⟩⟩⟩⟩ rfl (zt_X13_give_p70 hL  h)
        · skip
          refine kz_aload_n (M := kt_M419) kX13_give_c5.2.2.2.1 rfl ?_
          refine kz_iload_n (M := kt_M419) kX13_give_c5.2.2.2.2.1 rfl ?_
          refine kz_cv0 (M := kt_M419) (c := 12) (o := 0) (As := [.int x3]) (rest := []) kX13_give_c5.2.2.2.2.2.1 wl_X13_1146 wMv_391 rfl (.inl rfl) rfl (Nat.le_trans (Nat.le_of_ble_eq_true rfl) hL) (Nat.le_of_ble_eq_true rfl) (Nat.le_of_ble_eq_true rfl) h (fun w1 hle h => ?_) (fun _ _ _ h => kzx_no rfl h)
          have h := h hle
          exact kz_weak [(0, .ref (w_adr E.2.1 12 0)), (1, .int x1), (2, .int (w_a w 12 0 116 (x3).toNatClampNeg)), (3, .int x3)] ⟨rfl, ⟨rfl, ⟨rfl, ⟨rfl, trivial⟩⟩⟩⟩ rfl (zt_X13_give_p70 hL  h)
      · skip
        refine kz_goto (M := kt_M419) kX13_give_c2.1 (t := 70) rfl ?_
        exact kz_weak [(0, .ref (w_adr E.2.1 12 0)), (1, .int x1), (2, .int x2), (3, .int x3)] ⟨rfl, ⟨rfl, ⟨rfl, ⟨rfl, trivial⟩⟩⟩⟩ rfl (zt_X13_give_p70 hL  h)
def zb_X13_give_p0 (E : zE) (L : Nat) (Q : kx_Rs → wS → Prop) (x1 : Int32) (w : wS) : Prop := zL_X13_give_p4 E L Q x1 (-1) 0 w
theorem zt_X13_give_p0 {E : zE} {L : Nat} {Q : kx_Rs → wS → Prop} {x1 : Int32} {w : wS} (hL : 22 ≤ L) (h : zb_X13_give_p0 E L Q x1 w) : kzE E L kt_M419 0 [(0, .ref (w_adr E.2.1 12 0)), (1, .int x1)] [] w Q := by
  unfold zb_X13_give_p0 at h
  refine kz_ic (M := kt_M419) (-1) kX13_give_c0.1 rfl ?_
  refine kz_sti_n (M := kt_M419) [(0, .ref (w_adr E.2.1 12 0)), (1, .int x1)] kX13_give_c0.2.1 (Nat.le_of_ble_eq_true rfl) ⟨⟨rfl, rfl, .inl rfl⟩, ⟨⟨rfl, rfl, .inr rfl⟩, trivial⟩⟩ rfl ?_
  refine kz_ic (M := kt_M419) 0 kX13_give_c0.2.2.1 rfl ?_
  refine kz_sti_n (M := kt_M419) [(0, .ref (w_adr E.2.1 12 0)), (1, .int x1), (2, .int (-1))] kX13_give_c0.2.2.2.1 (Nat.le_of_ble_eq_true rfl) ⟨⟨rfl, rfl, .inl rfl⟩, ⟨⟨rfl, rfl, .inl rfl⟩, ⟨⟨rfl, rfl, .inr rfl⟩, trivial⟩⟩⟩ rfl ?_
  exact kz_weak [(0, .ref (w_adr E.2.1 12 0)), (1, .int x1), (2, .int (-1)), (3, .int 0)] ⟨rfl, ⟨rfl, ⟨rfl, ⟨rfl, trivial⟩⟩⟩⟩ rfl h
def zb_X13_keepTable_p34 (E : zE) (L : Nat) (Q : kx_Rs → wS → Prop) (x1 : Int32) (x2 : Int32) (w : wS) : Prop := (kx_inb (w_i w 12 0 170) (w_n w 12 0 171) = true ∧ (kx_inb (w_i w 12 0 170) (w_n w 12 0 172) = true ∧ Q (.inl none) (ws_i (ws_a (ws_a w 12 0 171 (w_i w 12 0 170).toNatClampNeg x1) 12 0 172 (w_i w 12 0 170).toNatClampNeg x2) 12 0 170 ((w_i w 12 0 170) + 1))))
theorem zt_X13_keepTable_p34 {E : zE} {L : Nat} {Q : kx_Rs → wS → Prop} {x1 : Int32} {x2 : Int32} {w : wS} (hL : 22 ≤ L) (h : zb_X13_keepTable_p34 E L Q x1 x2 w) : kzE E L kt_M452 34 [(0, .ref (w_adr E.2.1 12 0)), (1, .int x1), (2, .int x2)] [] w Q := by
  unfold zb_X13_keepTable_p34 at h
  refine kz_aload_n (M := kt_M452) kX13_keepTable_c2.1 rfl ?_
  refine kz_gfa (M := kt_M452) (c := 12) (o := 0) kX13_keepTable_c2.2.1 wf_X13_439 (.inl rfl) ?_
  refine kz_aload_n (M := kt_M452) kX13_keepTable_c2.2.2.1 rfl ?_
  refine kz_gfi (M := kt_M452) (c := 12) (o := 0) kX13_keepTable_c2.2.2.2.1 wf_X13_1201 (.inl rfl) ?_
  refine kz_iload_n (M := kt_M452) kX13_keepTable_c2.2.2.2.2.1 rfl ?_
  refine kz_iast (M := kt_M452) (c := 12) (o := 0) (k := 171) (a := (w_d w 12 0 171)) kX13_keepTable_c2.2.2.2.2.2.1 ow_12_0_171 oa_12_0_171 ot_0 h (fun h => ?_)
  refine kz_aload_n (M := kt_M452) kX13_keepTable_c2.2.2.2.2.2.2.1 rfl ?_
  refine kz_gfa (M := kt_M452) (c := 12) (o := 0) kX13_keepTable_c2.2.2.2.2.2.2.2.1 wf_X13_442 (.inl rfl) ?_
  refine kz_aload_n (M := kt_M452) kX13_keepTable_c3.1 rfl ?_
  refine kz_gfiR (M := kt_M452) (c := 12) (o := 0) (w_i w 12 0 170) kX13_keepTable_c3.2.1 wf_X13_1201 (.inl rfl) rd_i_a ?_
  refine kz_iload_n (M := kt_M452) kX13_keepTable_c3.2.2.1 rfl ?_
  refine kz_iastR (M := kt_M452) (n := w_n w 12 0 172) (c := 12) (o := 0) (k := 172) (a := (w_d (ws_a w 12 0 171 (w_i w 12 0 170).toNatClampNeg x1) 12 0 172)) kX13_keepTable_c3.2.2.2.1 ow_12_0_172 oa_12_0_172 ot_0 rd_n_a h (fun h => ?_)
  refine kz_aload_n (M := kt_M452) kX13_keepTable_c3.2.2.2.2.1 rfl ?_
  refine kz_dup (M := kt_M452) kX13_keepTable_c3.2.2.2.2.2.1 rfl ?_
  refine kz_gfiR (M := kt_M452) (c := 12) (o := 0) (w_i w 12 0 170) kX13_keepTable_c3.2.2.2.2.2.2.1 wf_X13_1201 (.inl rfl) (rd_i_a.trans rd_i_a) ?_
  refine kz_ic (M := kt_M452) 1 kX13_keepTable_c3.2.2.2.2.2.2.2.1 rfl ?_
  refine kz_iadd (M := kt_M452) kX13_keepTable_c4.1 ?_
  refine kz_pfi (M := kt_M452) (c := 12) (o := 0) kX13_keepTable_c4.2.1 wq_X13_1201 (.inl rfl) ?_
  exact kz_ret (M := kt_M452) kX13_keepTable_c4.2.2.1 rfl h
def zb_X13_keepTable_p0 (E : zE) (L : Nat) (Q : kx_Rs → wS → Prop) (x1 : Int32) (x2 : Int32) (w : wS) : Prop := (if ¬ w_i w 12 0 170 = (Int32.ofNat (w_n w 12 0 171)) then zb_X13_keepTable_p34 E L Q x1 x2 w else zw E (L - 22) kt_M461 [.ref (w_d w 12 0 171)] w (wkr (fun v2 w1 => wle w w1 → (∃ a3, v2 = some a3 ∧ (w_o w1 a3 = some (99, a3, 0) ∧ w_t w1 a3 = 0) ∧ zw E (L - 22) kt_M461 [.ref (w_d (ws_put w1 12 0 171 a3) 12 0 172)] (ws_put w1 12 0 171 a3) (wkr (fun v5 w4 => wle (ws_put w1 12 0 171 a3) w4 → (∃ a6, v5 = some a6 ∧ (w_o w4 a6 = some (99, a6, 0) ∧ w_t w4 a6 = 0) ∧ zb_X13_keepTable_p34 E L Q x1 x2 (ws_put w4 12 0 172 a6))) (fun e w => Q (.inr e) w)))) (fun e w => Q (.inr e) w)))
theorem zt_X13_keepTable_p0 {E : zE} {L : Nat} {Q : kx_Rs → wS → Prop} {x1 : Int32} {x2 : Int32} {w : wS} (hL : 22 ≤ L) (h : zb_X13_keepTable_p0 E L Q x1 x2 w) : kzE E L kt_M452 0 [(0, .ref (w_adr E.2.1 12 0)), (1, .int x1), (2, .int x2)] [] w Q := by
  unfold zb_X13_keepTable_p0 at h
  refine kz_aload_n (M := kt_M452) kX13_keepTable_c0.1 rfl ?_
  refine kz_gfi (M := kt_M452) (c := 12) (o := 0) kX13_keepTable_c0.2.1 wf_X13_1201 (.inl rfl) ?_
  refine kz_aload_n (M := kt_M452) kX13_keepTable_c0.2.2.1 rfl ?_
  refine kz_gfa (M := kt_M452) (c := 12) (o := 0) kX13_keepTable_c0.2.2.2.1 wf_X13_439 (.inl rfl) ?_
  refine kz_alen (M := kt_M452) (c := 12) (o := 0) (k := 171) (a := (w_d w 12 0 171)) (τ := 0) kX13_keepTable_c0.2.2.2.2.1 ow_12_0_171 oa_12_0_171 (Nat.le_of_ble_eq_true rfl) ?_
  refine kz_icmp_ne (M := kt_M452) kX13_keepTable_c0.2.2.2.2.2.1 (t := 34) rfl h (fun h => ?_) (fun h => ?_)
  · skip
    exact kz_weak [(0, .ref (w_adr E.2.1 12 0)), (1, .int x1), (2, .int x2)] ⟨rfl, ⟨rfl, ⟨rfl, trivial⟩⟩⟩ rfl (zt_X13_keepTable_p34 hL  h)
  · skip
    refine kz_aload_n (M := kt_M452) kX13_keepTable_c0.2.2.2.2.2.2.1 rfl ?_
    refine kz_aload_n (M := kt_M452) kX13_keepTable_c0.2.2.2.2.2.2.2.1 rfl ?_
    refine kz_gfa (M := kt_M452) (c := 12) (o := 0) kX13_keepTable_c1.1 wf_X13_439 (.inl rfl) ?_
    refine kz_csr (M := kt_M452) (As := [.ref (w_d w 12 0 171)]) (rest := [.ref (w_adr E.2.1 12 0)]) kX13_keepTable_c1.2.1 wl_X13_1007 wMs_461 rfl (Nat.le_trans (Nat.le_of_ble_eq_true rfl) hL) (Nat.le_of_ble_eq_true rfl) (Nat.le_of_ble_eq_true rfl) h (fun v2 w1 hle h => ?_) (fun _ _ _ h => kzx_no rfl h)
    have h := h hle
    obtain ⟨a3, hx, h⟩ := h
    refine kz_nz0 (M := kt_M452) (x := v2) hx ?_
    refine kz_pfa (M := kt_M452) (c := 12) (o := 0) (τ := 0) kX13_keepTable_c1.2.2.1 wq_X13_439 (.inl rfl) rfl h (fun h => ?_)
    refine kz_aload_n (M := kt_M452) kX13_keepTable_c1.2.2.2.1 rfl ?_
    refine kz_aload_n (M := kt_M452) kX13_keepTable_c1.2.2.2.2.1 rfl ?_
    refine kz_gfa (M := kt_M452) (c := 12) (o := 0) kX13_keepTable_c1.2.2.2.2.2.1 wf_X13_442 (.inl rfl) ?_
    refine kz_csr (M := kt_M452) (As := [.ref (w_d (ws_put w1 12 0 171 a3) 12 0 172)]) (rest := [.ref (w_adr E.2.1 12 0)]) kX13_keepTable_c1.2.2.2.2.2.2.1 wl_X13_1007 wMs_461 rfl (Nat.le_trans (Nat.le_of_ble_eq_true rfl) hL) (Nat.le_of_ble_eq_true rfl) (Nat.le_of_ble_eq_true rfl) h (fun v5 w4 hle h => ?_) (fun _ _ _ h => kzx_no rfl h)
    have h := h hle
    obtain ⟨a6, hx, h⟩ := h
    refine kz_nz0 (M := kt_M452) (x := v5) hx ?_
    refine kz_pfa (M := kt_M452) (c := 12) (o := 0) (τ := 0) kX13_keepTable_c1.2.2.2.2.2.2.2.1 wq_X13_442 (.inl rfl) rfl h (fun h => ?_)
    exact kz_weak [(0, .ref (w_adr E.2.1 12 0)), (1, .int x1), (2, .int x2)] ⟨rfl, ⟨rfl, ⟨rfl, trivial⟩⟩⟩ rfl (zt_X13_keepTable_p34 hL  h)
def zb_X13_hold_p34 (E : zE) (L : Nat) (Q : kx_Rs → wS → Prop) (x1 : Int32) (x2 : Int32) (w : wS) : Prop := (kx_inb (w_i w 12 0 174) (w_n w 12 0 175) = true ∧ (kx_inb (w_i w 12 0 174) (w_n w 12 0 176) = true ∧ Q (.inl none) (ws_i (ws_a (ws_a w 12 0 175 (w_i w 12 0 174).toNatClampNeg x1) 12 0 176 (w_i w 12 0 174).toNatClampNeg x2) 12 0 174 ((w_i w 12 0 174) + 1))))
theorem zt_X13_hold_p34 {E : zE} {L : Nat} {Q : kx_Rs → wS → Prop} {x1 : Int32} {x2 : Int32} {w : wS} (hL : 22 ≤ L) (h : zb_X13_hold_p34 E L Q x1 x2 w) : kzE E L kt_M431 34 [(0, .ref (w_adr E.2.1 12 0)), (1, .int x1), (2, .int x2)] [] w Q := by
  unfold zb_X13_hold_p34 at h
  refine kz_aload_n (M := kt_M431) kX13_hold_c2.1 rfl ?_
  refine kz_gfa (M := kt_M431) (c := 12) (o := 0) kX13_hold_c2.2.1 wf_X13_445 (.inl rfl) ?_
  refine kz_aload_n (M := kt_M431) kX13_hold_c2.2.2.1 rfl ?_
  refine kz_gfi (M := kt_M431) (c := 12) (o := 0) kX13_hold_c2.2.2.2.1 wf_X13_1325 (.inl rfl) ?_
  refine kz_iload_n (M := kt_M431) kX13_hold_c2.2.2.2.2.1 rfl ?_
  refine kz_iast (M := kt_M431) (c := 12) (o := 0) (k := 175) (a := (w_d w 12 0 175)) kX13_hold_c2.2.2.2.2.2.1 ow_12_0_175 oa_12_0_175 ot_0 h (fun h => ?_)
  refine kz_aload_n (M := kt_M431) kX13_hold_c2.2.2.2.2.2.2.1 rfl ?_
  refine kz_gfa (M := kt_M431) (c := 12) (o := 0) kX13_hold_c2.2.2.2.2.2.2.2.1 wf_X13_448 (.inl rfl) ?_
  refine kz_aload_n (M := kt_M431) kX13_hold_c3.1 rfl ?_
  refine kz_gfiR (M := kt_M431) (c := 12) (o := 0) (w_i w 12 0 174) kX13_hold_c3.2.1 wf_X13_1325 (.inl rfl) rd_i_a ?_
  refine kz_iload_n (M := kt_M431) kX13_hold_c3.2.2.1 rfl ?_
  refine kz_iastR (M := kt_M431) (n := w_n w 12 0 176) (c := 12) (o := 0) (k := 176) (a := (w_d (ws_a w 12 0 175 (w_i w 12 0 174).toNatClampNeg x1) 12 0 176)) kX13_hold_c3.2.2.2.1 ow_12_0_176 oa_12_0_176 ot_0 rd_n_a h (fun h => ?_)
  refine kz_aload_n (M := kt_M431) kX13_hold_c3.2.2.2.2.1 rfl ?_
  refine kz_dup (M := kt_M431) kX13_hold_c3.2.2.2.2.2.1 rfl ?_
  refine kz_gfiR (M := kt_M431) (c := 12) (o := 0) (w_i w 12 0 174) kX13_hold_c3.2.2.2.2.2.2.1 wf_X13_1325 (.inl rfl) (rd_i_a.trans rd_i_a) ?_
  refine kz_ic (M := kt_M431) 1 kX13_hold_c3.2.2.2.2.2.2.2.1 rfl ?_
  refine kz_iadd (M := kt_M431) kX13_hold_c4.1 ?_
  refine kz_pfi (M := kt_M431) (c := 12) (o := 0) kX13_hold_c4.2.1 wq_X13_1325 (.inl rfl) ?_
  exact kz_ret (M := kt_M431) kX13_hold_c4.2.2.1 rfl h
def zb_X13_hold_p0 (E : zE) (L : Nat) (Q : kx_Rs → wS → Prop) (x1 : Int32) (x2 : Int32) (w : wS) : Prop := (if ¬ w_i w 12 0 174 = (Int32.ofNat (w_n w 12 0 175)) then zb_X13_hold_p34 E L Q x1 x2 w else zw E (L - 22) kt_M461 [.ref (w_d w 12 0 175)] w (wkr (fun v2 w1 => wle w w1 → (∃ a3, v2 = some a3 ∧ (w_o w1 a3 = some (99, a3, 0) ∧ w_t w1 a3 = 0) ∧ zw E (L - 22) kt_M461 [.ref (w_d (ws_put w1 12 0 175 a3) 12 0 176)] (ws_put w1 12 0 175 a3) (wkr (fun v5 w4 => wle (ws_put w1 12 0 175 a3) w4 → (∃ a6, v5 = some a6 ∧ (w_o w4 a6 = some (99, a6, 0) ∧ w_t w4 a6 = 0) ∧ zb_X13_hold_p34 E L Q x1 x2 (ws_put w4 12 0 176 a6))) (fun e w => Q (.inr e) w)))) (fun e w => Q (.inr e) w)))
theorem zt_X13_hold_p0 {E : zE} {L : Nat} {Q : kx_Rs → wS → Prop} {x1 : Int32} {x2 : Int32} {w : wS} (hL : 22 ≤ L) (h : zb_X13_hold_p0 E L Q x1 x2 w) : kzE E L kt_M431 0 [(0, .ref (w_adr E.2.1 12 0)), (1, .int x1), (2, .int x2)] [] w Q := by
  unfold zb_X13_hold_p0 at h
  refine kz_aload_n (M := kt_M431) kX13_hold_c0.1 rfl ?_
  refine kz_gfi (M := kt_M431) (c := 12) (o := 0) kX13_hold_c0.2.1 wf_X13_1325 (.inl rfl) ?_
  refine kz_aload_n (M := kt_M431) kX13_hold_c0.2.2.1 rfl ?_
  refine kz_gfa (M := kt_M431) (c := 12) (o := 0) kX13_hold_c0.2.2.2.1 wf_X13_445 (.inl rfl) ?_
  refine kz_alen (M := kt_M431) (c := 12) (o := 0) (k := 175) (a := (w_d w 12 0 175)) (τ := 0) kX13_hold_c0.2.2.2.2.1 ow_12_0_175 oa_12_0_175 (Nat.le_of_ble_eq_true rfl) ?_
  refine kz_icmp_ne (M := kt_M431) kX13_hold_c0.2.2.2.2.2.1 (t := 34) rfl h (fun h => ?_) (fun h => ?_)
  · skip
    exact kz_weak [(0, .ref (w_adr E.2.1 12 0)), (1, .int x1), (2, .int x2)] ⟨rfl, ⟨rfl, ⟨rfl, trivial⟩⟩⟩ rfl (zt_X13_hold_p34 hL  h)
  · skip
    refine kz_aload_n (M := kt_M431) kX13_hold_c0.2.2.2.2.2.2.1 rfl ?_
    refine kz_aload_n (M := kt_M431) kX13_hold_c0.2.2.2.2.2.2.2.1 rfl ?_
    refine kz_gfa (M := kt_M431) (c := 12) (o := 0) kX13_hold_c1.1 wf_X13_445 (.inl rfl) ?_
    refine kz_csr (M := kt_M431) (As := [.ref (w_d w 12 0 175)]) (rest := [.ref (w_adr E.2.1 12 0)]) kX13_hold_c1.2.1 wl_X13_1007 wMs_461 rfl (Nat.le_trans (Nat.le_of_ble_eq_true rfl) hL) (Nat.le_of_ble_eq_true rfl) (Nat.le_of_ble_eq_true rfl) h (fun v2 w1 hle h => ?_) (fun _ _ _ h => kzx_no rfl h)
    have h := h hle
    obtain ⟨a3, hx, h⟩ := h
    refine kz_nz0 (M := kt_M431) (x := v2) hx ?_
    refine kz_pfa (M := kt_M431) (c := 12) (o := 0) (τ := 0) kX13_hold_c1.2.2.1 wq_X13_445 (.inl rfl) rfl h (fun h => ?_)
    refine kz_aload_n (M := kt_M431) kX13_hold_c1.2.2.2.1 rfl ?_
    refine kz_aload_n (M := kt_M431) kX13_hold_c1.2.2.2.2.1 rfl ?_
    refine kz_gfa (M := kt_M431) (c := 12) (o := 0) kX13_hold_c1.2.2.2.2.2.1 wf_X13_448 (.inl rfl) ?_
    refine kz_csr (M := kt_M431) (As := [.ref (w_d (ws_put w1 12 0 175 a3) 12 0 176)]) (rest := [.ref (w_adr E.2.1 12 0)]) kX13_hold_c1.2.2.2.2.2.2.1 wl_X13_1007 wMs_461 rfl (Nat.le_trans (Nat.le_of_ble_eq_true rfl) hL) (Nat.le_of_ble_eq_true rfl) (Nat.le_of_ble_eq_true rfl) h (fun v5 w4 hle h => ?_) (fun _ _ _ h => kzx_no rfl h)
    have h := h hle
    obtain ⟨a6, hx, h⟩ := h
    refine kz_nz0 (M := kt_M431) (x := v5) hx ?_
    refine kz_pfa (M := kt_M431) (c := 12) (o := 0) (τ := 0) kX13_hold_c1.2.2.2.2.2.2.2.1 wq_X13_448 (.inl rfl) rfl h (fun h => ?_)
    exact kz_weak [(0, .ref (w_adr E.2.1 12 0)), (1, .int x1), (2, .int x2)] ⟨rfl, ⟨rfl, ⟨rfl, trivial⟩⟩⟩ rfl (zt_X13_hold_p34 hL  h)
def zL_X13_leave_p202 (E : zE) (L : Nat) (Q : kx_Rs → wS → Prop) (x1 : Int32) (x2 : Int32) (x3 : Int32) (x6 : Int32) (w : wS) : Prop := kzE E L kt_M456 202 [(0, .ref (w_adr E.2.1 12 0)), (1, .int x1), (2, .int x2), (3, .int x3), (6, .int x6)] [] w Q
def zL_X13_leave_p7 (E : zE) (L : Nat) (Q : kx_Rs → wS → Prop) (x1 : Int32) (x2 : Int32) (x3 : Int32) (w : wS) : Prop := kzE E L kt_M456 7 [(0, .ref (w_adr E.2.1 12 0)), (1, .int x1), (2, .int x2), (3, .int x3)] [] w Q
def zb_X13_leave_p270 (E : zE) (L : Nat) (Q : kx_Rs → wS → Prop) (w : wS) : Prop := Q (.inl none) w
theorem zt_X13_leave_p270 {E : zE} {L : Nat} {Q : kx_Rs → wS → Prop} {w : wS} (hL : 22 ≤ L) (h : zb_X13_leave_p270 E L Q  w) : kzE E L kt_M456 270 [(0, .ref (w_adr E.2.1 12 0))] [] w Q := by
  unfold zb_X13_leave_p270 at h
  exact kz_ret (M := kt_M456) kX13_leave_c20.2.1 rfl h
def zb_X13_leave_p202 (E : zE) (L : Nat) (Q : kx_Rs → wS → Prop) (x1 : Int32) (x2 : Int32) (x3 : Int32) (x6 : Int32) (w : wS) : Prop := (if x6 ≤ x3 then (kx_inb x3 (w_n w 12 0 121) = true ∧ (kx_inb x3 (w_n w 12 0 122) = true ∧ zb_X13_leave_p270 E L Q (ws_i (ws_a (ws_a w 12 0 121 (x3).toNatClampNeg x1) 12 0 122 (x3).toNatClampNeg x2) 12 0 120 ((w_i w 12 0 120) + 1)))) else (kx_inb (x6 - 1) (w_n w 12 0 121) = true ∧ (kx_inb x6 (w_n w 12 0 121) = true ∧ (kx_inb (x6 - 1) (w_n w 12 0 122) = true ∧ (kx_inb x6 (w_n w 12 0 122) = true ∧ zL_X13_leave_p202 E L Q x1 x2 x3 (x6 + (-1)) (ws_a (ws_a w 12 0 121 (x6).toNatClampNeg (w_a w 12 0 121 ((x6 - 1)).toNatClampNeg)) 12 0 122 (x6).toNatClampNeg (w_a w 12 0 122 ((x6 - 1)).toNatClampNeg)))))))
theorem zt_X13_leave_p202 {E : zE} {L : Nat} {Q : kx_Rs → wS → Prop} {x1 : Int32} {x2 : Int32} {x3 : Int32} {x6 : Int32} {w : wS} (hL : 22 ≤ L) (h : zb_X13_leave_p202 E L Q x1 x2 x3 x6 w) : kzE E L kt_M456 202 [(0, .ref (w_adr E.2.1 12 0)), (1, .int x1), (2, .int x2), (3, .int x3), (6, .int x6)] [] w Q := by
  unfold zb_X13_leave_p202 at h
  refine kz_iload (M := kt_M456) kX13_leave_c15.1 rfl ?_
  refine kz_iload_n (M := kt_M456) kX13_leave_c15.2.1 rfl ?_
  refine kz_icmp_le (M := kt_M456) kX13_leave_c15.2.2.1 (t := 246) rfl h (fun h => ?_) (fun h => ?_)
  · skip
    refine kz_aload_n (M := kt_M456) kX13_leave_c18.2.1 rfl ?_
    refine kz_gfa (M := kt_M456) (c := 12) (o := 0) kX13_leave_c18.2.2.1 wf_X13_370 (.inl rfl) ?_
    refine kz_iload_n (M := kt_M456) kX13_leave_c18.2.2.2.1 rfl ?_
    refine kz_iload_n (M := kt_M456) kX13_leave_c18.2.2.2.2.1 rfl ?_
    refine kz_iast (M := kt_M456) (c := 12) (o := 0) (k := 121) (a := (w_d w 12 0 121)) kX13_leave_c18.2.2.2.2.2.1 ow_12_0_121 oa_12_0_121 ot_0 h (fun h => ?_)
    refine kz_aload_n (M := kt_M456) kX13_leave_c18.2.2.2.2.2.2.1 rfl ?_
    refine kz_gfa (M := kt_M456) (c := 12) (o := 0) kX13_leave_c18.2.2.2.2.2.2.2.1 wf_X13_373 (.inl rfl) ?_
    refine kz_iload_n (M := kt_M456) kX13_leave_c19.1 rfl ?_
    refine kz_iload_n (M := kt_M456) kX13_leave_c19.2.1 rfl ?_
    refine kz_iastR (M := kt_M456) (n := w_n w 12 0 122) (c := 12) (o := 0) (k := 122) (a := (w_d (ws_a w 12 0 121 (x3).toNatClampNeg x1) 12 0 122)) kX13_leave_c19.2.2.1 ow_12_0_122 oa_12_0_122 ot_0 rd_n_a h (fun h => ?_)
    refine kz_aload_n (M := kt_M456) kX13_leave_c19.2.2.2.1 rfl ?_
    refine kz_dup (M := kt_M456) kX13_leave_c19.2.2.2.2.1 rfl ?_
    refine kz_gfiR (M := kt_M456) (c := 12) (o := 0) (w_i w 12 0 120) kX13_leave_c19.2.2.2.2.2.1 wf_X13_1131 (.inl rfl) (rd_i_a.trans rd_i_a) ?_
    refine kz_ic (M := kt_M456) 1 kX13_leave_c19.2.2.2.2.2.2.1 rfl ?_
    refine kz_iadd (M := kt_M456) kX13_leave_c19.2.2.2.2.2.2.2.1 ?_
    refine kz_pfi (M := kt_M456) (c := 12) (o := 0) kX13_leave_c20.1 wq_X13_1131 (.inl rfl) ?_
    exact kz_weak [(0, .ref (w_adr E.2.1 12 0))] ⟨rfl, trivial⟩ rfl (zt_X13_leave_p270 hL  h)
  · skip
    refine kz_aload_n (M := kt_M456) kX13_leave_c15.2.2.2.1 rfl ?_
    refine kz_gfa (M := kt_M456) (c := 12) (o := 0) kX13_leave_c15.2.2.2.2.1 wf_X13_370 (.inl rfl) ?_
    refine kz_iload (M := kt_M456) kX13_leave_c15.2.2.2.2.2.1 rfl ?_
    refine kz_aload_n (M := kt_M456) kX13_leave_c15.2.2.2.2.2.2.1 rfl ?_
    refine kz_gfa (M := kt_M456) (c := 12) (o := 0) kX13_leave_c15.2.2.2.2.2.2.2.1 wf_X13_370 (.inl rfl) ?_
    refine kz_iload (M := kt_M456) kX13_leave_c16.1 rfl ?_
    refine kz_ic (M := kt_M456) 1 kX13_leave_c16.2.1 rfl ?_
    refine kz_isub (M := kt_M456) kX13_leave_c16.2.2.1 ?_
    refine kz_iald (M := kt_M456) (c := 12) (o := 0) (k := 121) (a := (w_d w 12 0 121)) kX13_leave_c16.2.2.2.1 ow_12_0_121 oa_12_0_121 ot_0 h (fun h => ?_)
    refine kz_iast (M := kt_M456) (c := 12) (o := 0) (k := 121) (a := (w_d w 12 0 121)) kX13_leave_c16.2.2.2.2.1 ow_12_0_121 oa_12_0_121 ot_0 h (fun h => ?_)
    refine kz_aload_n (M := kt_M456) kX13_leave_c16.2.2.2.2.2.1 rfl ?_
    refine kz_gfa (M := kt_M456) (c := 12) (o := 0) kX13_leave_c16.2.2.2.2.2.2.1 wf_X13_373 (.inl rfl) ?_
    refine kz_iload (M := kt_M456) kX13_leave_c16.2.2.2.2.2.2.2.1 rfl ?_
    refine kz_aload_n (M := kt_M456) kX13_leave_c17.1 rfl ?_
    refine kz_gfa (M := kt_M456) (c := 12) (o := 0) kX13_leave_c17.2.1 wf_X13_373 (.inl rfl) ?_
    refine kz_iload (M := kt_M456) kX13_leave_c17.2.2.1 rfl ?_
    refine kz_ic (M := kt_M456) 1 kX13_leave_c17.2.2.2.1 rfl ?_
    refine kz_isub (M := kt_M456) kX13_leave_c17.2.2.2.2.1 ?_
    refine kz_ialdR (M := kt_M456) (n := w_n w 12 0 122) (c := 12) (o := 0) (k := 122) (a := (w_d (ws_a w 12 0 121 (x6).toNatClampNeg (w_a w 12 0 121 ((x6 - 1)).toNatClampNeg)) 12 0 122)) (w_a w 12 0 122 ((x6 - 1)).toNatClampNeg) kX13_leave_c17.2.2.2.2.2.1 ow_12_0_122 oa_12_0_122 ot_0 rd_n_a (rd_a_a rfl) h (fun h => ?_)
    refine kz_iastR (M := kt_M456) (n := w_n w 12 0 122) (c := 12) (o := 0) (k := 122) (a := (w_d (ws_a w 12 0 121 (x6).toNatClampNeg (w_a w 12 0 121 ((x6 - 1)).toNatClampNeg)) 12 0 122)) kX13_leave_c17.2.2.2.2.2.2.1 ow_12_0_122 oa_12_0_122 ot_0 rd_n_a h (fun h => ?_)
    refine kz_inc (M := kt_M456) [(0, .ref (w_adr E.2.1 12 0)), (1, .int x1), (2, .int x2), (3, .int x3)] kX13_leave_c17.2.2.2.2.2.2.2.1 rfl (Nat.le_of_ble_eq_true rfl) ⟨⟨rfl, rfl, .inl rfl⟩, ⟨⟨rfl, rfl, .inl rfl⟩, ⟨⟨rfl, rfl, .inl rfl⟩, ⟨⟨rfl, rfl, .inl rfl⟩, trivial⟩⟩⟩⟩ rfl ?_
    refine kz_goto (M := kt_M456) kX13_leave_c18.1 (t := 202) rfl ?_
    exact kz_weak [(0, .ref (w_adr E.2.1 12 0)), (1, .int x1), (2, .int x2), (3, .int x3), (6, .int (x6 + (-1)))] ⟨rfl, ⟨rfl, ⟨rfl, ⟨rfl, ⟨rfl, trivial⟩⟩⟩⟩⟩ rfl h
def zb_X13_leave_p196 (E : zE) (L : Nat) (Q : kx_Rs → wS → Prop) (x1 : Int32) (x2 : Int32) (x3 : Int32) (w : wS) : Prop := zL_X13_leave_p202 E L Q x1 x2 x3 (w_i w 12 0 120) w
theorem zt_X13_leave_p196 {E : zE} {L : Nat} {Q : kx_Rs → wS → Prop} {x1 : Int32} {x2 : Int32} {x3 : Int32} {w : wS} (hL : 22 ≤ L) (h : zb_X13_leave_p196 E L Q x1 x2 x3 w) : kzE E L kt_M456 196 [(0, .ref (w_adr E.2.1 12 0)), (1, .int x1), (2, .int x2), (3, .int x3)] [] w Q := by
  unfold zb_X13_leave_p196 at h
  refine kz_aload_n (M := kt_M456) kX13_leave_c14.2.2.2.2.2.1 rfl ?_
  refine kz_gfi (M := kt_M456) (c := 12) (o := 0) kX13_leave_c14.2.2.2.2.2.2.1 wf_X13_1131 (.inl rfl) ?_
  refine kz_sti (M := kt_M456) [(0, .ref (w_adr E.2.1 12 0)), (1, .int x1), (2, .int x2), (3, .int x3)] kX13_leave_c14.2.2.2.2.2.2.2.1 (Nat.le_of_ble_eq_true rfl) ⟨⟨rfl, rfl, .inl rfl⟩, ⟨⟨rfl, rfl, .inl rfl⟩, ⟨⟨rfl, rfl, .inl rfl⟩, ⟨⟨rfl, rfl, .inl rfl⟩, trivial⟩⟩⟩⟩ rfl ?_
  exact kz_weak [(0, .ref (w_adr E.2.1 12 0)), (1, .int x1), (2, .int x2), (3, .int x3), (6, .int (w_i w 12 0 120))] ⟨rfl, ⟨rfl, ⟨rfl, ⟨rfl, ⟨rfl, trivial⟩⟩⟩⟩⟩ rfl h
def zb_X13_leave_p88 (E : zE) (L : Nat) (Q : kx_Rs → wS → Prop) (x1 : Int32) (x2 : Int32) (x3 : Int32) (x4 : Int32) (y0 : Int32) (w : wS) : Prop := (if x4 = 0 then (if y0 = 0 then (if ¬ w_i w 12 0 120 = (Int32.ofNat (w_n w 12 0 121)) then zb_X13_leave_p196 E L Q x1 x2 x3 w else zw E (L - 22) kt_M461 [.ref (w_d w 12 0 121)] w (wkr (fun v2 w1 => wle w w1 → (∃ a3, v2 = some a3 ∧ (w_o w1 a3 = some (99, a3, 0) ∧ w_t w1 a3 = 0) ∧ zw E (L - 22) kt_M461 [.ref (w_d (ws_put w1 12 0 121 a3) 12 0 122)] (ws_put w1 12 0 121 a3) (wkr (fun v5 w4 => wle (ws_put w1 12 0 121 a3) w4 → (∃ a6, v5 = some a6 ∧ (w_o w4 a6 = some (99, a6, 0) ∧ w_t w4 a6 = 0) ∧ zb_X13_leave_p196 E L Q x1 x2 x3 (ws_put w4 12 0 122 a6))) (fun e w => Q (.inr e) w)))) (fun e w => Q (.inr e) w))) else (kx_inb x3 (w_n w 12 0 121) = true ∧ (kx_inb x3 (w_n w 12 0 122) = true ∧ (kx_inb x3 (w_n w 12 0 122) = true ∧ zb_X13_leave_p270 E L Q (ws_a (ws_a w 12 0 121 (x3).toNatClampNeg x1) 12 0 122 (x3).toNatClampNeg ((w_a w 12 0 122 (x3).toNatClampNeg) + x2)))))) else (kx_inb (x3 - 1) (w_n w 12 0 122) = true ∧ (kx_inb (x3 - 1) (w_n w 12 0 122) = true ∧ (if y0 = 0 then zb_X13_leave_p270 E L Q (ws_a w 12 0 122 ((x3 - 1)).toNatClampNeg ((w_a w 12 0 122 ((x3 - 1)).toNatClampNeg) + x2)) else (kx_inb (x3 - 1) (w_n w 12 0 122) = true ∧ (kx_inb x3 (w_n w 12 0 122) = true ∧ (kx_inb (x3 - 1) (w_n w 12 0 122) = true ∧ zw E (L - 22) kt_M390 [.ref (w_adr E.2.1 12 0), .int x3] (ws_a (ws_a w 12 0 122 ((x3 - 1)).toNatClampNeg ((w_a w 12 0 122 ((x3 - 1)).toNatClampNeg) + x2)) 12 0 122 ((x3 - 1)).toNatClampNeg ((w_a (ws_a w 12 0 122 ((x3 - 1)).toNatClampNeg ((w_a w 12 0 122 ((x3 - 1)).toNatClampNeg) + x2)) 12 0 122 ((x3 - 1)).toNatClampNeg) + (w_a (ws_a w 12 0 122 ((x3 - 1)).toNatClampNeg ((w_a w 12 0 122 ((x3 - 1)).toNatClampNeg) + x2)) 12 0 122 (x3).toNatClampNeg))) (wk0 (fun w7 => wle (ws_a (ws_a w 12 0 122 ((x3 - 1)).toNatClampNeg ((w_a w 12 0 122 ((x3 - 1)).toNatClampNeg) + x2)) 12 0 122 ((x3 - 1)).toNatClampNeg ((w_a (ws_a w 12 0 122 ((x3 - 1)).toNatClampNeg ((w_a w 12 0 122 ((x3 - 1)).toNatClampNeg) + x2)) 12 0 122 ((x3 - 1)).toNatClampNeg) + (w_a (ws_a w 12 0 122 ((x3 - 1)).toNatClampNeg ((w_a w 12 0 122 ((x3 - 1)).toNatClampNeg) + x2)) 12 0 122 (x3).toNatClampNeg))) w7 → zb_X13_leave_p270 E L Q w7) (fun e w => Q (.inr e) w)))))))))
theorem zt_X13_leave_p88 {E : zE} {L : Nat} {Q : kx_Rs → wS → Prop} {x1 : Int32} {x2 : Int32} {x3 : Int32} {x4 : Int32} {y0 : Int32} {w : wS} (hL : 22 ≤ L) (h : zb_X13_leave_p88 E L Q x1 x2 x3 x4 y0 w) : kzE E L kt_M456 88 [(0, .ref (w_adr E.2.1 12 0)), (1, .int x1), (2, .int x2), (3, .int x3), (4, .int x4)] [.int y0] w Q := by
  unfold zb_X13_leave_p88 at h
  refine kz_sti (M := kt_M456) [(0, .ref (w_adr E.2.1 12 0)), (1, .int x1), (2, .int x2), (3, .int x3), (4, .int x4)] kX13_leave_c6.2.2.2.2.2.1 (Nat.le_of_ble_eq_true rfl) ⟨⟨rfl, rfl, .inl rfl⟩, ⟨⟨rfl, rfl, .inl rfl⟩, ⟨⟨rfl, rfl, .inl rfl⟩, ⟨⟨rfl, rfl, .inl rfl⟩, ⟨⟨rfl, rfl, .inr rfl⟩, trivial⟩⟩⟩⟩⟩ rfl ?_
  refine kz_iload (M := kt_M456) kX13_leave_c6.2.2.2.2.2.2.1 rfl ?_
  refine kz_if_eq (M := kt_M456) kX13_leave_c6.2.2.2.2.2.2.2.1 (t := 137) rfl h (fun h => ?_) (fun h => ?_)
  · skip
    refine kz_iload (M := kt_M456) kX13_leave_c10.2.2.2.2.2.1 rfl ?_
    refine kz_if_eq (M := kt_M456) kX13_leave_c10.2.2.2.2.2.2.1 (t := 162) rfl h (fun h => ?_) (fun h => ?_)
    · skip
      refine kz_aload_n (M := kt_M456) kX13_leave_c12.2.2.2.2.2.1 rfl ?_
      refine kz_gfi (M := kt_M456) (c := 12) (o := 0) kX13_leave_c12.2.2.2.2.2.2.1 wf_X13_1131 (.inl rfl) ?_
      refine kz_aload_n (M := kt_M456) kX13_leave_c12.2.2.2.2.2.2.2.1 rfl ?_
      refine kz_gfa (M := kt_M456) (c := 12) (o := 0) kX13_leave_c13.1 wf_X13_370 (.inl rfl) ?_
      refine kz_alen (M := kt_M456) (c := 12) (o := 0) (k := 121) (a := (w_d w 12 0 121)) (τ := 0) kX13_leave_c13.2.1 ow_12_0_121 oa_12_0_121 (Nat.le_of_ble_eq_true rfl) ?_
      refine kz_icmp_ne (M := kt_M456) kX13_leave_c13.2.2.1 (t := 196) rfl h (fun h => ?_) (fun h => ?_)
      · skip
        exact kz_weak [(0, .ref (w_adr E.2.1 12 0)), (1, .int x1), (2, .int x2), (3, .int x3)] ⟨rfl, ⟨rfl, ⟨rfl, ⟨rfl, trivial⟩⟩⟩⟩ rfl (zt_X13_leave_p196 hL  h)
      · skip
        refine kz_aload_n (M := kt_M456) kX13_leave_c13.2.2.2.1 rfl ?_
        refine kz_aload_n (M := kt_M456) kX13_leave_c13.2.2.2.2.1 rfl ?_
        refine kz_gfa (M := kt_M456) (c := 12) (o := 0) kX13_leave_c13.2.2.2.2.2.1 wf_X13_370 (.inl rfl) ?_
        refine kz_csr (M := kt_M456) (As := [.ref (w_d w 12 0 121)]) (rest := [.ref (w_adr E.2.1 12 0)]) kX13_leave_c13.2.2.2.2.2.2.1 wl_X13_1007 wMs_461 rfl (Nat.le_trans (Nat.le_of_ble_eq_true rfl) hL) (Nat.le_of_ble_eq_true rfl) (Nat.le_of_ble_eq_true rfl) h (fun v2 w1 hle h => ?_) (fun _ _ _ h => kzx_no rfl h)
        have h := h hle
        obtain ⟨a3, hx, h⟩ := h
        refine kz_nz0 (M := kt_M456) (x := v2) hx ?_
        refine kz_pfa (M := kt_M456) (c := 12) (o := 0) (τ := 0) kX13_leave_c13.2.2.2.2.2.2.2.1 wq_X13_370 (.inl rfl) rfl h (fun h => ?_)
        refine kz_aload_n (M := kt_M456) kX13_leave_c14.1 rfl ?_
        refine kz_aload_n (M := kt_M456) kX13_leave_c14.2.1 rfl ?_
        refine kz_gfa (M := kt_M456) (c := 12) (o := 0) kX13_leave_c14.2.2.1 wf_X13_373 (.inl rfl) ?_
        refine kz_csr (M := kt_M456) (As := [.ref (w_d (ws_put w1 12 0 121 a3) 12 0 122)]) (rest := [.ref (w_adr E.2.1 12 0)]) kX13_leave_c14.2.2.2.1 wl_X13_1007 wMs_461 rfl (Nat.le_trans (Nat.le_of_ble_eq_true rfl) hL) (Nat.le_of_ble_eq_true rfl) (Nat.le_of_ble_eq_true rfl) h (fun v5 w4 hle h => ?_) (fun _ _ _ h => kzx_no rfl h)
        have h := h hle
        obtain ⟨a6, hx, h⟩ := h
        refine kz_nz0 (M := kt_M456) (x := v5) hx ?_
        refine kz_pfa (M := kt_M456) (c := 12) (o := 0) (τ := 0) kX13_leave_c14.2.2.2.2.1 wq_X13_373 (.inl rfl) rfl h (fun h => ?_)
        exact kz_weak [(0, .ref (w_adr E.2.1 12 0)), (1, .int x1), (2, .int x2), (3, .int x3)] ⟨rfl, ⟨rfl, ⟨rfl, ⟨rfl, trivial⟩⟩⟩⟩ rfl (zt_X13_leave_p196 hL  h)
    · skip
      refine kz_aload_n (M := kt_M456) kX13_leave_c10.2.2.2.2.2.2.2.1 rfl ?_
      refine kz_gfa (M := kt_M456) (c := 12) (o := 0) kX13_leave_c11.1 wf_X13_370 (.inl rfl) ?_
      refine kz_iload_n (M := kt_M456) kX13_leave_c11.2.1 rfl ?_
      refine kz_iload_n (M := kt_M456) kX13_leave_c11.2.2.1 rfl ?_
      refine kz_iast (M := kt_M456) (c := 12) (o := 0) (k := 121) (a := (w_d w 12 0 121)) kX13_leave_c11.2.2.2.1 ow_12_0_121 oa_12_0_121 ot_0 h (fun h => ?_)
      refine kz_aload_n (M := kt_M456) kX13_leave_c11.2.2.2.2.1 rfl ?_
      refine kz_gfa (M := kt_M456) (c := 12) (o := 0) kX13_leave_c11.2.2.2.2.2.1 wf_X13_373 (.inl rfl) ?_
      refine kz_iload_n (M := kt_M456) kX13_leave_c11.2.2.2.2.2.2.1 rfl ?_
      refine kz_dup2 (M := kt_M456) kX13_leave_c11.2.2.2.2.2.2.2.1 ⟨rfl, rfl⟩ ?_
      refine kz_ialdR (M := kt_M456) (n := w_n w 12 0 122) (c := 12) (o := 0) (k := 122) (a := (w_d (ws_a w 12 0 121 (x3).toNatClampNeg x1) 12 0 122)) (w_a w 12 0 122 (x3).toNatClampNeg) kX13_leave_c12.1 ow_12_0_122 oa_12_0_122 ot_0 rd_n_a (rd_a_a rfl) h (fun h => ?_)
      refine kz_iload_n (M := kt_M456) kX13_leave_c12.2.1 rfl ?_
      refine kz_iadd (M := kt_M456) kX13_leave_c12.2.2.1 ?_
      refine kz_iastR (M := kt_M456) (n := w_n w 12 0 122) (c := 12) (o := 0) (k := 122) (a := (w_d (ws_a w 12 0 121 (x3).toNatClampNeg x1) 12 0 122)) kX13_leave_c12.2.2.2.1 ow_12_0_122 oa_12_0_122 ot_0 rd_n_a h (fun h => ?_)
      refine kz_goto (M := kt_M456) kX13_leave_c12.2.2.2.2.1 (t := 270) rfl ?_
      exact kz_weak [(0, .ref (w_adr E.2.1 12 0))] ⟨rfl, trivial⟩ rfl (zt_X13_leave_p270 hL  h)
  · skip
    refine kz_aload_n (M := kt_M456) kX13_leave_c7.1 rfl ?_
    refine kz_gfa (M := kt_M456) (c := 12) (o := 0) kX13_leave_c7.2.1 wf_X13_373 (.inl rfl) ?_
    refine kz_iload_n (M := kt_M456) kX13_leave_c7.2.2.1 rfl ?_
    refine kz_ic (M := kt_M456) 1 kX13_leave_c7.2.2.2.1 rfl ?_
    refine kz_isub (M := kt_M456) kX13_leave_c7.2.2.2.2.1 ?_
    refine kz_dup2 (M := kt_M456) kX13_leave_c7.2.2.2.2.2.1 ⟨rfl, rfl⟩ ?_
    refine kz_iald (M := kt_M456) (c := 12) (o := 0) (k := 122) (a := (w_d w 12 0 122)) kX13_leave_c7.2.2.2.2.2.2.1 ow_12_0_122 oa_12_0_122 ot_0 h (fun h => ?_)
    refine kz_iload_n (M := kt_M456) kX13_leave_c7.2.2.2.2.2.2.2.1 rfl ?_
    refine kz_iadd (M := kt_M456) kX13_leave_c8.1 ?_
    refine kz_iast (M := kt_M456) (c := 12) (o := 0) (k := 122) (a := (w_d w 12 0 122)) kX13_leave_c8.2.1 ow_12_0_122 oa_12_0_122 ot_0 h (fun h => ?_)
    refine kz_iload (M := kt_M456) kX13_leave_c8.2.2.1 rfl ?_
    refine kz_if_eq (M := kt_M456) kX13_leave_c8.2.2.2.1 (t := 270) rfl h (fun h => ?_) (fun h => ?_)
    · skip
      exact kz_weak [(0, .ref (w_adr E.2.1 12 0))] ⟨rfl, trivial⟩ rfl (zt_X13_leave_p270 hL  h)
    · skip
      refine kz_aload_n (M := kt_M456) kX13_leave_c8.2.2.2.2.1 rfl ?_
      refine kz_gfa (M := kt_M456) (c := 12) (o := 0) kX13_leave_c8.2.2.2.2.2.1 wf_X13_373 (.inl rfl) ?_
      refine kz_iload_n (M := kt_M456) kX13_leave_c8.2.2.2.2.2.2.1 rfl ?_
      refine kz_ic (M := kt_M456) 1 kX13_leave_c8.2.2.2.2.2.2.2.1 rfl ?_
      refine kz_isub (M := kt_M456) kX13_leave_c9.1 ?_
      refine kz_dup2 (M := kt_M456) kX13_leave_c9.2.1 ⟨rfl, rfl⟩ ?_
      refine kz_ialdR (M := kt_M456) (n := w_n w 12 0 122) (c := 12) (o := 0) (k := 122) (a := (w_d (ws_a w 12 0 122 ((x3 - 1)).toNatClampNeg ((w_a w 12 0 122 ((x3 - 1)).toNatClampNeg) + x2)) 12 0 122)) (w_a (ws_a w 12 0 122 ((x3 - 1)).toNatClampNeg ((w_a w 12 0 122 ((x3 - 1)).toNatClampNeg) + x2)) 12 0 122 ((x3 - 1)).toNatClampNeg) kX13_leave_c9.2.2.1 ow_12_0_122 oa_12_0_122 ot_0 rd_n_a rfl h (fun h => ?_)
      refine kz_aload_n (M := kt_M456) kX13_leave_c9.2.2.2.1 rfl ?_
      refine kz_gfa (M := kt_M456) (c := 12) (o := 0) kX13_leave_c9.2.2.2.2.1 wf_X13_373 (.inl rfl) ?_
      refine kz_iload_n (M := kt_M456) kX13_leave_c9.2.2.2.2.2.1 rfl ?_
      refine kz_ialdR (M := kt_M456) (n := w_n w 12 0 122) (c := 12) (o := 0) (k := 122) (a := (w_d (ws_a w 12 0 122 ((x3 - 1)).toNatClampNeg ((w_a w 12 0 122 ((x3 - 1)).toNatClampNeg) + x2)) 12 0 122)) (w_a (ws_a w 12 0 122 ((x3 - 1)).toNatClampNeg ((w_a w 12 0 122 ((x3 - 1)).toNatClampNeg) + x2)) 12 0 122 (x3).toNatClampNeg) kX13_leave_c9.2.2.2.2.2.2.1 ow_12_0_122 oa_12_0_122 ot_0 rd_n_a rfl h (fun h => ?_)
      refine kz_iadd (M := kt_M456) kX13_leave_c9.2.2.2.2.2.2.2.1 ?_
      refine kz_iastR (M := kt_M456) (n := w_n w 12 0 122) (c := 12) (o := 0) (k := 122) (a := (w_d (ws_a w 12 0 122 ((x3 - 1)).toNatClampNeg ((w_a w 12 0 122 ((x3 - 1)).toNatClampNeg) + x2)) 12 0 122)) kX13_leave_c10.1 ow_12_0_122 oa_12_0_122 ot_0 rd_n_a h (fun h => ?_)
      refine kz_aload_n (M := kt_M456) kX13_leave_c10.2.1 rfl ?_
      refine kz_iload_n (M := kt_M456) kX13_leave_c10.2.2.1 rfl ?_
      refine kz_cv0 (M := kt_M456) (c := 12) (o := 0) (As := [.int x3]) (rest := []) kX13_leave_c10.2.2.2.1 wl_X13_1134 wMv_390 rfl (.inl rfl) rfl (Nat.le_trans (Nat.le_of_ble_eq_true rfl) hL) (Nat.le_of_ble_eq_true rfl) (Nat.le_of_ble_eq_true rfl) h (fun w7 hle h => ?_) (fun _ _ _ h => kzx_no rfl h)
      have h := h hle
      refine kz_goto (M := kt_M456) kX13_leave_c10.2.2.2.2.1 (t := 270) rfl ?_
      exact kz_weak [(0, .ref (w_adr E.2.1 12 0))] ⟨rfl, trivial⟩ rfl (zt_X13_leave_p270 hL  h)
def zb_X13_leave_p87 (E : zE) (L : Nat) (Q : kx_Rs → wS → Prop) (x1 : Int32) (x2 : Int32) (x3 : Int32) (x4 : Int32) (w : wS) : Prop := zb_X13_leave_p88 E L Q x1 x2 x3 x4 0 w
theorem zt_X13_leave_p87 {E : zE} {L : Nat} {Q : kx_Rs → wS → Prop} {x1 : Int32} {x2 : Int32} {x3 : Int32} {x4 : Int32} {w : wS} (hL : 22 ≤ L) (h : zb_X13_leave_p87 E L Q x1 x2 x3 x4 w) : kzE E L kt_M456 87 [(0, .ref (w_adr E.2.1 12 0)), (1, .int x1), (2, .int x2), (3, .int x3), (4, .int x4)] [] w Q := by
  unfold zb_X13_leave_p87 at h
  refine kz_ic (M := kt_M456) 0 kX13_leave_c6.2.2.2.2.1 rfl ?_
  exact kz_weak [(0, .ref (w_adr E.2.1 12 0)), (1, .int x1), (2, .int x2), (3, .int x3), (4, .int x4)] ⟨rfl, ⟨rfl, ⟨rfl, ⟨rfl, ⟨rfl, trivial⟩⟩⟩⟩⟩ rfl (zt_X13_leave_p88 hL  h)
def zb_X13_leave_p61 (E : zE) (L : Nat) (Q : kx_Rs → wS → Prop) (x1 : Int32) (x2 : Int32) (x3 : Int32) (y0 : Int32) (w : wS) : Prop := (if w_i w 12 0 120 ≤ x3 then zb_X13_leave_p87 E L Q x1 x2 x3 y0 w else (kx_inb x3 (w_n w 12 0 121) = true ∧ (if ¬ (x1 + x2) = w_a w 12 0 121 (x3).toNatClampNeg then zb_X13_leave_p87 E L Q x1 x2 x3 y0 w else zb_X13_leave_p88 E L Q x1 x2 x3 y0 1 w)))
theorem zt_X13_leave_p61 {E : zE} {L : Nat} {Q : kx_Rs → wS → Prop} {x1 : Int32} {x2 : Int32} {x3 : Int32} {y0 : Int32} {w : wS} (hL : 22 ≤ L) (h : zb_X13_leave_p61 E L Q x1 x2 x3 y0 w) : kzE E L kt_M456 61 [(0, .ref (w_adr E.2.1 12 0)), (1, .int x1), (2, .int x2), (3, .int x3)] [.int y0] w Q := by
  unfold zb_X13_leave_p61 at h
  refine kz_sti (M := kt_M456) [(0, .ref (w_adr E.2.1 12 0)), (1, .int x1), (2, .int x2), (3, .int x3)] kX13_leave_c4.2.2.2.2.2.1 (Nat.le_of_ble_eq_true rfl) ⟨⟨rfl, rfl, .inl rfl⟩, ⟨⟨rfl, rfl, .inl rfl⟩, ⟨⟨rfl, rfl, .inl rfl⟩, ⟨⟨rfl, rfl, .inr rfl⟩, trivial⟩⟩⟩⟩ rfl ?_
  refine kz_iload_n (M := kt_M456) kX13_leave_c4.2.2.2.2.2.2.1 rfl ?_
  refine kz_aload_n (M := kt_M456) kX13_leave_c4.2.2.2.2.2.2.2.1 rfl ?_
  refine kz_gfi (M := kt_M456) (c := 12) (o := 0) kX13_leave_c5.1 wf_X13_1131 (.inl rfl) ?_
  refine kz_icmp_ge (M := kt_M456) kX13_leave_c5.2.1 (t := 87) rfl h (fun h => ?_) (fun h => ?_)
  · skip
    exact kz_weak [(0, .ref (w_adr E.2.1 12 0)), (1, .int x1), (2, .int x2), (3, .int x3), (4, .int y0)] ⟨rfl, ⟨rfl, ⟨rfl, ⟨rfl, ⟨rfl, trivial⟩⟩⟩⟩⟩ rfl (zt_X13_leave_p87 hL  h)
  · skip
    refine kz_iload_n (M := kt_M456) kX13_leave_c5.2.2.1 rfl ?_
    refine kz_iload_n (M := kt_M456) kX13_leave_c5.2.2.2.1 rfl ?_
    refine kz_iadd (M := kt_M456) kX13_leave_c5.2.2.2.2.1 ?_
    refine kz_aload_n (M := kt_M456) kX13_leave_c5.2.2.2.2.2.1 rfl ?_
    refine kz_gfa (M := kt_M456) (c := 12) (o := 0) kX13_leave_c5.2.2.2.2.2.2.1 wf_X13_370 (.inl rfl) ?_
    refine kz_iload_n (M := kt_M456) kX13_leave_c5.2.2.2.2.2.2.2.1 rfl ?_
    refine kz_iald (M := kt_M456) (c := 12) (o := 0) (k := 121) (a := (w_d w 12 0 121)) kX13_leave_c6.1 ow_12_0_121 oa_12_0_121 ot_0 h (fun h => ?_)
    refine kz_icmp_ne (M := kt_M456) kX13_leave_c6.2.1 (t := 87) rfl h (fun h => ?_) (fun h => ?_)
    · skip
      exact kz_weak [(0, .ref (w_adr E.2.1 12 0)), (1, .int x1), (2, .int x2), (3, .int x3), (4, .int y0)] ⟨rfl, ⟨rfl, ⟨rfl, ⟨rfl, ⟨rfl, trivial⟩⟩⟩⟩⟩ rfl (zt_X13_leave_p87 hL  h)
    · skip
      refine kz_ic (M := kt_M456) 1 kX13_leave_c6.2.2.1 rfl ?_
      refine kz_goto (M := kt_M456) kX13_leave_c6.2.2.2.1 (t := 88) rfl ?_
      exact kz_weak [(0, .ref (w_adr E.2.1 12 0)), (1, .int x1), (2, .int x2), (3, .int x3), (4, .int y0)] ⟨rfl, ⟨rfl, ⟨rfl, ⟨rfl, ⟨rfl, trivial⟩⟩⟩⟩⟩ rfl (zt_X13_leave_p88 hL  h)
def zb_X13_leave_p60 (E : zE) (L : Nat) (Q : kx_Rs → wS → Prop) (x1 : Int32) (x2 : Int32) (x3 : Int32) (w : wS) : Prop := zb_X13_leave_p61 E L Q x1 x2 x3 0 w
theorem zt_X13_leave_p60 {E : zE} {L : Nat} {Q : kx_Rs → wS → Prop} {x1 : Int32} {x2 : Int32} {x3 : Int32} {w : wS} (hL : 22 ≤ L) (h : zb_X13_leave_p60 E L Q x1 x2 x3 w) : kzE E L kt_M456 60 [(0, .ref (w_adr E.2.1 12 0)), (1, .int x1), (2, .int x2), (3, .int x3)] [] w Q := by
  unfold zb_X13_leave_p60 at h
  refine kz_ic (M := kt_M456) 0 kX13_leave_c4.2.2.2.2.1 rfl ?_
  exact kz_weak [(0, .ref (w_adr E.2.1 12 0)), (1, .int x1), (2, .int x2), (3, .int x3)] ⟨rfl, ⟨rfl, ⟨rfl, ⟨rfl, trivial⟩⟩⟩⟩ rfl (zt_X13_leave_p61 hL  h)
def zb_X13_leave_p31 (E : zE) (L : Nat) (Q : kx_Rs → wS → Prop) (x1 : Int32) (x2 : Int32) (x3 : Int32) (w : wS) : Prop := (if x3 ≤ 0 then zb_X13_leave_p60 E L Q x1 x2 x3 w else (kx_inb (x3 - 1) (w_n w 12 0 121) = true ∧ (kx_inb (x3 - 1) (w_n w 12 0 122) = true ∧ (if ¬ ((w_a w 12 0 121 ((x3 - 1)).toNatClampNeg) + (w_a w 12 0 122 ((x3 - 1)).toNatClampNeg)) = x1 then zb_X13_leave_p60 E L Q x1 x2 x3 w else zb_X13_leave_p61 E L Q x1 x2 x3 1 w))))
theorem zt_X13_leave_p31 {E : zE} {L : Nat} {Q : kx_Rs → wS → Prop} {x1 : Int32} {x2 : Int32} {x3 : Int32} {w : wS} (hL : 22 ≤ L) (h : zb_X13_leave_p31 E L Q x1 x2 x3 w) : kzE E L kt_M456 31 [(0, .ref (w_adr E.2.1 12 0)), (1, .int x1), (2, .int x2), (3, .int x3)] [] w Q := by
  unfold zb_X13_leave_p31 at h
  refine kz_iload_n (M := kt_M456) kX13_leave_c2.2.1 rfl ?_
  refine kz_if_le (M := kt_M456) kX13_leave_c2.2.2.1 (t := 60) rfl h (fun h => ?_) (fun h => ?_)
  · skip
    exact kz_weak [(0, .ref (w_adr E.2.1 12 0)), (1, .int x1), (2, .int x2), (3, .int x3)] ⟨rfl, ⟨rfl, ⟨rfl, ⟨rfl, trivial⟩⟩⟩⟩ rfl (zt_X13_leave_p60 hL  h)
  · skip
    refine kz_aload_n (M := kt_M456) kX13_leave_c2.2.2.2.1 rfl ?_
    refine kz_gfa (M := kt_M456) (c := 12) (o := 0) kX13_leave_c2.2.2.2.2.1 wf_X13_370 (.inl rfl) ?_
    refine kz_iload_n (M := kt_M456) kX13_leave_c2.2.2.2.2.2.1 rfl ?_
    refine kz_ic (M := kt_M456) 1 kX13_leave_c2.2.2.2.2.2.2.1 rfl ?_
    refine kz_isub (M := kt_M456) kX13_leave_c2.2.2.2.2.2.2.2.1 ?_
    refine kz_iald (M := kt_M456) (c := 12) (o := 0) (k := 121) (a := (w_d w 12 0 121)) kX13_leave_c3.1 ow_12_0_121 oa_12_0_121 ot_0 h (fun h => ?_)
    refine kz_aload_n (M := kt_M456) kX13_leave_c3.2.1 rfl ?_
    refine kz_gfa (M := kt_M456) (c := 12) (o := 0) kX13_leave_c3.2.2.1 wf_X13_373 (.inl rfl) ?_
    refine kz_iload_n (M := kt_M456) kX13_leave_c3.2.2.2.1 rfl ?_
    refine kz_ic (M := kt_M456) 1 kX13_leave_c3.2.2.2.2.1 rfl ?_
    refine kz_isub (M := kt_M456) kX13_leave_c3.2.2.2.2.2.1 ?_
    refine kz_iald (M := kt_M456) (c := 12) (o := 0) (k := 122) (a := (w_d w 12 0 122)) kX13_leave_c3.2.2.2.2.2.2.1 ow_12_0_122 oa_12_0_122 ot_0 h (fun h => ?_)
    refine kz_iadd (M := kt_M456) kX13_leave_c3.2.2.2.2.2.2.2.1 ?_
    refine kz_iload_n (M := kt_M456) kX13_leave_c4.1 rfl ?_
    refine kz_icmp_ne (M := kt_M456) kX13_leave_c4.2.1 (t := 60) rfl h (fun h => ?_) (fun h => ?_)
    · skip
      exact kz_weak [(0, .ref (w_adr E.2.1 12 0)), (1, .int x1), (2, .int x2), (3, .int x3)] ⟨rfl, ⟨rfl, ⟨rfl, ⟨rfl, trivial⟩⟩⟩⟩ rfl (zt_X13_leave_p60 hL  h)
    · skip
      refine kz_ic (M := kt_M456) 1 kX13_leave_c4.2.2.1 rfl ?_
      refine kz_goto (M := kt_M456) kX13_leave_c4.2.2.2.1 (t := 61) rfl ?_
      exact kz_weak [(0, .ref (w_adr E.2.1 12 0)), (1, .int x1), (2, .int x2), (3, .int x3)] ⟨rfl, ⟨rfl, ⟨rfl, ⟨rfl, trivial⟩⟩⟩⟩ rfl (zt_X13_leave_p61 hL  h)
def zb_X13_leave_p7 (E : zE) (L : Nat) (Q : kx_Rs → wS → Prop) (x1 : Int32) (x2 : Int32) (x3 : Int32) (w : wS) : Prop := (if w_i w 12 0 120 ≤ x3 then zb_X13_leave_p31 E L Q x1 x2 x3 w else (kx_inb x3 (w_n w 12 0 121) = true ∧ (if x1 ≤ w_a w 12 0 121 (x3).toNatClampNeg then zb_X13_leave_p31 E L Q x1 x2 x3 w else zL_X13_leave_p7 E L Q x1 x2 (x3 + 1) w)))
theorem zt_X13_leave_p7 {E : zE} {L : Nat} {Q : kx_Rs → wS → Prop} {x1 : Int32} {x2 : Int32} {x3 : Int32} {w : wS} (hL : 22 ≤ L) (h : zb_X13_leave_p7 E L Q x1 x2 x3 w) : kzE E L kt_M456 7 [(0, .ref (w_adr E.2.1 12 0)), (1, .int x1), (2, .int x2), (3, .int x3)] [] w Q := by
  unfold zb_X13_leave_p7 at h
  refine kz_iload_n (M := kt_M456) kX13_leave_c0.2.2.2.2.2.1 rfl ?_
  refine kz_aload_n (M := kt_M456) kX13_leave_c0.2.2.2.2.2.2.1 rfl ?_
  refine kz_gfi (M := kt_M456) (c := 12) (o := 0) kX13_leave_c0.2.2.2.2.2.2.2.1 wf_X13_1131 (.inl rfl) ?_
  refine kz_icmp_ge (M := kt_M456) kX13_leave_c1.1 (t := 31) rfl h (fun h => ?_) (fun h => ?_)
  · skip
    exact kz_weak [(0, .ref (w_adr E.2.1 12 0)), (1, .int x1), (2, .int x2), (3, .int x3)] ⟨rfl, ⟨rfl, ⟨rfl, ⟨rfl, trivial⟩⟩⟩⟩ rfl (zt_X13_leave_p31 hL  h)
  · skip
    refine kz_aload_n (M := kt_M456) kX13_leave_c1.2.1 rfl ?_
    refine kz_gfa (M := kt_M456) (c := 12) (o := 0) kX13_leave_c1.2.2.1 wf_X13_370 (.inl rfl) ?_
    refine kz_iload_n (M := kt_M456) kX13_leave_c1.2.2.2.1 rfl ?_
    refine kz_iald (M := kt_M456) (c := 12) (o := 0) (k := 121) (a := (w_d w 12 0 121)) kX13_leave_c1.2.2.2.2.1 ow_12_0_121 oa_12_0_121 ot_0 h (fun h => ?_)
    refine kz_iload_n (M := kt_M456) kX13_leave_c1.2.2.2.2.2.1 rfl ?_
    refine kz_icmp_ge (M := kt_M456) kX13_leave_c1.2.2.2.2.2.2.1 (t := 31) rfl h (fun h => ?_) (fun h => ?_)
    · skip
      exact kz_weak [(0, .ref (w_adr E.2.1 12 0)), (1, .int x1), (2, .int x2), (3, .int x3)] ⟨rfl, ⟨rfl, ⟨rfl, ⟨rfl, trivial⟩⟩⟩⟩ rfl (zt_X13_leave_p31 hL  h)
    · skip
      refine kz_inc (M := kt_M456) [(0, .ref (w_adr E.2.1 12 0)), (1, .int x1), (2, .int x2)] kX13_leave_c1.2.2.2.2.2.2.2.1 rfl (Nat.le_of_ble_eq_true rfl) ⟨⟨rfl, rfl, .inl rfl⟩, ⟨⟨rfl, rfl, .inl rfl⟩, ⟨⟨rfl, rfl, .inr rfl⟩, trivial⟩⟩⟩ rfl ?_
      refine kz_goto (M := kt_M456) kX13_leave_c2.1 (t := 7) rfl ?_
      exact kz_weak [(0, .ref (w_adr E.2.1 12 0)), (1, .int x1), (2, .int x2), (3, .int (x3 + 1))] ⟨rfl, ⟨rfl, ⟨rfl, ⟨rfl, trivial⟩⟩⟩⟩ rfl h
def zb_X13_leave_p0 (E : zE) (L : Nat) (Q : kx_Rs → wS → Prop) (x1 : Int32) (x2 : Int32) (w : wS) : Prop := (if ¬ x2 = 0 then zL_X13_leave_p7 E L Q x1 x2 0 w else Q (.inl none) w)
theorem zt_X13_leave_p0 {E : zE} {L : Nat} {Q : kx_Rs → wS → Prop} {x1 : Int32} {x2 : Int32} {w : wS} (hL : 22 ≤ L) (h : zb_X13_leave_p0 E L Q x1 x2 w) : kzE E L kt_M456 0 [(0, .ref (w_adr E.2.1 12 0)), (1, .int x1), (2, .int x2)] [] w Q := by
  unfold zb_X13_leave_p0 at h
  refine kz_iload_n (M := kt_M456) kX13_leave_c0.1 rfl ?_
  refine kz_if_ne (M := kt_M456) kX13_leave_c0.2.1 (t := 5) rfl h (fun h => ?_) (fun h => ?_)
  · skip
    refine kz_ic (M := kt_M456) 0 kX13_leave_c0.2.2.2.1 rfl ?_
    refine kz_sti_n (M := kt_M456) [(0, .ref (w_adr E.2.1 12 0)), (1, .int x1), (2, .int x2)] kX13_leave_c0.2.2.2.2.1 (Nat.le_of_ble_eq_true rfl) ⟨⟨rfl, rfl, .inl rfl⟩, ⟨⟨rfl, rfl, .inl rfl⟩, ⟨⟨rfl, rfl, .inr rfl⟩, trivial⟩⟩⟩ rfl ?_
    exact kz_weak [(0, .ref (w_adr E.2.1 12 0)), (1, .int x1), (2, .int x2), (3, .int 0)] ⟨rfl, ⟨rfl, ⟨rfl, ⟨rfl, trivial⟩⟩⟩⟩ rfl h
  · skip
    exact kz_ret (M := kt_M456) kX13_leave_c0.2.2.1 rfl h
def zL_X13_takeBack_p202 (E : zE) (L : Nat) (Q : kx_Rs → wS → Prop) (x1 : Int32) (x2 : Int32) (x3 : Int32) (x6 : Int32) (w : wS) : Prop := kzE E L kt_M551 202 [(0, .ref (w_adr E.2.1 12 0)), (1, .int x1), (2, .int x2), (3, .int x3), (6, .int x6)] [] w Q
def zL_X13_takeBack_p7 (E : zE) (L : Nat) (Q : kx_Rs → wS → Prop) (x1 : Int32) (x2 : Int32) (x3 : Int32) (w : wS) : Prop := kzE E L kt_M551 7 [(0, .ref (w_adr E.2.1 12 0)), (1, .int x1), (2, .int x2), (3, .int x3)] [] w Q
def zb_X13_takeBack_p270 (E : zE) (L : Nat) (Q : kx_Rs → wS → Prop) (w : wS) : Prop := Q (.inl none) w
theorem zt_X13_takeBack_p270 {E : zE} {L : Nat} {Q : kx_Rs → wS → Prop} {w : wS} (hL : 22 ≤ L) (h : zb_X13_takeBack_p270 E L Q  w) : kzE E L kt_M551 270 [(0, .ref (w_adr E.2.1 12 0))] [] w Q := by
  unfold zb_X13_takeBack_p270 at h
  exact kz_ret (M := kt_M551) kX13_takeBack_c20.2.1 rfl h
def zb_X13_takeBack_p202 (E : zE) (L : Nat) (Q : kx_Rs → wS → Prop) (x1 : Int32) (x2 : Int32) (x3 : Int32) (x6 : Int32) (w : wS) : Prop := (if x6 ≤ x3 then (kx_inb x3 (w_n w 12 0 116) = true ∧ (kx_inb x3 (w_n w 12 0 117) = true ∧ zb_X13_takeBack_p270 E L Q (ws_i (ws_a (ws_a w 12 0 116 (x3).toNatClampNeg x1) 12 0 117 (x3).toNatClampNeg x2) 12 0 115 ((w_i w 12 0 115) + 1)))) else (kx_inb (x6 - 1) (w_n w 12 0 116) = true ∧ (kx_inb x6 (w_n w 12 0 116) = true ∧ (kx_inb (x6 - 1) (w_n w 12 0 117) = true ∧ (kx_inb x6 (w_n w 12 0 117) = true ∧ zL_X13_takeBack_p202 E L Q x1 x2 x3 (x6 + (-1)) (ws_a (ws_a w 12 0 116 (x6).toNatClampNeg (w_a w 12 0 116 ((x6 - 1)).toNatClampNeg)) 12 0 117 (x6).toNatClampNeg (w_a w 12 0 117 ((x6 - 1)).toNatClampNeg)))))))
theorem zt_X13_takeBack_p202 {E : zE} {L : Nat} {Q : kx_Rs → wS → Prop} {x1 : Int32} {x2 : Int32} {x3 : Int32} {x6 : Int32} {w : wS} (hL : 22 ≤ L) (h : zb_X13_takeBack_p202 E L Q x1 x2 x3 x6 w) : kzE E L kt_M551 202 [(0, .ref (w_adr E.2.1 12 0)), (1, .int x1), (2, .int x2), (3, .int x3), (6, .int x6)] [] w Q := by
  unfold zb_X13_takeBack_p202 at h
  refine kz_iload (M := kt_M551) kX13_takeBack_c15.1 rfl ?_
  refine kz_iload_n (M := kt_M551) kX13_takeBack_c15.2.1 rfl ?_
  refine kz_icmp_le (M := kt_M551) kX13_takeBack_c15.2.2.1 (t := 246) rfl h (fun h => ?_) (fun h => ?_)
  · skip
    refine kz_aload_n (M := kt_M551) kX13_takeBack_c18.2.1 rfl ?_
    refine kz_gfa (M := kt_M551) (c := 12) (o := 0) kX13_takeBack_c18.2.2.1 wf_X13_359 (.inl rfl) ?_
    refine kz_iload_n (M := kt_M551) kX13_takeBack_c18.2.2.2.1 rfl ?_
    refine kz_iload_n (M := kt_M551) kX13_takeBack_c18.2.2.2.2.1 rfl ?_
    refine kz_iast (M := kt_M551) (c := 12) (o := 0) (k := 116) (a := (w_d w 12 0 116)) kX13_takeBack_c18.2.2.2.2.2.1 ow_12_0_116 oa_12_0_116 ot_0 h (fun h => ?_)
    refine kz_aload_n (M := kt_M551) kX13_takeBack_c18.2.2.2.2.2.2.1 rfl ?_
    refine kz_gfa (M := kt_M551) (c := 12) (o := 0) kX13_takeBack_c18.2.2.2.2.2.2.2.1 wf_X13_362 (.inl rfl) ?_
    refine kz_iload_n (M := kt_M551) kX13_takeBack_c19.1 rfl ?_
    refine kz_iload_n (M := kt_M551) kX13_takeBack_c19.2.1 rfl ?_
    refine kz_iastR (M := kt_M551) (n := w_n w 12 0 117) (c := 12) (o := 0) (k := 117) (a := (w_d (ws_a w 12 0 116 (x3).toNatClampNeg x1) 12 0 117)) kX13_takeBack_c19.2.2.1 ow_12_0_117 oa_12_0_117 ot_0 rd_n_a h (fun h => ?_)
    refine kz_aload_n (M := kt_M551) kX13_takeBack_c19.2.2.2.1 rfl ?_
    refine kz_dup (M := kt_M551) kX13_takeBack_c19.2.2.2.2.1 rfl ?_
    refine kz_gfiR (M := kt_M551) (c := 12) (o := 0) (w_i w 12 0 115) kX13_takeBack_c19.2.2.2.2.2.1 wf_X13_1143 (.inl rfl) (rd_i_a.trans rd_i_a) ?_
    refine kz_ic (M := kt_M551) 1 kX13_takeBack_c19.2.2.2.2.2.2.1 rfl ?_
    refine kz_iadd (M := kt_M551) kX13_takeBack_c19.2.2.2.2.2.2.2.1 ?_
    refine kz_pfi (M := kt_M551) (c := 12) (o := 0) kX13_takeBack_c20.1 wq_X13_1143 (.inl rfl) ?_
    exact kz_weak [(0, .ref (w_adr E.2.1 12 0))] ⟨rfl, trivial⟩ rfl (zt_X13_takeBack_p270 hL  h)
  · skip
    refine kz_aload_n (M := kt_M551) kX13_takeBack_c15.2.2.2.1 rfl ?_
    refine kz_gfa (M := kt_M551) (c := 12) (o := 0) kX13_takeBack_c15.2.2.2.2.1 wf_X13_359 (.inl rfl) ?_
    refine kz_iload (M := kt_M551) kX13_takeBack_c15.2.2.2.2.2.1 rfl ?_
    refine kz_aload_n (M := kt_M551) kX13_takeBack_c15.2.2.2.2.2.2.1 rfl ?_
    refine kz_gfa (M := kt_M551) (c := 12) (o := 0) kX13_takeBack_c15.2.2.2.2.2.2.2.1 wf_X13_359 (.inl rfl) ?_
    refine kz_iload (M := kt_M551) kX13_takeBack_c16.1 rfl ?_
    refine kz_ic (M := kt_M551) 1 kX13_takeBack_c16.2.1 rfl ?_
    refine kz_isub (M := kt_M551) kX13_takeBack_c16.2.2.1 ?_
    refine kz_iald (M := kt_M551) (c := 12) (o := 0) (k := 116) (a := (w_d w 12 0 116)) kX13_takeBack_c16.2.2.2.1 ow_12_0_116 oa_12_0_116 ot_0 h (fun h => ?_)
    refine kz_iast (M := kt_M551) (c := 12) (o := 0) (k := 116) (a := (w_d w 12 0 116)) kX13_takeBack_c16.2.2.2.2.1 ow_12_0_116 oa_12_0_116 ot_0 h (fun h => ?_)
    refine kz_aload_n (M := kt_M551) kX13_takeBack_c16.2.2.2.2.2.1 rfl ?_
    refine kz_gfa (M := kt_M551) (c := 12) (o := 0) kX13_takeBack_c16.2.2.2.2.2.2.1 wf_X13_362 (.inl rfl) ?_
    refine kz_iload (M := kt_M551) kX13_takeBack_c16.2.2.2.2.2.2.2.1 rfl ?_
    refine kz_aload_n (M := kt_M551) kX13_takeBack_c17.1 rfl ?_
    refine kz_gfa (M := kt_M551) (c := 12) (o := 0) kX13_takeBack_c17.2.1 wf_X13_362 (.inl rfl) ?_
    refine kz_iload (M := kt_M551) kX13_takeBack_c17.2.2.1 rfl ?_
    refine kz_ic (M := kt_M551) 1 kX13_takeBack_c17.2.2.2.1 rfl ?_
    refine kz_isub (M := kt_M551) kX13_takeBack_c17.2.2.2.2.1 ?_
    refine kz_ialdR (M := kt_M551) (n := w_n w 12 0 117) (c := 12) (o := 0) (k := 117) (a := (w_d (ws_a w 12 0 116 (x6).toNatClampNeg (w_a w 12 0 116 ((x6 - 1)).toNatClampNeg)) 12 0 117)) (w_a w 12 0 117 ((x6 - 1)).toNatClampNeg) kX13_takeBack_c17.2.2.2.2.2.1 ow_12_0_117 oa_12_0_117 ot_0 rd_n_a (rd_a_a rfl) h (fun h => ?_)
    refine kz_iastR (M := kt_M551) (n := w_n w 12 0 117) (c := 12) (o := 0) (k := 117) (a := (w_d (ws_a w 12 0 116 (x6).toNatClampNeg (w_a w 12 0 116 ((x6 - 1)).toNatClampNeg)) 12 0 117)) kX13_takeBack_c17.2.2.2.2.2.2.1 ow_12_0_117 oa_12_0_117 ot_0 rd_n_a h (fun h => ?_)
    refine kz_inc (M := kt_M551) [(0, .ref (w_adr E.2.1 12 0)), (1, .int x1), (2, .int x2), (3, .int x3)] kX13_takeBack_c17.2.2.2.2.2.2.2.1 rfl (Nat.le_of_ble_eq_true rfl) ⟨⟨rfl, rfl, .inl rfl⟩, ⟨⟨rfl, rfl, .inl rfl⟩, ⟨⟨rfl, rfl, .inl rfl⟩, ⟨⟨rfl, rfl, .inl rfl⟩, trivial⟩⟩⟩⟩ rfl ?_
    refine kz_goto (M := kt_M551) kX13_takeBack_c18.1 (t := 202) rfl ?_
    exact kz_weak [(0, .ref (w_adr E.2.1 12 0)), (1, .int x1), (2, .int x2), (3, .int x3), (6, .int (x6 + (-1)))] ⟨rfl, ⟨rfl, ⟨rfl, ⟨rfl, ⟨rfl, trivial⟩⟩⟩⟩⟩ rfl h
def zb_X13_takeBack_p196 (E : zE) (L : Nat) (Q : kx_Rs → wS → Prop) (x1 : Int32) (x2 : Int32) (x3 : Int32) (w : wS) : Prop := zL_X13_takeBack_p202 E L Q x1 x2 x3 (w_i w 12 0 115) w
theorem zt_X13_takeBack_p196 {E : zE} {L : Nat} {Q : kx_Rs → wS → Prop} {x1 : Int32} {x2 : Int32} {x3 : Int32} {w : wS} (hL : 22 ≤ L) (h : zb_X13_takeBack_p196 E L Q x1 x2 x3 w) : kzE E L kt_M551 196 [(0, .ref (w_adr E.2.1 12 0)), (1, .int x1), (2, .int x2), (3, .int x3)] [] w Q := by
  unfold zb_X13_takeBack_p196 at h
  refine kz_aload_n (M := kt_M551) kX13_takeBack_c14.2.2.2.2.2.1 rfl ?_
  refine kz_gfi (M := kt_M551) (c := 12) (o := 0) kX13_takeBack_c14.2.2.2.2.2.2.1 wf_X13_1143 (.inl rfl) ?_
  refine kz_sti (M := kt_M551) [(0, .ref (w_adr E.2.1 12 0)), (1, .int x1), (2, .int x2), (3, .int x3)] kX13_takeBack_c14.2.2.2.2.2.2.2.1 (Nat.le_of_ble_eq_true rfl) ⟨⟨rfl, rfl, .inl rfl⟩, ⟨⟨rfl, rfl, .inl rfl⟩, ⟨⟨rfl, rfl, .inl rfl⟩, ⟨⟨rfl, rfl, .inl rfl⟩, trivial⟩⟩⟩⟩ rfl ?_
  exact kz_weak [(0, .ref (w_adr E.2.1 12 0)), (1, .int x1), (2, .int x2), (3, .int x3), (6, .int (w_i w 12 0 115))] ⟨rfl, ⟨rfl, ⟨rfl, ⟨rfl, ⟨rfl, trivial⟩⟩⟩⟩⟩ rfl h
def zb_X13_takeBack_p88 (E : zE) (L : Nat) (Q : kx_Rs → wS → Prop) (x1 : Int32) (x2 : Int32) (x3 : Int32) (x4 : Int32) (y0 : Int32) (w : wS) : Prop := (if x4 = 0 then (if y0 = 0 then (if ¬ w_i w 12 0 115 = (Int32.ofNat (w_n w 12 0 116)) then zb_X13_takeBack_p196 E L Q x1 x2 x3 w else zw E (L - 22) kt_M461 [.ref (w_d w 12 0 116)] w (wkr (fun v2 w1 => wle w w1 → (∃ a3, v2 = some a3 ∧ (w_o w1 a3 = some (99, a3, 0) ∧ w_t w1 a3 = 0) ∧ zw E (L - 22) kt_M461 [.ref (w_d (ws_put w1 12 0 116 a3) 12 0 117)] (ws_put w1 12 0 116 a3) (wkr (fun v5 w4 => wle (ws_put w1 12 0 116 a3) w4 → (∃ a6, v5 = some a6 ∧ (w_o w4 a6 = some (99, a6, 0) ∧ w_t w4 a6 = 0) ∧ zb_X13_takeBack_p196 E L Q x1 x2 x3 (ws_put w4 12 0 117 a6))) (fun e w => Q (.inr e) w)))) (fun e w => Q (.inr e) w))) else (kx_inb x3 (w_n w 12 0 116) = true ∧ (kx_inb x3 (w_n w 12 0 117) = true ∧ (kx_inb x3 (w_n w 12 0 117) = true ∧ zb_X13_takeBack_p270 E L Q (ws_a (ws_a w 12 0 116 (x3).toNatClampNeg x1) 12 0 117 (x3).toNatClampNeg ((w_a w 12 0 117 (x3).toNatClampNeg) + x2)))))) else (kx_inb (x3 - 1) (w_n w 12 0 117) = true ∧ (kx_inb (x3 - 1) (w_n w 12 0 117) = true ∧ (if y0 = 0 then zb_X13_takeBack_p270 E L Q (ws_a w 12 0 117 ((x3 - 1)).toNatClampNeg ((w_a w 12 0 117 ((x3 - 1)).toNatClampNeg) + x2)) else (kx_inb (x3 - 1) (w_n w 12 0 117) = true ∧ (kx_inb x3 (w_n w 12 0 117) = true ∧ (kx_inb (x3 - 1) (w_n w 12 0 117) = true ∧ zw E (L - 22) kt_M391 [.ref (w_adr E.2.1 12 0), .int x3] (ws_a (ws_a w 12 0 117 ((x3 - 1)).toNatClampNeg ((w_a w 12 0 117 ((x3 - 1)).toNatClampNeg) + x2)) 12 0 117 ((x3 - 1)).toNatClampNeg ((w_a (ws_a w 12 0 117 ((x3 - 1)).toNatClampNeg ((w_a w 12 0 117 ((x3 - 1)).toNatClampNeg) + x2)) 12 0 117 ((x3 - 1)).toNatClampNeg) + (w_a (ws_a w 12 0 117 ((x3 - 1)).toNatClampNeg ((w_a w 12 0 117 ((x3 - 1)).toNatClampNeg) + x2)) 12 0 117 (x3).toNatClampNeg))) (wk0 (fun w7 => wle (ws_a (ws_a w 12 0 117 ((x3 - 1)).toNatClampNeg ((w_a w 12 0 117 ((x3 - 1)).toNatClampNeg) + x2)) 12 0 117 ((x3 - 1)).toNatClampNeg ((w_a (ws_a w 12 0 117 ((x3 - 1)).toNatClampNeg ((w_a w 12 0 117 ((x3 - 1)).toNatClampNeg) + x2)) 12 0 117 ((x3 - 1)).toNatClampNeg) + (w_a (ws_a w 12 0 117 ((x3 - 1)).toNatClampNeg ((w_a w 12 0 117 ((x3 - 1)).toNatClampNeg) + x2)) 12 0 117 (x3).toNatClampNeg))) w7 → zb_X13_takeBack_p270 E L Q w7) (fun e w => Q (.inr e) w)))))))))
theorem zt_X13_takeBack_p88 {E : zE} {L : Nat} {Q : kx_Rs → wS → Prop} {x1 : Int32} {x2 : Int32} {x3 : Int32} {x4 : Int32} {y0 : Int32} {w : wS} (hL : 22 ≤ L) (h : zb_X13_takeBack_p88 E L Q x1 x2 x3 x4 y0 w) : kzE E L kt_M551 88 [(0, .ref (w_adr E.2.1 12 0)), (1, .int x1), (2, .int x2), (3, .int x3), (4, .int x4)] [.int y0] w Q := by
  unfold zb_X13_takeBack_p88 at h
  refine kz_sti (M := kt_M551) [(0, .ref (w_adr E.2.1 12 0)), (1, .int x1), (2, .int x2), (3, .int x3), (4, .int x4)] kX13_takeBack_c6.2.2.2.2.2.1 (Nat.le_of_ble_eq_true rfl) ⟨⟨rfl, rfl, .inl rfl⟩, ⟨⟨rfl, rfl, .inl rfl⟩, ⟨⟨rfl, rfl, .inl rfl⟩, ⟨⟨rfl, rfl, .inl rfl⟩, ⟨⟨rfl, rfl, .inr rfl⟩, trivial⟩⟩⟩⟩⟩ rfl ?_
  refine kz_iload (M := kt_M551) kX13_takeBack_c6.2.2.2.2.2.2.1 rfl ?_
  refine kz_if_eq (M := kt_M551) kX13_takeBack_c6.2.2.2.2.2.2.2.1 (t := 137) rfl h (fun h => ?_) (fun h => ?_)
  · skip
    refine kz_iload (M := kt_M551) kX13_takeBack_c10.2.2.2.2.2.1 rfl ?_
    refine kz_if_eq (M := kt_M551) kX13_takeBack_c10.2.2.2.2.2.2.1 (t := 162) rfl h (fun h => ?_) (fun h => ?_)
    · skip
      refine kz_aload_n (M := kt_M551) kX13_takeBack_c12.2.2.2.2.2.1 rfl ?_
      refine kz_gfi (M := kt_M551) (c := 12) (o := 0) kX13_takeBack_c12.2.2.2.2.2.2.1 wf_X13_1143 (.inl rfl) ?_
      refine kz_aload_n (M := kt_M551) kX13_takeBack_c12.2.2.2.2.2.2.2.1 rfl ?_
      refine kz_gfa (M := kt_M551) (c := 12) (o := 0) kX13_takeBack_c13.1 wf_X13_359 (.inl rfl) ?_
      refine kz_alen (M := kt_M551) (c := 12) (o := 0) (k := 116) (a := (w_d w 12 0 116)) (τ := 0) kX13_takeBack_c13.2.1 ow_12_0_116 oa_12_0_116 (Nat.le_of_ble_eq_true rfl) ?_
      refine kz_icmp_ne (M := kt_M551) kX13_takeBack_c13.2.2.1 (t := 196) rfl h (fun h => ?_) (fun h => ?_)
      · skip
        exact kz_weak [(0, .ref (w_adr E.2.1 12 0)), (1, .int x1), (2, .int x2), (3, .int x3)] ⟨rfl, ⟨rfl, ⟨rfl, ⟨rfl, trivial⟩⟩⟩⟩ rfl (zt_X13_takeBack_p196 hL  h)
      · skip
        refine kz_aload_n (M := kt_M551) kX13_takeBack_c13.2.2.2.1 rfl ?_
        refine kz_aload_n (M := kt_M551) kX13_takeBack_c13.2.2.2.2.1 rfl ?_
        refine kz_gfa (M := kt_M551) (c := 12) (o := 0) kX13_takeBack_c13.2.2.2.2.2.1 wf_X13_359 (.inl rfl) ?_
        refine kz_csr (M := kt_M551) (As := [.ref (w_d w 12 0 116)]) (rest := [.ref (w_adr E.2.1 12 0)]) kX13_takeBack_c13.2.2.2.2.2.2.1 wl_X13_1007 wMs_461 rfl (Nat.le_trans (Nat.le_of_ble_eq_true rfl) hL) (Nat.le_of_ble_eq_true rfl) (Nat.le_of_ble_eq_true rfl) h (fun v2 w1 hle h => ?_) (fun _ _ _ h => kzx_no rfl h)
        have h := h hle
        obtain ⟨a3, hx, h⟩ := h
        refine kz_nz0 (M := kt_M551) (x := v2) hx ?_
        refine kz_pfa (M := kt_M551) (c := 12) (o := 0) (τ := 0) kX13_takeBack_c13.2.2.2.2.2.2.2.1 wq_X13_359 (.inl rfl) rfl h (fun h => ?_)
        refine kz_aload_n (M := kt_M551) kX13_takeBack_c14.1 rfl ?_
        refine kz_aload_n (M := kt_M551) kX13_takeBack_c14.2.1 rfl ?_
        refine kz_gfa (M := kt_M551) (c := 12) (o := 0) kX13_takeBack_c14.2.2.1 wf_X13_362 (.inl rfl) ?_
        refine kz_csr (M := kt_M551) (As := [.ref (w_d (ws_put w1 12 0 116 a3) 12 0 117)]) (rest := [.ref (w_adr E.2.1 12 0)]) kX13_takeBack_c14.2.2.2.1 wl_X13_1007 wMs_461 rfl (Nat.le_trans (Nat.le_of_ble_eq_true rfl) hL) (Nat.le_of_ble_eq_true rfl) (Nat.le_of_ble_eq_true rfl) h (fun v5 w4 hle h => ?_) (fun _ _ _ h => kzx_no rfl h)
        have h := h hle
        obtain ⟨a6, hx, h⟩ := h
        refine kz_nz0 (M := kt_M551) (x := v5) hx ?_
        refine kz_pfa (M := kt_M551) (c := 12) (o := 0) (τ := 0) kX13_takeBack_c14.2.2.2.2.1 wq_X13_362 (.inl rfl) rfl h (fun h => ?_)
        exact kz_weak [(0, .ref (w_adr E.2.1 12 0)), (1, .int x1), (2, .int x2), (3, .int x3)] ⟨rfl, ⟨rfl, ⟨rfl, ⟨rfl, trivial⟩⟩⟩⟩ rfl (zt_X13_takeBack_p196 hL  h)
    · skip
      refine kz_aload_n (M := kt_M551) kX13_takeBack_c10.2.2.2.2.2.2.2.1 rfl ?_
      refine kz_gfa (M := kt_M551) (c := 12) (o := 0) kX13_takeBack_c11.1 wf_X13_359 (.inl rfl) ?_
      refine kz_iload_n (M := kt_M551) kX13_takeBack_c11.2.1 rfl ?_
      refine kz_iload_n (M := kt_M551) kX13_takeBack_c11.2.2.1 rfl ?_
      refine kz_iast (M := kt_M551) (c := 12) (o := 0) (k := 116) (a := (w_d w 12 0 116)) kX13_takeBack_c11.2.2.2.1 ow_12_0_116 oa_12_0_116 ot_0 h (fun h => ?_)
      refine kz_aload_n (M := kt_M551) kX13_takeBack_c11.2.2.2.2.1 rfl ?_
      refine kz_gfa (M := kt_M551) (c := 12) (o := 0) kX13_takeBack_c11.2.2.2.2.2.1 wf_X13_362 (.inl rfl) ?_
      refine kz_iload_n (M := kt_M551) kX13_takeBack_c11.2.2.2.2.2.2.1 rfl ?_
      refine kz_dup2 (M := kt_M551) kX13_takeBack_c11.2.2.2.2.2.2.2.1 ⟨rfl, rfl⟩ ?_
      refine kz_ialdR (M := kt_M551) (n := w_n w 12 0 117) (c := 12) (o := 0) (k := 117) (a := (w_d (ws_a w 12 0 116 (x3).toNatClampNeg x1) 12 0 117)) (w_a w 12 0 117 (x3).toNatClampNeg) kX13_takeBack_c12.1 ow_12_0_117 oa_12_0_117 ot_0 rd_n_a (rd_a_a rfl) h (fun h => ?_)
      refine kz_iload_n (M := kt_M551) kX13_takeBack_c12.2.1 rfl ?_
      refine kz_iadd (M := kt_M551) kX13_takeBack_c12.2.2.1 ?_
      refine kz_iastR (M := kt_M551) (n := w_n w 12 0 117) (c := 12) (o := 0) (k := 117) (a := (w_d (ws_a w 12 0 116 (x3).toNatClampNeg x1) 12 0 117)) kX13_takeBack_c12.2.2.2.1 ow_12_0_117 oa_12_0_117 ot_0 rd_n_a h (fun h => ?_)
      refine kz_goto (M := kt_M551) kX13_takeBack_c12.2.2.2.2.1 (t := 270) rfl ?_
      exact kz_weak [(0, .ref (w_adr E.2.1 12 0))] ⟨rfl, trivial⟩ rfl (zt_X13_takeBack_p270 hL  h)
  · skip
    refine kz_aload_n (M := kt_M551) kX13_takeBack_c7.1 rfl ?_
    refine kz_gfa (M := kt_M551) (c := 12) (o := 0) kX13_takeBack_c7.2.1 wf_X13_362 (.inl rfl) ?_
    refine kz_iload_n (M := kt_M551) kX13_takeBack_c7.2.2.1 rfl ?_
    refine kz_ic (M := kt_M551) 1 kX13_takeBack_c7.2.2.2.1 rfl ?_
    refine kz_isub (M := kt_M551) kX13_takeBack_c7.2.2.2.2.1 ?_
    refine kz_dup2 (M := kt_M551) kX13_takeBack_c7.2.2.2.2.2.1 ⟨rfl, rfl⟩ ?_
    refine kz_iald (M := kt_M551) (c := 12) (o := 0) (k := 117) (a := (w_d w 12 0 117)) kX13_takeBack_c7.2.2.2.2.2.2.1 ow_12_0_117 oa_12_0_117 ot_0 h (fun h => ?_)
    refine kz_iload_n (M := kt_M551) kX13_takeBack_c7.2.2.2.2.2.2.2.1 rfl ?_
    refine kz_iadd (M := kt_M551) kX13_takeBack_c8.1 ?_
    refine kz_iast (M := kt_M551) (c := 12) (o := 0) (k := 117) (a := (w_d w 12 0 117)) kX13_takeBack_c8.2.1 ow_12_0_117 oa_12_0_117 ot_0 h (fun h => ?_)
    refine kz_iload (M := kt_M551) kX13_takeBack_c8.2.2.1 rfl ?_
    refine kz_if_eq (M := kt_M551) kX13_takeBack_c8.2.2.2.1 (t := 270) rfl h (fun h => ?_) (fun h => ?_)
    · skip
      exact kz_weak [(0, .ref (w_adr E.2.1 12 0))] ⟨rfl, trivial⟩ rfl (zt_X13_takeBack_p270 hL  h)
    · skip
      refine kz_aload_n (M := kt_M551) kX13_takeBack_c8.2.2.2.2.1 rfl ?_
      refine kz_gfa (M := kt_M551) (c := 12) (o := 0) kX13_takeBack_c8.2.2.2.2.2.1 wf_X13_362 (.inl rfl) ?_
      refine kz_iload_n (M := kt_M551) kX13_takeBack_c8.2.2.2.2.2.2.1 rfl ?_
      refine kz_ic (M := kt_M551) 1 kX13_takeBack_c8.2.2.2.2.2.2.2.1 rfl ?_
      refine kz_isub (M := kt_M551) kX13_takeBack_c9.1 ?_
      refine kz_dup2 (M := kt_M551) kX13_takeBack_c9.2.1 ⟨rfl, rfl⟩ ?_
      refine kz_ialdR (M := kt_M551) (n := w_n w 12 0 117) (c := 12) (o := 0) (k := 117) (a := (w_d (ws_a w 12 0 117 ((x3 - 1)).toNatClampNeg ((w_a w 12 0 117 ((x3 - 1)).toNatClampNeg) + x2)) 12 0 117)) (w_a (ws_a w 12 0 117 ((x3 - 1)).toNatClampNeg ((w_a w 12 0 117 ((x3 - 1)).toNatClampNeg) + x2)) 12 0 117 ((x3 - 1)).toNatClampNeg) kX13_takeBack_c9.2.2.1 ow_12_0_117 oa_12_0_117 ot_0 rd_n_a rfl h (fun h => ?_)
      refine kz_aload_n (M := kt_M551) kX13_takeBack_c9.2.2.2.1 rfl ?_
      refine kz_gfa (M := kt_M551) (c := 12) (o := 0) kX13_takeBack_c9.2.2.2.2.1 wf_X13_362 (.inl rfl) ?_
      refine kz_iload_n (M := kt_M551) kX13_takeBack_c9.2.2.2.2.2.1 rfl ?_
      refine kz_ialdR (M := kt_M551) (n := w_n w 12 0 117) (c := 12) (o := 0) (k := 117) (a := (w_d (ws_a w 12 0 117 ((x3 - 1)).toNatClampNeg ((w_a w 12 0 117 ((x3 - 1)).toNatClampNeg) + x2)) 12 0 117)) (w_a (ws_a w 12 0 117 ((x3 - 1)).toNatClampNeg ((w_a w 12 0 117 ((x3 - 1)).toNatClampNeg) + x2)) 12 0 117 (x3).toNatClampNeg) kX13_takeBack_c9.2.2.2.2.2.2.1 ow_12_0_117 oa_12_0_117 ot_0 rd_n_a rfl h (fun h => ?_)
      refine kz_iadd (M := kt_M551) kX13_takeBack_c9.2.2.2.2.2.2.2.1 ?_
      refine kz_iastR (M := kt_M551) (n := w_n w 12 0 117) (c := 12) (o := 0) (k := 117) (a := (w_d (ws_a w 12 0 117 ((x3 - 1)).toNatClampNeg ((w_a w 12 0 117 ((x3 - 1)).toNatClampNeg) + x2)) 12 0 117)) kX13_takeBack_c10.1 ow_12_0_117 oa_12_0_117 ot_0 rd_n_a h (fun h => ?_)
      refine kz_aload_n (M := kt_M551) kX13_takeBack_c10.2.1 rfl ?_
      refine kz_iload_n (M := kt_M551) kX13_takeBack_c10.2.2.1 rfl ?_
      refine kz_cv0 (M := kt_M551) (c := 12) (o := 0) (As := [.int x3]) (rest := []) kX13_takeBack_c10.2.2.2.1 wl_X13_1146 wMv_391 rfl (.inl rfl) rfl (Nat.le_trans (Nat.le_of_ble_eq_true rfl) hL) (Nat.le_of_ble_eq_true rfl) (Nat.le_of_ble_eq_true rfl) h (fun w7 hle h => ?_) (fun _ _ _ h => kzx_no rfl h)
      have h := h hle
      refine kz_goto (M := kt_M551) kX13_takeBack_c10.2.2.2.2.1 (t := 270) rfl ?_
      exact kz_weak [(0, .ref (w_adr E.2.1 12 0))] ⟨rfl, trivial⟩ rfl (zt_X13_takeBack_p270 hL  h)
def zb_X13_takeBack_p87 (E : zE) (L : Nat) (Q : kx_Rs → wS → Prop) (x1 : Int32) (x2 : Int32) (x3 : Int32) (x4 : Int32) (w : wS) : Prop := zb_X13_takeBack_p88 E L Q x1 x2 x3 x4 0 w
theorem zt_X13_takeBack_p87 {E : zE} {L : Nat} {Q : kx_Rs → wS → Prop} {x1 : Int32} {x2 : Int32} {x3 : Int32} {x4 : Int32} {w : wS} (hL : 22 ≤ L) (h : zb_X13_takeBack_p87 E L Q x1 x2 x3 x4 w) : kzE E L kt_M551 87 [(0, .ref (w_adr E.2.1 12 0)), (1, .int x1), (2, .int x2), (3, .int x3), (4, .int x4)] [] w Q := by
  unfold zb_X13_takeBack_p87 at h
  refine kz_ic (M := kt_M551) 0 kX13_takeBack_c6.2.2.2.2.1 rfl ?_
  exact kz_weak [(0, .ref (w_adr E.2.1 12 0)), (1, .int x1), (2, .int x2), (3, .int x3), (4, .int x4)] ⟨rfl, ⟨rfl, ⟨rfl, ⟨rfl, ⟨rfl, trivial⟩⟩⟩⟩⟩ rfl (zt_X13_takeBack_p88 hL  h)
def zb_X13_takeBack_p61 (E : zE) (L : Nat) (Q : kx_Rs → wS → Prop) (x1 : Int32) (x2 : Int32) (x3 : Int32) (y0 : Int32) (w : wS) : Prop := (if w_i w 12 0 115 ≤ x3 then zb_X13_takeBack_p87 E L Q x1 x2 x3 y0 w else (kx_inb x3 (w_n w 12 0 116) = true ∧ (if ¬ (x1 + x2) = w_a w 12 0 116 (x3).toNatClampNeg then zb_X13_takeBack_p87 E L Q x1 x2 x3 y0 w else zb_X13_takeBack_p88 E L Q x1 x2 x3 y0 1 w)))
theorem zt_X13_takeBack_p61 {E : zE} {L : Nat} {Q : kx_Rs → wS → Prop} {x1 : Int32} {x2 : Int32} {x3 : Int32} {y0 : Int32} {w : wS} (hL : 22 ≤ L) (h : zb_X13_takeBack_p61 E L Q x1 x2 x3 y0 w) : kzE E L kt_M551 61 [(0, .ref (w_adr E.2.1 12 0)), (1, .int x1), (2, .int x2), (3, .int x3)] [.int y0] w Q := by
  unfold zb_X13_takeBack_p61 at h
  refine kz_sti (M := kt_M551) [(0, .ref (w_adr E.2.1 12 0)), (1, .int x1), (2, .int x2), (3, .int x3)] kX13_takeBack_c4.2.2.2.2.2.1 (Nat.le_of_ble_eq_true rfl) ⟨⟨rfl, rfl, .inl rfl⟩, ⟨⟨rfl, rfl, .inl rfl⟩, ⟨⟨rfl, rfl, .inl rfl⟩, ⟨⟨rfl, rfl, .inr rfl⟩, trivial⟩⟩⟩⟩ rfl ?_
  refine kz_iload_n (M := kt_M551) kX13_takeBack_c4.2.2.2.2.2.2.1 rfl ?_
  refine kz_aload_n (M := kt_M551) kX13_takeBack_c4.2.2.2.2.2.2.2.1 rfl ?_
  refine kz_gfi (M := kt_M551) (c := 12) (o := 0) kX13_takeBack_c5.1 wf_X13_1143 (.inl rfl) ?_
  refine kz_icmp_ge (M := kt_M551) kX13_takeBack_c5.2.1 (t := 87) rfl h (fun h => ?_) (fun h => ?_)
  · skip
    exact kz_weak [(0, .ref (w_adr E.2.1 12 0)), (1, .int x1), (2, .int x2), (3, .int x3), (4, .int y0)] ⟨rfl, ⟨rfl, ⟨rfl, ⟨rfl, ⟨rfl, trivial⟩⟩⟩⟩⟩ rfl (zt_X13_takeBack_p87 hL  h)
  · skip
    refine kz_iload_n (M := kt_M551) kX13_takeBack_c5.2.2.1 rfl ?_
    refine kz_iload_n (M := kt_M551) kX13_takeBack_c5.2.2.2.1 rfl ?_
    refine kz_iadd (M := kt_M551) kX13_takeBack_c5.2.2.2.2.1 ?_
    refine kz_aload_n (M := kt_M551) kX13_takeBack_c5.2.2.2.2.2.1 rfl ?_
    refine kz_gfa (M := kt_M551) (c := 12) (o := 0) kX13_takeBack_c5.2.2.2.2.2.2.1 wf_X13_359 (.inl rfl) ?_
    refine kz_iload_n (M := kt_M551) kX13_takeBack_c5.2.2.2.2.2.2.2.1 rfl ?_
    refine kz_iald (M := kt_M551) (c := 12) (o := 0) (k := 116) (a := (w_d w 12 0 116)) kX13_takeBack_c6.1 ow_12_0_116 oa_12_0_116 ot_0 h (fun h => ?_)
    refine kz_icmp_ne (M := kt_M551) kX13_takeBack_c6.2.1 (t := 87) rfl h (fun h => ?_) (fun h => ?_)
    · skip
      exact kz_weak [(0, .ref (w_adr E.2.1 12 0)), (1, .int x1), (2, .int x2), (3, .int x3), (4, .int y0)] ⟨rfl, ⟨rfl, ⟨rfl, ⟨rfl, ⟨rfl, trivial⟩⟩⟩⟩⟩ rfl (zt_X13_takeBack_p87 hL  h)
    · skip
      refine kz_ic (M := kt_M551) 1 kX13_takeBack_c6.2.2.1 rfl ?_
      refine kz_goto (M := kt_M551) kX13_takeBack_c6.2.2.2.1 (t := 88) rfl ?_
      exact kz_weak [(0, .ref (w_adr E.2.1 12 0)), (1, .int x1), (2, .int x2), (3, .int x3), (4, .int y0)] ⟨rfl, ⟨rfl, ⟨rfl, ⟨rfl, ⟨rfl, trivial⟩⟩⟩⟩⟩ rfl (zt_X13_takeBack_p88 hL  h)
def zb_X13_takeBack_p60 (E : zE) (L : Nat) (Q : kx_Rs → wS → Prop) (x1 : Int32) (x2 : Int32) (x3 : Int32) (w : wS) : Prop := zb_X13_takeBack_p61 E L Q x1 x2 x3 0 w
theorem zt_X13_takeBack_p60 {E : zE} {L : Nat} {Q : kx_Rs → wS → Prop} {x1 : Int32} {x2 : Int32} {x3 : Int32} {w : wS} (hL : 22 ≤ L) (h : zb_X13_takeBack_p60 E L Q x1 x2 x3 w) : kzE E L kt_M551 60 [(0, .ref (w_adr E.2.1 12 0)), (1, .int x1), (2, .int x2), (3, .int x3)] [] w Q := by
  unfold zb_X13_takeBack_p60 at h
  refine kz_ic (M := kt_M551) 0 kX13_takeBack_c4.2.2.2.2.1 rfl ?_
  exact kz_weak [(0, .ref (w_adr E.2.1 12 0)), (1, .int x1), (2, .int x2), (3, .int x3)] ⟨rfl, ⟨rfl, ⟨rfl, ⟨rfl, trivial⟩⟩⟩⟩ rfl (zt_X13_takeBack_p61 hL  h)
def zb_X13_takeBack_p31 (E : zE) (L : Nat) (Q : kx_Rs → wS → Prop) (x1 : Int32) (x2 : Int32) (x3 : Int32) (w : wS) : Prop := (if x3 ≤ 0 then zb_X13_takeBack_p60 E L Q x1 x2 x3 w else (kx_inb (x3 - 1) (w_n w 12 0 116) = true ∧ (kx_inb (x3 - 1) (w_n w 12 0 117) = true ∧ (if ¬ ((w_a w 12 0 116 ((x3 - 1)).toNatClampNeg) + (w_a w 12 0 117 ((x3 - 1)).toNatClampNeg)) = x1 then zb_X13_takeBack_p60 E L Q x1 x2 x3 w else zb_X13_takeBack_p61 E L Q x1 x2 x3 1 w))))
theorem zt_X13_takeBack_p31 {E : zE} {L : Nat} {Q : kx_Rs → wS → Prop} {x1 : Int32} {x2 : Int32} {x3 : Int32} {w : wS} (hL : 22 ≤ L) (h : zb_X13_takeBack_p31 E L Q x1 x2 x3 w) : kzE E L kt_M551 31 [(0, .ref (w_adr E.2.1 12 0)), (1, .int x1), (2, .int x2), (3, .int x3)] [] w Q := by
  unfold zb_X13_takeBack_p31 at h
  refine kz_iload_n (M := kt_M551) kX13_takeBack_c2.2.1 rfl ?_
  refine kz_if_le (M := kt_M551) kX13_takeBack_c2.2.2.1 (t := 60) rfl h (fun h => ?_) (fun h => ?_)
  · skip
    exact kz_weak [(0, .ref (w_adr E.2.1 12 0)), (1, .int x1), (2, .int x2), (3, .int x3)] ⟨rfl, ⟨rfl, ⟨rfl, ⟨rfl, trivial⟩⟩⟩⟩ rfl (zt_X13_takeBack_p60 hL  h)
  · skip
    refine kz_aload_n (M := kt_M551) kX13_takeBack_c2.2.2.2.1 rfl ?_
    refine kz_gfa (M := kt_M551) (c := 12) (o := 0) kX13_takeBack_c2.2.2.2.2.1 wf_X13_359 (.inl rfl) ?_
    refine kz_iload_n (M := kt_M551) kX13_takeBack_c2.2.2.2.2.2.1 rfl ?_
    refine kz_ic (M := kt_M551) 1 kX13_takeBack_c2.2.2.2.2.2.2.1 rfl ?_
    refine kz_isub (M := kt_M551) kX13_takeBack_c2.2.2.2.2.2.2.2.1 ?_
    refine kz_iald (M := kt_M551) (c := 12) (o := 0) (k := 116) (a := (w_d w 12 0 116)) kX13_takeBack_c3.1 ow_12_0_116 oa_12_0_116 ot_0 h (fun h => ?_)
    refine kz_aload_n (M := kt_M551) kX13_takeBack_c3.2.1 rfl ?_
    refine kz_gfa (M := kt_M551) (c := 12) (o := 0) kX13_takeBack_c3.2.2.1 wf_X13_362 (.inl rfl) ?_
    refine kz_iload_n (M := kt_M551) kX13_takeBack_c3.2.2.2.1 rfl ?_
    refine kz_ic (M := kt_M551) 1 kX13_takeBack_c3.2.2.2.2.1 rfl ?_
    refine kz_isub (M := kt_M551) kX13_takeBack_c3.2.2.2.2.2.1 ?_
    refine kz_iald (M := kt_M551) (c := 12) (o := 0) (k := 117) (a := (w_d w 12 0 117)) kX13_takeBack_c3.2.2.2.2.2.2.1 ow_12_0_117 oa_12_0_117 ot_0 h (fun h => ?_)
    refine kz_iadd (M := kt_M551) kX13_takeBack_c3.2.2.2.2.2.2.2.1 ?_
    refine kz_iload_n (M := kt_M551) kX13_takeBack_c4.1 rfl ?_
    refine kz_icmp_ne (M := kt_M551) kX13_takeBack_c4.2.1 (t := 60) rfl h (fun h => ?_) (fun h => ?_)
    · skip
      exact kz_weak [(0, .ref (w_adr E.2.1 12 0)), (1, .int x1), (2, .int x2), (3, .int x3)] ⟨rfl, ⟨rfl, ⟨rfl, ⟨rfl, trivial⟩⟩⟩⟩ rfl (zt_X13_takeBack_p60 hL  h)
    · skip
      refine kz_ic (M := kt_M551) 1 kX13_takeBack_c4.2.2.1 rfl ?_
      refine kz_goto (M := kt_M551) kX13_takeBack_c4.2.2.2.1 (t := 61) rfl ?_
      exact kz_weak [(0, .ref (w_adr E.2.1 12 0)), (1, .int x1), (2, .int x2), (3, .int x3)] ⟨rfl, ⟨rfl, ⟨rfl, ⟨rfl, trivial⟩⟩⟩⟩ rfl (zt_X13_takeBack_p61 hL  h)
def zb_X13_takeBack_p7 (E : zE) (L : Nat) (Q : kx_Rs → wS → Prop) (x1 : Int32) (x2 : Int32) (x3 : Int32) (w : wS) : Prop := (if w_i w 12 0 115 ≤ x3 then zb_X13_takeBack_p31 E L Q x1 x2 x3 w else (kx_inb x3 (w_n w 12 0 116) = true ∧ (if x1 ≤ w_a w 12 0 116 (x3).toNatClampNeg then zb_X13_takeBack_p31 E L Q x1 x2 x3 w else zL_X13_takeBack_p7 E L Q x1 x2 (x3 + 1) w)))
theorem zt_X13_takeBack_p7 {E : zE} {L : Nat} {Q : kx_Rs → wS → Prop} {x1 : Int32} {x2 : Int32} {x3 : Int32} {w : wS} (hL : 22 ≤ L) (h : zb_X13_takeBack_p7 E L Q x1 x2 x3 w) : kzE E L kt_M551 7 [(0, .ref (w_adr E.2.1 12 0)), (1, .int x1), (2, .int x2), (3, .int x3)] [] w Q := by
  unfold zb_X13_takeBack_p7 at h
  refine kz_iload_n (M := kt_M551) kX13_takeBack_c0.2.2.2.2.2.1 rfl ?_
  refine kz_aload_n (M := kt_M551) kX13_takeBack_c0.2.2.2.2.2.2.1 rfl ?_
  refine kz_gfi (M := kt_M551) (c := 12) (o := 0) kX13_takeBack_c0.2.2.2.2.2.2.2.1 wf_X13_1143 (.inl rfl) ?_
  refine kz_icmp_ge (M := kt_M551) kX13_takeBack_c1.1 (t := 31) rfl h (fun h => ?_) (fun h => ?_)
  · skip
    exact kz_weak [(0, .ref (w_adr E.2.1 12 0)), (1, .int x1), (2, .int x2), (3, .int x3)] ⟨rfl, ⟨rfl, ⟨rfl, ⟨rfl, trivial⟩⟩⟩⟩ rfl (zt_X13_takeBack_p31 hL  h)
  · skip
    refine kz_aload_n (M := kt_M551) kX13_takeBack_c1.2.1 rfl ?_
    refine kz_gfa (M := kt_M551) (c := 12) (o := 0) kX13_takeBack_c1.2.2.1 wf_X13_359 (.inl rfl) ?_
    refine kz_iload_n (M := kt_M551) kX13_takeBack_c1.2.2.2.1 rfl ?_
    refine kz_iald (M := kt_M551) (c := 12) (o := 0) (k := 116) (a := (w_d w 12 0 116)) kX13_takeBack_c1.2.2.2.2.1 ow_12_0_116 oa_12_0_116 ot_0 h (fun h => ?_)
    refine kz_iload_n (M := kt_M551) kX13_takeBack_c1.2.2.2.2.2.1 rfl ?_
    refine kz_icmp_ge (M := kt_M551) kX13_takeBack_c1.2.2.2.2.2.2.1 (t := 31) rfl h (fun h => ?_) (fun h => ?_)
    · skip
      exact kz_weak [(0, .ref (w_adr E.2.1 12 0)), (1, .int x1), (2, .int x2), (3, .int x3)] ⟨rfl, ⟨rfl, ⟨rfl, ⟨rfl, trivial⟩⟩⟩⟩ rfl (zt_X13_takeBack_p31 hL  h)
    · skip
      refine kz_inc (M := kt_M551) [(0, .ref (w_adr E.2.1 12 0)), (1, .int x1), (2, .int x2)] kX13_takeBack_c1.2.2.2.2.2.2.2.1 rfl (Nat.le_of_ble_eq_true rfl) ⟨⟨rfl, rfl, .inl rfl⟩, ⟨⟨rfl, rfl, .inl rfl⟩, ⟨⟨rfl, rfl, .inr rfl⟩, trivial⟩⟩⟩ rfl ?_
      refine kz_goto (M := kt_M551) kX13_takeBack_c2.1 (t := 7) rfl ?_
      exact kz_weak [(0, .ref (w_adr E.2.1 12 0)), (1, .int x1), (2, .int x2), (3, .int (x3 + 1))] ⟨rfl, ⟨rfl, ⟨rfl, ⟨rfl, trivial⟩⟩⟩⟩ rfl h
def zb_X13_takeBack_p0 (E : zE) (L : Nat) (Q : kx_Rs → wS → Prop) (x1 : Int32) (x2 : Int32) (w : wS) : Prop := (if ¬ x2 = 0 then zL_X13_takeBack_p7 E L Q x1 x2 0 w else Q (.inl none) w)
theorem zt_X13_takeBack_p0 {E : zE} {L : Nat} {Q : kx_Rs → wS → Prop} {x1 : Int32} {x2 : Int32} {w : wS} (hL : 22 ≤ L) (h : zb_X13_takeBack_p0 E L Q x1 x2 w) : kzE E L kt_M551 0 [(0, .ref (w_adr E.2.1 12 0)), (1, .int x1), (2, .int x2)] [] w Q := by
  unfold zb_X13_takeBack_p0 at h
  refine kz_iload_n (M := kt_M551) kX13_takeBack_c0.1 rfl ?_
  refine kz_if_ne (M := kt_M551) kX13_takeBack_c0.2.1 (t := 5) rfl h (fun h => ?_) (fun h => ?_)
  · skip
    refine kz_ic (M := kt_M551) 0 kX13_takeBack_c0.2.2.2.1 rfl ?_
    refine kz_sti_n (M := kt_M551) [(0, .ref (w_adr E.2.1 12 0)), (1, .int x1), (2, .int x2)] kX13_takeBack_c0.2.2.2.2.1 (Nat.le_of_ble_eq_true rfl) ⟨⟨rfl, rfl, .inl rfl⟩, ⟨⟨rfl, rfl, .inl rfl⟩, ⟨⟨rfl, rfl, .inr rfl⟩, trivial⟩⟩⟩ rfl ?_
    exact kz_weak [(0, .ref (w_adr E.2.1 12 0)), (1, .int x1), (2, .int x2), (3, .int 0)] ⟨rfl, ⟨rfl, ⟨rfl, ⟨rfl, trivial⟩⟩⟩⟩ rfl h
  · skip
    exact kz_ret (M := kt_M551) kX13_takeBack_c0.2.2.1 rfl h
def zL_X13_effect_p10 (E : zE) (L : Nat) (Q : kx_Rs → wS → Prop) (x1 : Int32) (x2 : Int32) (x3 : Int32) (w : wS) : Prop := kzE E L kt_M395 10 [(0, .ref (w_adr E.2.1 12 0)), (1, .int x1), (2, .int x2), (3, .int x3)] [] w Q
def zb_X13_effect_p79 (E : zE) (L : Nat) (Q : kx_Rs → wS → Prop) (x1 : Int32) (x2 : Int32) (w : wS) : Prop := (kx_inb (w_i w 12 0 80) (w_n w 12 0 81) = true ∧ (kx_inb (w_i w 12 0 80) (w_n w 12 0 82) = true ∧ Q (.inl none) (ws_i (ws_a (ws_a w 12 0 81 (w_i w 12 0 80).toNatClampNeg x1) 12 0 82 (w_i w 12 0 80).toNatClampNeg x2) 12 0 80 ((w_i w 12 0 80) + 1))))
theorem zt_X13_effect_p79 {E : zE} {L : Nat} {Q : kx_Rs → wS → Prop} {x1 : Int32} {x2 : Int32} {w : wS} (hL : 22 ≤ L) (h : zb_X13_effect_p79 E L Q x1 x2 w) : kzE E L kt_M395 79 [(0, .ref (w_adr E.2.1 12 0)), (1, .int x1), (2, .int x2)] [] w Q := by
  unfold zb_X13_effect_p79 at h
  refine kz_aload_n (M := kt_M395) kX13_effect_c5.2.2.2.1 rfl ?_
  refine kz_gfa (M := kt_M395) (c := 12) (o := 0) kX13_effect_c5.2.2.2.2.1 wf_X13_295 (.inl rfl) ?_
  refine kz_aload_n (M := kt_M395) kX13_effect_c5.2.2.2.2.2.1 rfl ?_
  refine kz_gfi (M := kt_M395) (c := 12) (o := 0) kX13_effect_c5.2.2.2.2.2.2.1 wf_X13_1004 (.inl rfl) ?_
  refine kz_iload_n (M := kt_M395) kX13_effect_c5.2.2.2.2.2.2.2.1 rfl ?_
  refine kz_iast (M := kt_M395) (c := 12) (o := 0) (k := 81) (a := (w_d w 12 0 81)) kX13_effect_c6.1 ow_12_0_81 oa_12_0_81 ot_0 h (fun h => ?_)
  refine kz_aload_n (M := kt_M395) kX13_effect_c6.2.1 rfl ?_
  refine kz_gfa (M := kt_M395) (c := 12) (o := 0) kX13_effect_c6.2.2.1 wf_X13_298 (.inl rfl) ?_
  refine kz_aload_n (M := kt_M395) kX13_effect_c6.2.2.2.1 rfl ?_
  refine kz_gfiR (M := kt_M395) (c := 12) (o := 0) (w_i w 12 0 80) kX13_effect_c6.2.2.2.2.1 wf_X13_1004 (.inl rfl) rd_i_a ?_
  refine kz_iload_n (M := kt_M395) kX13_effect_c6.2.2.2.2.2.1 rfl ?_
  refine kz_iastR (M := kt_M395) (n := w_n w 12 0 82) (c := 12) (o := 0) (k := 82) (a := (w_d (ws_a w 12 0 81 (w_i w 12 0 80).toNatClampNeg x1) 12 0 82)) kX13_effect_c6.2.2.2.2.2.2.1 ow_12_0_82 oa_12_0_82 ot_0 rd_n_a h (fun h => ?_)
  refine kz_aload_n (M := kt_M395) kX13_effect_c6.2.2.2.2.2.2.2.1 rfl ?_
  refine kz_dup (M := kt_M395) kX13_effect_c7.1 rfl ?_
  refine kz_gfiR (M := kt_M395) (c := 12) (o := 0) (w_i w 12 0 80) kX13_effect_c7.2.1 wf_X13_1004 (.inl rfl) (rd_i_a.trans rd_i_a) ?_
  refine kz_ic (M := kt_M395) 1 kX13_effect_c7.2.2.1 rfl ?_
  refine kz_iadd (M := kt_M395) kX13_effect_c7.2.2.2.1 ?_
  refine kz_pfi (M := kt_M395) (c := 12) (o := 0) kX13_effect_c7.2.2.2.2.1 wq_X13_1004 (.inl rfl) ?_
  exact kz_ret (M := kt_M395) kX13_effect_c7.2.2.2.2.2.1 rfl h
def zb_X13_effect_p10 (E : zE) (L : Nat) (Q : kx_Rs → wS → Prop) (x1 : Int32) (x2 : Int32) (x3 : Int32) (w : wS) : Prop := (if w_i w 12 0 80 ≤ x3 then (if ¬ w_i w 12 0 80 = (Int32.ofNat (w_n w 12 0 81)) then zb_X13_effect_p79 E L Q x1 x2 w else zw E (L - 22) kt_M461 [.ref (w_d w 12 0 81)] w (wkr (fun v2 w1 => wle w w1 → (∃ a3, v2 = some a3 ∧ (w_o w1 a3 = some (99, a3, 0) ∧ w_t w1 a3 = 0) ∧ zw E (L - 22) kt_M461 [.ref (w_d (ws_put w1 12 0 81 a3) 12 0 82)] (ws_put w1 12 0 81 a3) (wkr (fun v5 w4 => wle (ws_put w1 12 0 81 a3) w4 → (∃ a6, v5 = some a6 ∧ (w_o w4 a6 = some (99, a6, 0) ∧ w_t w4 a6 = 0) ∧ zb_X13_effect_p79 E L Q x1 x2 (ws_put w4 12 0 82 a6))) (fun e w => Q (.inr e) w)))) (fun e w => Q (.inr e) w))) else (kx_inb x3 (w_n w 12 0 81) = true ∧ (if ¬ w_a w 12 0 81 (x3).toNatClampNeg = x1 then zL_X13_effect_p10 E L Q x1 x2 (x3 + 1) w else (kx_inb x3 (w_n w 12 0 82) = true ∧ (kx_inb x3 (w_n w 12 0 82) = true ∧ Q (.inl none) (ws_a w 12 0 82 (x3).toNatClampNeg ((w_a w 12 0 82 (x3).toNatClampNeg) ||| x2)))))))
theorem zt_X13_effect_p10 {E : zE} {L : Nat} {Q : kx_Rs → wS → Prop} {x1 : Int32} {x2 : Int32} {x3 : Int32} {w : wS} (hL : 22 ≤ L) (h : zb_X13_effect_p10 E L Q x1 x2 x3 w) : kzE E L kt_M395 10 [(0, .ref (w_adr E.2.1 12 0)), (1, .int x1), (2, .int x2), (3, .int x3)] [] w Q := by
  unfold zb_X13_effect_p10 at h
  refine kz_iload_n (M := kt_M395) kX13_effect_c0.2.2.2.2.2.2.1 rfl ?_
  refine kz_aload_n (M := kt_M395) kX13_effect_c0.2.2.2.2.2.2.2.1 rfl ?_
  refine kz_gfi (M := kt_M395) (c := 12) (o := 0) kX13_effect_c1.1 wf_X13_1004 (.inl rfl) ?_
  refine kz_icmp_ge (M := kt_M395) kX13_effect_c1.2.1 (t := 45) rfl h (fun h => ?_) (fun h => ?_)
  · skip
    refine kz_aload_n (M := kt_M395) kX13_effect_c3.2.2.2.1 rfl ?_
    refine kz_gfi (M := kt_M395) (c := 12) (o := 0) kX13_effect_c3.2.2.2.2.1 wf_X13_1004 (.inl rfl) ?_
    refine kz_aload_n (M := kt_M395) kX13_effect_c3.2.2.2.2.2.1 rfl ?_
    refine kz_gfa (M := kt_M395) (c := 12) (o := 0) kX13_effect_c3.2.2.2.2.2.2.1 wf_X13_295 (.inl rfl) ?_
    refine kz_alen (M := kt_M395) (c := 12) (o := 0) (k := 81) (a := (w_d w 12 0 81)) (τ := 0) kX13_effect_c3.2.2.2.2.2.2.2.1 ow_12_0_81 oa_12_0_81 (Nat.le_of_ble_eq_true rfl) ?_
    refine kz_icmp_ne (M := kt_M395) kX13_effect_c4.1 (t := 79) rfl h (fun h => ?_) (fun h => ?_)
    · skip
      exact kz_weak [(0, .ref (w_adr E.2.1 12 0)), (1, .int x1), (2, .int x2)] ⟨rfl, ⟨rfl, ⟨rfl, trivial⟩⟩⟩ rfl (zt_X13_effect_p79 hL  h)
    · skip
      refine kz_aload_n (M := kt_M395) kX13_effect_c4.2.1 rfl ?_
      refine kz_aload_n (M := kt_M395) kX13_effect_c4.2.2.1 rfl ?_
      refine kz_gfa (M := kt_M395) (c := 12) (o := 0) kX13_effect_c4.2.2.2.1 wf_X13_295 (.inl rfl) ?_
      refine kz_csr (M := kt_M395) (As := [.ref (w_d w 12 0 81)]) (rest := [.ref (w_adr E.2.1 12 0)]) kX13_effect_c4.2.2.2.2.1 wl_X13_1007 wMs_461 rfl (Nat.le_trans (Nat.le_of_ble_eq_true rfl) hL) (Nat.le_of_ble_eq_true rfl) (Nat.le_of_ble_eq_true rfl) h (fun v2 w1 hle h => ?_) (fun _ _ _ h => kzx_no rfl h)
      have h := h hle
      obtain ⟨a3, hx, h⟩ := h
      refine kz_nz0 (M := kt_M395) (x := v2) hx ?_
      refine kz_pfa (M := kt_M395) (c := 12) (o := 0) (τ := 0) kX13_effect_c4.2.2.2.2.2.1 wq_X13_295 (.inl rfl) rfl h (fun h => ?_)
      refine kz_aload_n (M := kt_M395) kX13_effect_c4.2.2.2.2.2.2.1 rfl ?_
      refine kz_aload_n (M := kt_M395) kX13_effect_c4.2.2.2.2.2.2.2.1 rfl ?_
      refine kz_gfa (M := kt_M395) (c := 12) (o := 0) kX13_effect_c5.1 wf_X13_298 (.inl rfl) ?_
      refine kz_csr (M := kt_M395) (As := [.ref (w_d (ws_put w1 12 0 81 a3) 12 0 82)]) (rest := [.ref (w_adr E.2.1 12 0)]) kX13_effect_c5.2.1 wl_X13_1007 wMs_461 rfl (Nat.le_trans (Nat.le_of_ble_eq_true rfl) hL) (Nat.le_of_ble_eq_true rfl) (Nat.le_of_ble_eq_true rfl) h (fun v5 w4 hle h => ?_) (fun _ _ _ h => kzx_no rfl h)
      have h := h hle
      obtain ⟨a6, hx, h⟩ := h
      refine kz_nz0 (M := kt_M395) (x := v5) hx ?_
      refine kz_pfa (M := kt_M395) (c := 12) (o := 0) (τ := 0) kX13_effect_c5.2.2.1 wq_X13_298 (.inl rfl) rfl h (fun h => ?_)
      exact kz_weak [(0, .ref (w_adr E.2.1 12 0)), (1, .int x1), (2, .int x2)] ⟨rfl, ⟨rfl, ⟨rfl, trivial⟩⟩⟩ rfl (zt_X13_effect_p79 hL  h)
  · skip
    refine kz_aload_n (M := kt_M395) kX13_effect_c1.2.2.1 rfl ?_
    refine kz_gfa (M := kt_M395) (c := 12) (o := 0) kX13_effect_c1.2.2.2.1 wf_X13_295 (.inl rfl) ?_
    refine kz_iload_n (M := kt_M395) kX13_effect_c1.2.2.2.2.1 rfl ?_
    refine kz_iald (M := kt_M395) (c := 12) (o := 0) (k := 81) (a := (w_d w 12 0 81)) kX13_effect_c1.2.2.2.2.2.1 ow_12_0_81 oa_12_0_81 ot_0 h (fun h => ?_)
    refine kz_iload_n (M := kt_M395) kX13_effect_c1.2.2.2.2.2.2.1 rfl ?_
    refine kz_icmp_ne (M := kt_M395) kX13_effect_c1.2.2.2.2.2.2.2.1 (t := 39) rfl h (fun h => ?_) (fun h => ?_)
    · skip
      refine kz_inc (M := kt_M395) [(0, .ref (w_adr E.2.1 12 0)), (1, .int x1), (2, .int x2)] kX13_effect_c3.2.1 rfl (Nat.le_of_ble_eq_true rfl) ⟨⟨rfl, rfl, .inl rfl⟩, ⟨⟨rfl, rfl, .inl rfl⟩, ⟨⟨rfl, rfl, .inr rfl⟩, trivial⟩⟩⟩ rfl ?_
      refine kz_goto (M := kt_M395) kX13_effect_c3.2.2.1 (t := 10) rfl ?_
      exact kz_weak [(0, .ref (w_adr E.2.1 12 0)), (1, .int x1), (2, .int x2), (3, .int (x3 + 1))] ⟨rfl, ⟨rfl, ⟨rfl, ⟨rfl, trivial⟩⟩⟩⟩ rfl h
    · skip
      refine kz_aload_n (M := kt_M395) kX13_effect_c2.1 rfl ?_
      refine kz_gfa (M := kt_M395) (c := 12) (o := 0) kX13_effect_c2.2.1 wf_X13_298 (.inl rfl) ?_
      refine kz_iload_n (M := kt_M395) kX13_effect_c2.2.2.1 rfl ?_
      refine kz_dup2 (M := kt_M395) kX13_effect_c2.2.2.2.1 ⟨rfl, rfl⟩ ?_
      refine kz_iald (M := kt_M395) (c := 12) (o := 0) (k := 82) (a := (w_d w 12 0 82)) kX13_effect_c2.2.2.2.2.1 ow_12_0_82 oa_12_0_82 ot_0 h (fun h => ?_)
      refine kz_iload_n (M := kt_M395) kX13_effect_c2.2.2.2.2.2.1 rfl ?_
      refine kz_ior (M := kt_M395) kX13_effect_c2.2.2.2.2.2.2.1 ?_
      refine kz_iast (M := kt_M395) (c := 12) (o := 0) (k := 82) (a := (w_d w 12 0 82)) kX13_effect_c2.2.2.2.2.2.2.2.1 ow_12_0_82 oa_12_0_82 ot_0 h (fun h => ?_)
      exact kz_ret (M := kt_M395) kX13_effect_c3.1 rfl h
def zb_X13_effect_p0 (E : zE) (L : Nat) (Q : kx_Rs → wS → Prop) (x1 : Int32) (x2 : Int32) (w : wS) : Prop := (kx_inb (w_i w 12 0 86) (w_n w 12 0 83) = true ∧ zL_X13_effect_p10 E L Q x1 x2 (w_a w 12 0 83 (w_i w 12 0 86).toNatClampNeg) w)
theorem zt_X13_effect_p0 {E : zE} {L : Nat} {Q : kx_Rs → wS → Prop} {x1 : Int32} {x2 : Int32} {w : wS} (hL : 22 ≤ L) (h : zb_X13_effect_p0 E L Q x1 x2 w) : kzE E L kt_M395 0 [(0, .ref (w_adr E.2.1 12 0)), (1, .int x1), (2, .int x2)] [] w Q := by
  unfold zb_X13_effect_p0 at h
  refine kz_aload_n (M := kt_M395) kX13_effect_c0.1 rfl ?_
  refine kz_gfc (M := kt_M395) (x := 4155) (c := 12) (o := 0) kX13_effect_c0.2.1 wf_X13_301 (.inl rfl) ?_
  refine kz_aload_n (M := kt_M395) kX13_effect_c0.2.2.1 rfl ?_
  refine kz_gfi (M := kt_M395) (c := 12) (o := 0) kX13_effect_c0.2.2.2.1 wf_X13_1001 (.inl rfl) ?_
  refine kz_iald (M := kt_M395) (c := 12) (o := 0) (k := 83) (a := (E.2.1 4155)) kX13_effect_c0.2.2.2.2.1 ow_12_0_83 oa_12_0_83 ot_0 h (fun h => ?_)
  refine kz_sti_n (M := kt_M395) [(0, .ref (w_adr E.2.1 12 0)), (1, .int x1), (2, .int x2)] kX13_effect_c0.2.2.2.2.2.1 (Nat.le_of_ble_eq_true rfl) ⟨⟨rfl, rfl, .inl rfl⟩, ⟨⟨rfl, rfl, .inl rfl⟩, ⟨⟨rfl, rfl, .inr rfl⟩, trivial⟩⟩⟩ rfl ?_
  exact kz_weak [(0, .ref (w_adr E.2.1 12 0)), (1, .int x1), (2, .int x2), (3, .int (w_a w 12 0 83 (w_i w 12 0 86).toNatClampNeg))] ⟨rfl, ⟨rfl, ⟨rfl, ⟨rfl, trivial⟩⟩⟩⟩ rfl h
def zb_X13_store_p0 (E : zE) (L : Nat) (Q : kx_Rs → wS → Prop) (x1 : Int32) (x2 : Int32) (w : wS) : Prop := (kx_inb (x1 / 65536) (w_n w 12 0 118) = true ∧ (∃ a1, w_r w 12 0 118 ((x1 / 65536)).toNatClampNeg = some a1 ∧ (w_o w a1 = some (99, a1, 0) ∧ w_t w a1 = 0) ∧ kx_inb (x1 - x1 / 65536 * 65536) (w_n w 99 a1 0) = true ∧ Q (.inl none) (ws_a w 99 a1 0 ((x1 - x1 / 65536 * 65536)).toNatClampNeg x2)))
theorem zt_X13_store_p0 {E : zE} {L : Nat} {Q : kx_Rs → wS → Prop} {x1 : Int32} {x2 : Int32} {w : wS} (hL : 19 ≤ L) (h : zb_X13_store_p0 E L Q x1 x2 w) : kzE E L kt_M547 0 [(0, .ref (w_adr E.2.1 12 0)), (1, .int x1), (2, .int x2)] [] w Q := by
  unfold zb_X13_store_p0 at h
  refine kz_aload_n (M := kt_M547) kX13_store_c0.1 rfl ?_
  refine kz_gfc (M := kt_M547) (x := 4190) (c := 12) (o := 0) kX13_store_c0.2.1 wf_X13_366 (.inl rfl) ?_
  refine kz_iload_n (M := kt_M547) kX13_store_c0.2.2.1 rfl ?_
  refine kz_ldcw (M := kt_M547) (x := 65536) kX13_store_c0.2.2.2.1 (zc_X13_349) ?_
  refine kz_idiv (M := kt_M547) kX13_store_c0.2.2.2.2.1 (by decide) ?_
  refine kz_aald (M := kt_M547) (τ := 6) (c := 12) (o := 0) (k := 118) (a := (E.2.1 4190)) kX13_store_c0.2.2.2.2.2.1 ow_12_0_118 oa_12_0_118 ot_10 rfl h (fun h => ?_)
  refine kz_iload_n (M := kt_M547) kX13_store_c0.2.2.2.2.2.2.1 rfl ?_
  refine kz_ldcw (M := kt_M547) (x := 65536) kX13_store_c0.2.2.2.2.2.2.2.1 (zc_X13_349) ?_
  refine kz_irem (M := kt_M547) kX13_store_c1.1 (by decide) ?_
  refine kz_iload_n (M := kt_M547) kX13_store_c1.2.1 rfl ?_
  obtain ⟨a1, hx, h0, h⟩ := h
  refine kz_nz2 (M := kt_M547) (x := w_r w 12 0 118 ((x1 / 65536)).toNatClampNeg) hx ?_
  refine kz_iast (M := kt_M547) (c := 99) (o := a1) (k := 0) (a := a1) kX13_store_c1.2.2.1 (.inl ⟨rfl, rfl, h0.1, h0.2⟩) rfl ot_0 h (fun h => ?_)
  exact kz_ret (M := kt_M547) kX13_store_c1.2.2.2.1 rfl h
def zb_X13_fetch_p0 (E : zE) (L : Nat) (Q : kx_Rs → wS → Prop) (x1 : Int32) (w : wS) : Prop := (kx_inb (x1 / 65536) (w_n w 12 0 118) = true ∧ (∃ a1, w_r w 12 0 118 ((x1 / 65536)).toNatClampNeg = some a1 ∧ (w_o w a1 = some (99, a1, 0) ∧ w_t w a1 = 0) ∧ kx_inb (x1 - x1 / 65536 * 65536) (w_n w 99 a1 0) = true ∧ Q (.inl (some (.int (w_a w 99 a1 0 ((x1 - x1 / 65536 * 65536)).toNatClampNeg)))) w))
theorem zt_X13_fetch_p0 {E : zE} {L : Nat} {Q : kx_Rs → wS → Prop} {x1 : Int32} {w : wS} (hL : 19 ≤ L) (h : zb_X13_fetch_p0 E L Q x1 w) : kzE E L kt_M410 0 [(0, .ref (w_adr E.2.1 12 0)), (1, .int x1)] [] w Q := by
  unfold zb_X13_fetch_p0 at h
  refine kz_aload_n (M := kt_M410) kX13_fetch_c0.1 rfl ?_
  refine kz_gfc (M := kt_M410) (x := 4190) (c := 12) (o := 0) kX13_fetch_c0.2.1 wf_X13_366 (.inl rfl) ?_
  refine kz_iload_n (M := kt_M410) kX13_fetch_c0.2.2.1 rfl ?_
  refine kz_ldcw (M := kt_M410) (x := 65536) kX13_fetch_c0.2.2.2.1 (zc_X13_349) ?_
  refine kz_idiv (M := kt_M410) kX13_fetch_c0.2.2.2.2.1 (by decide) ?_
  refine kz_aald (M := kt_M410) (τ := 6) (c := 12) (o := 0) (k := 118) (a := (E.2.1 4190)) kX13_fetch_c0.2.2.2.2.2.1 ow_12_0_118 oa_12_0_118 ot_10 rfl h (fun h => ?_)
  refine kz_iload_n (M := kt_M410) kX13_fetch_c0.2.2.2.2.2.2.1 rfl ?_
  refine kz_ldcw (M := kt_M410) (x := 65536) kX13_fetch_c0.2.2.2.2.2.2.2.1 (zc_X13_349) ?_
  refine kz_irem (M := kt_M410) kX13_fetch_c1.1 (by decide) ?_
  obtain ⟨a1, hx, h0, h⟩ := h
  refine kz_nz1 (M := kt_M410) (x := w_r w 12 0 118 ((x1 / 65536)).toNatClampNeg) hx ?_
  refine kz_iald (M := kt_M410) (c := 99) (o := a1) (k := 0) (a := a1) kX13_fetch_c1.2.1 (.inl ⟨rfl, rfl, h0.1, h0.2⟩) rfl ot_0 h (fun h => ?_)
  exact kz_iret (M := kt_M410) kX13_fetch_c1.2.2.1 rfl rfl h
def zb_X13_entry_p0 (E : zE) (L : Nat) (Q : kx_Rs → wS → Prop) (x1 : Int32) (x2 : Int32) (w : wS) : Prop := (kx_inb (x1 / 8192) (w_n w 12 0 165) = true ∧ (∃ a1, w_r w 12 0 165 ((x1 / 8192)).toNatClampNeg = some a1 ∧ (w_o w a1 = some (99, a1, 0) ∧ w_t w a1 = 0) ∧ kx_inb (((x1 - x1 / 8192 * 8192) * 5) + x2) (w_n w 99 a1 0) = true ∧ Q (.inl (some (.int (w_a w 99 a1 0 ((((x1 - x1 / 8192 * 8192) * 5) + x2)).toNatClampNeg)))) w))
theorem zt_X13_entry_p0 {E : zE} {L : Nat} {Q : kx_Rs → wS → Prop} {x1 : Int32} {x2 : Int32} {w : wS} (hL : 19 ≤ L) (h : zb_X13_entry_p0 E L Q x1 x2 w) : kzE E L kt_M403 0 [(0, .ref (w_adr E.2.1 12 0)), (1, .int x1), (2, .int x2)] [] w Q := by
  unfold zb_X13_entry_p0 at h
  refine kz_aload_n (M := kt_M403) kX13_entry_c0.1 rfl ?_
  refine kz_gfc (M := kt_M403) (x := 4237) (c := 12) (o := 0) kX13_entry_c0.2.1 wf_X13_436 (.inl rfl) ?_
  refine kz_iload_n (M := kt_M403) kX13_entry_c0.2.2.1 rfl ?_
  refine kz_si (M := kt_M403) 8192 kX13_entry_c0.2.2.2.1 rfl ?_
  refine kz_idiv (M := kt_M403) kX13_entry_c0.2.2.2.2.1 (by decide) ?_
  refine kz_aald (M := kt_M403) (τ := 6) (c := 12) (o := 0) (k := 165) (a := (E.2.1 4237)) kX13_entry_c0.2.2.2.2.2.1 ow_12_0_165 oa_12_0_165 ot_10 rfl h (fun h => ?_)
  refine kz_iload_n (M := kt_M403) kX13_entry_c0.2.2.2.2.2.2.1 rfl ?_
  refine kz_si (M := kt_M403) 8192 kX13_entry_c0.2.2.2.2.2.2.2.1 rfl ?_
  refine kz_irem (M := kt_M403) kX13_entry_c1.1 (by decide) ?_
  refine kz_ic (M := kt_M403) 5 kX13_entry_c1.2.1 rfl ?_
  refine kz_imul (M := kt_M403) kX13_entry_c1.2.2.1 ?_
  refine kz_iload_n (M := kt_M403) kX13_entry_c1.2.2.2.1 rfl ?_
  refine kz_iadd (M := kt_M403) kX13_entry_c1.2.2.2.2.1 ?_
  obtain ⟨a1, hx, h0, h⟩ := h
  refine kz_nz1 (M := kt_M403) (x := w_r w 12 0 165 ((x1 / 8192)).toNatClampNeg) hx ?_
  refine kz_iald (M := kt_M403) (c := 99) (o := a1) (k := 0) (a := a1) kX13_entry_c1.2.2.2.2.2.1 (.inl ⟨rfl, rfl, h0.1, h0.2⟩) rfl ot_0 h (fun h => ?_)
  exact kz_iret (M := kt_M403) kX13_entry_c1.2.2.2.2.2.2.1 rfl rfl h
def zb_X13_enter_p0 (E : zE) (L : Nat) (Q : kx_Rs → wS → Prop) (x1 : Int32) (x2 : Int32) (x3 : Int32) (w : wS) : Prop := (kx_inb (x1 / 8192) (w_n w 12 0 165) = true ∧ (∃ a1, w_r w 12 0 165 ((x1 / 8192)).toNatClampNeg = some a1 ∧ (w_o w a1 = some (99, a1, 0) ∧ w_t w a1 = 0) ∧ kx_inb (((x1 - x1 / 8192 * 8192) * 5) + x2) (w_n w 99 a1 0) = true ∧ Q (.inl none) (ws_a w 99 a1 0 ((((x1 - x1 / 8192 * 8192) * 5) + x2)).toNatClampNeg x3)))
theorem zt_X13_enter_p0 {E : zE} {L : Nat} {Q : kx_Rs → wS → Prop} {x1 : Int32} {x2 : Int32} {x3 : Int32} {w : wS} (hL : 19 ≤ L) (h : zb_X13_enter_p0 E L Q x1 x2 x3 w) : kzE E L kt_M402 0 [(0, .ref (w_adr E.2.1 12 0)), (1, .int x1), (2, .int x2), (3, .int x3)] [] w Q := by
  unfold zb_X13_enter_p0 at h
  refine kz_aload_n (M := kt_M402) kX13_enter_c0.1 rfl ?_
  refine kz_gfc (M := kt_M402) (x := 4237) (c := 12) (o := 0) kX13_enter_c0.2.1 wf_X13_436 (.inl rfl) ?_
  refine kz_iload_n (M := kt_M402) kX13_enter_c0.2.2.1 rfl ?_
  refine kz_si (M := kt_M402) 8192 kX13_enter_c0.2.2.2.1 rfl ?_
  refine kz_idiv (M := kt_M402) kX13_enter_c0.2.2.2.2.1 (by decide) ?_
  refine kz_aald (M := kt_M402) (τ := 6) (c := 12) (o := 0) (k := 165) (a := (E.2.1 4237)) kX13_enter_c0.2.2.2.2.2.1 ow_12_0_165 oa_12_0_165 ot_10 rfl h (fun h => ?_)
  refine kz_iload_n (M := kt_M402) kX13_enter_c0.2.2.2.2.2.2.1 rfl ?_
  refine kz_si (M := kt_M402) 8192 kX13_enter_c0.2.2.2.2.2.2.2.1 rfl ?_
  refine kz_irem (M := kt_M402) kX13_enter_c1.1 (by decide) ?_
  refine kz_ic (M := kt_M402) 5 kX13_enter_c1.2.1 rfl ?_
  refine kz_imul (M := kt_M402) kX13_enter_c1.2.2.1 ?_
  refine kz_iload_n (M := kt_M402) kX13_enter_c1.2.2.2.1 rfl ?_
  refine kz_iadd (M := kt_M402) kX13_enter_c1.2.2.2.2.1 ?_
  refine kz_iload_n (M := kt_M402) kX13_enter_c1.2.2.2.2.2.1 rfl ?_
  obtain ⟨a1, hx, h0, h⟩ := h
  refine kz_nz2 (M := kt_M402) (x := w_r w 12 0 165 ((x1 / 8192)).toNatClampNeg) hx ?_
  refine kz_iast (M := kt_M402) (c := 99) (o := a1) (k := 0) (a := a1) kX13_enter_c1.2.2.2.2.2.2.1 (.inl ⟨rfl, rfl, h0.1, h0.2⟩) rfl ot_0 h (fun h => ?_)
  exact kz_ret (M := kt_M402) kX13_enter_c1.2.2.2.2.2.2.2.1 rfl h
