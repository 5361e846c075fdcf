/-! ===== methods over the typed state (printed by tools/gen_lift.py) ===== -/
set_option maxRecDepth 100000
theorem zc_X13_1161 {adE adK adV : Nat → Nat} {zr : Nat → Value} {b L0 : Nat} {xs : Nat → Int32} {lo : Nat} : kx_ci (kw_V adE adK adV zr b L0 xs lo) "MeetingHouseModel" 1161 = some 40960 := by
  show kt_get kt_ciA "MeetingHouseModel" 1161 = _
  decide +kernel
def zL_X13_rent_p137 (E : zE) (L : Nat) (Q : kx_Rs → wS → Prop) (x1 : Int32) (x2 : Int32) (x3 : Int32) (w : wS) : Prop := kzE E L kt_M524 137 [(0, .ref (w_adr E.2.1 12 0)), (1, .int x1), (2, .int x2), (3, .int x3)] [] w Q
def zL_X13_rent_p97 (E : zE) (L : Nat) (Q : kx_Rs → wS → Prop) (x1 : Int32) (x2 : Int32) (x3 : Int32) (w : wS) : Prop := kzE E L kt_M524 97 [(0, .ref (w_adr E.2.1 12 0)), (1, .int x1), (2, .int x2), (3, .int x3)] [] w Q
def zL_X13_rent_p4 (E : zE) (L : Nat) (Q : kx_Rs → wS → Prop) (x1 : Int32) (x2 : Int32) (x3 : Int32) (w : wS) : Prop := kzE E L kt_M524 4 [(0, .ref (w_adr E.2.1 12 0)), (1, .int x1), (2, .int x2), (3, .int x3)] [] w Q
def zb_X13_rent_p137 (E : zE) (L : Nat) (Q : kx_Rs → wS → Prop) (x1 : Int32) (x2 : Int32) (x3 : Int32) (w : wS) : Prop := (if (x2 + x1) ≤ x3 then Q (.inl (some (.int x2))) w else zw E (L - 22) kt_M547 [.ref (w_adr E.2.1 12 0), .int x3, .int 0] w (wk0 (fun w1 => wle w w1 → zL_X13_rent_p137 E L Q x1 x2 (x3 + 1) w1) (fun e w => Q (.inr e) w)))
theorem zt_X13_rent_p137 {E : zE} {L : Nat} {Q : kx_Rs → wS → Prop} {x1 : Int32} {x2 : Int32} {x3 : Int32} {w : wS} (hL : 22 ≤ L) (h : zb_X13_rent_p137 E L Q x1 x2 x3 w) : kzE E L kt_M524 137 [(0, .ref (w_adr E.2.1 12 0)), (1, .int x1), (2, .int x2), (3, .int x3)] [] w Q := by
  unfold zb_X13_rent_p137 at h
  refine kz_iload_n (M := kt_M524) kX13_rent_c10.2.2.1 rfl ?_
  refine kz_iload_n (M := kt_M524) kX13_rent_c10.2.2.2.1 rfl ?_
  refine kz_iload_n (M := kt_M524) kX13_rent_c10.2.2.2.2.1 rfl ?_
  refine kz_iadd (M := kt_M524) kX13_rent_c10.2.2.2.2.2.1 ?_
  refine kz_icmp_ge (M := kt_M524) kX13_rent_c10.2.2.2.2.2.2.1 (t := 156) rfl h (fun h => ?_) (fun h => ?_)
  · skip
    refine kz_iload_n (M := kt_M524) kX13_rent_c11.2.2.2.2.2.1 rfl ?_
    exact kz_iret (M := kt_M524) kX13_rent_c11.2.2.2.2.2.2.1 rfl rfl h
  · skip
    refine kz_aload_n (M := kt_M524) kX13_rent_c10.2.2.2.2.2.2.2.1 rfl ?_
    refine kz_iload_n (M := kt_M524) kX13_rent_c11.1 rfl ?_
    refine kz_ic (M := kt_M524) 0 kX13_rent_c11.2.1 rfl ?_
    refine kz_cv0 (M := kt_M524) (c := 12) (o := 0) (As := [.int x3, .int 0]) (rest := []) kX13_rent_c11.2.2.1 wl_X13_1140 wMv_547 rfl (.inl rfl) rfl (Nat.le_trans (Nat.le_of_ble_eq_true rfl) hL) (Nat.le_of_ble_eq_true rfl) (Nat.le_of_ble_eq_true rfl) h (fun w1 hle h => ?_) (fun _ _ _ h => kzx_no rfl h)
    have h := h hle
    refine kz_inc (M := kt_M524) [(0, .ref (w_adr E.2.1 12 0)), (1, .int x1), (2, .int x2)] kX13_rent_c11.2.2.2.1 rfl (Nat.le_of_ble_eq_true rfl) ⟨⟨rfl, rfl, .inl rfl⟩, ⟨⟨rfl, rfl, .inl rfl⟩, ⟨⟨rfl, rfl, .inr rfl⟩, trivial⟩⟩⟩ rfl ?_
    refine kz_goto (M := kt_M524) kX13_rent_c11.2.2.2.2.1 (t := 137) rfl ?_
    exact kz_weak [(0, .ref (w_adr E.2.1 12 0)), (1, .int x1), (2, .int x2), (3, .int (x3 + 1))] ⟨rfl, ⟨rfl, ⟨rfl, ⟨rfl, trivial⟩⟩⟩⟩ rfl h
def zb_X13_rent_p135 (E : zE) (L : Nat) (Q : kx_Rs → wS → Prop) (x1 : Int32) (x2 : Int32) (w : wS) : Prop := zL_X13_rent_p137 E L Q x1 x2 x2 w
theorem zt_X13_rent_p135 {E : zE} {L : Nat} {Q : kx_Rs → wS → Prop} {x1 : Int32} {x2 : Int32} {w : wS} (hL : 22 ≤ L) (h : zb_X13_rent_p135 E L Q x1 x2 w) : kzE E L kt_M524 135 [(0, .ref (w_adr E.2.1 12 0)), (1, .int x1), (2, .int x2)] [] w Q := by
  unfold zb_X13_rent_p135 at h
  refine kz_iload_n (M := kt_M524) kX13_rent_c10.1 rfl ?_
  refine kz_sti_n (M := kt_M524) [(0, .ref (w_adr E.2.1 12 0)), (1, .int x1), (2, .int x2)] kX13_rent_c10.2.1 (Nat.le_of_ble_eq_true rfl) ⟨⟨rfl, rfl, .inl rfl⟩, ⟨⟨rfl, rfl, .inl rfl⟩, ⟨⟨rfl, rfl, .inr rfl⟩, trivial⟩⟩⟩ rfl ?_
  exact kz_weak [(0, .ref (w_adr E.2.1 12 0)), (1, .int x1), (2, .int x2), (3, .int x2)] ⟨rfl, ⟨rfl, ⟨rfl, ⟨rfl, trivial⟩⟩⟩⟩ rfl h
def zb_X13_rent_p129 (E : zE) (L : Nat) (Q : kx_Rs → wS → Prop) (x1 : Int32) (x2 : Int32) (x3 : Int32) (w : wS) : Prop := zL_X13_rent_p97 E L Q x1 x2 (x3 + 1) w
theorem zt_X13_rent_p129 {E : zE} {L : Nat} {Q : kx_Rs → wS → Prop} {x1 : Int32} {x2 : Int32} {x3 : Int32} {w : wS} (hL : 22 ≤ L) (h : zb_X13_rent_p129 E L Q x1 x2 x3 w) : kzE E L kt_M524 129 [(0, .ref (w_adr E.2.1 12 0)), (1, .int x1), (2, .int x2), (3, .int x3)] [] w Q := by
  unfold zb_X13_rent_p129 at h
  refine kz_inc (M := kt_M524) [(0, .ref (w_adr E.2.1 12 0)), (1, .int x1), (2, .int x2)] kX13_rent_c9.2.2.2.2.2.2.1 rfl (Nat.le_of_ble_eq_true rfl) ⟨⟨rfl, rfl, .inl rfl⟩, ⟨⟨rfl, rfl, .inl rfl⟩, ⟨⟨rfl, rfl, .inr rfl⟩, trivial⟩⟩⟩ rfl ?_
  refine kz_goto (M := kt_M524) kX13_rent_c9.2.2.2.2.2.2.2.1 (t := 97) rfl ?_
  exact kz_weak [(0, .ref (w_adr E.2.1 12 0)), (1, .int x1), (2, .int x2), (3, .int (x3 + 1))] ⟨rfl, ⟨rfl, ⟨rfl, ⟨rfl, trivial⟩⟩⟩⟩ rfl h
def zb_X13_rent_p97 (E : zE) (L : Nat) (Q : kx_Rs → wS → Prop) (x1 : Int32) (x2 : Int32) (x3 : Int32) (w : wS) : Prop := (if w_i w 12 0 119 ≤ (x3 * 65536) then zb_X13_rent_p135 E L Q x1 x2 w else (kx_inb x3 (w_n w 12 0 118) = true ∧ (if ¬ (w_r w 12 0 118 (x3).toNatClampNeg) = none then zb_X13_rent_p129 E L Q x1 x2 x3 w else ((¬ (65536 : Int32) < 0 ∧ (65536 : Int32).toNatClampNeg * 4 ≤ 536870912 ∧ 1 ≤ w_C w ∧ (65536 : Int32).toNatClampNeg ≤ w_S w) ∧ ((w_o (ws_new w 0 (65536 : Int32).toNatClampNeg) (w_z w) = some (99, (w_z w), 0) ∧ w_t (ws_new w 0 (65536 : Int32).toNatClampNeg) (w_z w) = 0) ∧ kx_inb x3 (w_n (ws_new w 0 (65536 : Int32).toNatClampNeg) 12 0 118) = true ∧ zb_X13_rent_p129 E L Q x1 x2 x3 (ws_r (ws_new w 0 (65536 : Int32).toNatClampNeg) 12 0 118 (x3).toNatClampNeg (some (w_z w))))))))
theorem zt_X13_rent_p97 {E : zE} {L : Nat} {Q : kx_Rs → wS → Prop} {x1 : Int32} {x2 : Int32} {x3 : Int32} {w : wS} (hL : 22 ≤ L) (h : zb_X13_rent_p97 E L Q x1 x2 x3 w) : kzE E L kt_M524 97 [(0, .ref (w_adr E.2.1 12 0)), (1, .int x1), (2, .int x2), (3, .int x3)] [] w Q := by
  unfold zb_X13_rent_p97 at h
  refine kz_iload_n (M := kt_M524) kX13_rent_c7.2.2.2.2.2.1 rfl ?_
  refine kz_ldcw (M := kt_M524) (x := 65536) kX13_rent_c7.2.2.2.2.2.2.1 (zc_X13_349) ?_
  refine kz_imul (M := kt_M524) kX13_rent_c7.2.2.2.2.2.2.2.1 ?_
  refine kz_aload_n (M := kt_M524) kX13_rent_c8.1 rfl ?_
  refine kz_gfi (M := kt_M524) (c := 12) (o := 0) kX13_rent_c8.2.1 wf_X13_1137 (.inl rfl) ?_
  refine kz_icmp_ge (M := kt_M524) kX13_rent_c8.2.2.1 (t := 135) rfl h (fun h => ?_) (fun h => ?_)
  · skip
    exact kz_weak [(0, .ref (w_adr E.2.1 12 0)), (1, .int x1), (2, .int x2)] ⟨rfl, ⟨rfl, ⟨rfl, trivial⟩⟩⟩ rfl (zt_X13_rent_p135 hL  h)
  · skip
    refine kz_aload_n (M := kt_M524) kX13_rent_c8.2.2.2.1 rfl ?_
    refine kz_gfc (M := kt_M524) (x := 4190) (c := 12) (o := 0) kX13_rent_c8.2.2.2.2.1 wf_X13_366 (.inl rfl) ?_
    refine kz_iload_n (M := kt_M524) kX13_rent_c8.2.2.2.2.2.1 rfl ?_
    refine kz_aald (M := kt_M524) (τ := 6) (c := 12) (o := 0) (k := 118) (a := (E.2.1 4190)) kX13_rent_c8.2.2.2.2.2.2.1 ow_12_0_118 oa_12_0_118 ot_10 rfl h (fun h => ?_)
    refine kz_ifnonnull (M := kt_M524) (x := w_r w 12 0 118 (x3).toNatClampNeg) kX13_rent_c8.2.2.2.2.2.2.2.1 (t := 129) rfl h (fun h => ?_) (fun h => ?_)
    · skip
      exact kz_weak [(0, .ref (w_adr E.2.1 12 0)), (1, .int x1), (2, .int x2), (3, .int x3)] ⟨rfl, ⟨rfl, ⟨rfl, ⟨rfl, trivial⟩⟩⟩⟩ rfl (zt_X13_rent_p129 hL  h)
    · skip
      refine kz_aload_n (M := kt_M524) kX13_rent_c9.1 rfl ?_
      refine kz_gfc (M := kt_M524) (x := 4190) (c := 12) (o := 0) kX13_rent_c9.2.1 wf_X13_366 (.inl rfl) ?_
      refine kz_iload_n (M := kt_M524) kX13_rent_c9.2.2.1 rfl ?_
      refine kz_ldcw (M := kt_M524) (x := 65536) kX13_rent_c9.2.2.2.1 (zc_X13_349) ?_
      refine kz_newi (M := kt_M524) kX13_rent_c9.2.2.2.2.1 ot_f0 ot_0 ot_ai h (fun h => ?_)
      refine kz_aastA (M := kt_M524) (τ := 6) (c := 12) (o := 0) (k := 118) (a := (E.2.1 4190)) kX13_rent_c9.2.2.2.2.2.1 ow_12_0_118 oa_12_0_118 ot_10 ot_0 h (fun h => ?_)
      exact kz_weak [(0, .ref (w_adr E.2.1 12 0)), (1, .int x1), (2, .int x2), (3, .int x3)] ⟨rfl, ⟨rfl, ⟨rfl, ⟨rfl, trivial⟩⟩⟩⟩ rfl (zt_X13_rent_p129 hL  h)
def zb_X13_rent_p76 (E : zE) (L : Nat) (Q : kx_Rs → wS → Prop) (x1 : Int32) (x2 : Int32) (w : wS) : Prop := (if 0 ≤ x2 then zb_X13_rent_p135 E L Q x1 x2 w else zL_X13_rent_p97 E L Q x1 (w_i w 12 0 119) 0 (ws_i w 12 0 119 ((w_i w 12 0 119) + x1)))
theorem zt_X13_rent_p76 {E : zE} {L : Nat} {Q : kx_Rs → wS → Prop} {x1 : Int32} {x2 : Int32} {w : wS} (hL : 22 ≤ L) (h : zb_X13_rent_p76 E L Q x1 x2 w) : kzE E L kt_M524 76 [(0, .ref (w_adr E.2.1 12 0)), (1, .int x1), (2, .int x2)] [] w Q := by
  unfold zb_X13_rent_p76 at h
  refine kz_iload_n (M := kt_M524) kX13_rent_c6.1 rfl ?_
  refine kz_if_ge (M := kt_M524) kX13_rent_c6.2.1 (t := 135) rfl h (fun h => ?_) (fun h => ?_)
  · skip
    exact kz_weak [(0, .ref (w_adr E.2.1 12 0)), (1, .int x1), (2, .int x2)] ⟨rfl, ⟨rfl, ⟨rfl, trivial⟩⟩⟩ rfl (zt_X13_rent_p135 hL  h)
  · skip
    refine kz_aload_n (M := kt_M524) kX13_rent_c6.2.2.1 rfl ?_
    refine kz_gfi (M := kt_M524) (c := 12) (o := 0) kX13_rent_c6.2.2.2.1 wf_X13_1137 (.inl rfl) ?_
    refine kz_sti_n (M := kt_M524) [(0, .ref (w_adr E.2.1 12 0)), (1, .int x1)] kX13_rent_c6.2.2.2.2.1 (Nat.le_of_ble_eq_true rfl) ⟨⟨rfl, rfl, .inl rfl⟩, ⟨⟨rfl, rfl, .inr rfl⟩, trivial⟩⟩ rfl ?_
    refine kz_aload_n (M := kt_M524) kX13_rent_c6.2.2.2.2.2.1 rfl ?_
    refine kz_dup (M := kt_M524) kX13_rent_c6.2.2.2.2.2.2.1 rfl ?_
    refine kz_gfi (M := kt_M524) (c := 12) (o := 0) kX13_rent_c6.2.2.2.2.2.2.2.1 wf_X13_1137 (.inl rfl) ?_
    refine kz_iload_n (M := kt_M524) kX13_rent_c7.1 rfl ?_
    refine kz_iadd (M := kt_M524) kX13_rent_c7.2.1 ?_
    refine kz_pfi (M := kt_M524) (c := 12) (o := 0) kX13_rent_c7.2.2.1 wq_X13_1137 (.inl rfl) ?_
    refine kz_ic (M := kt_M524) 0 kX13_rent_c7.2.2.2.1 rfl ?_
    refine kz_sti_n (M := kt_M524) [(0, .ref (w_adr E.2.1 12 0)), (1, .int x1), (2, .int (w_i w 12 0 119))] kX13_rent_c7.2.2.2.2.1 (Nat.le_of_ble_eq_true rfl) ⟨⟨rfl, rfl, .inl rfl⟩, ⟨⟨rfl, rfl, .inl rfl⟩, ⟨⟨rfl, rfl, .inr rfl⟩, trivial⟩⟩⟩ rfl ?_
    exact kz_weak [(0, .ref (w_adr E.2.1 12 0)), (1, .int x1), (2, .int (w_i w 12 0 119)), (3, .int 0)] ⟨rfl, ⟨rfl, ⟨rfl, ⟨rfl, trivial⟩⟩⟩⟩ rfl h
def zb_X13_rent_p70 (E : zE) (L : Nat) (Q : kx_Rs → wS → Prop) (x1 : Int32) (x2 : Int32) (x3 : Int32) (w : wS) : Prop := zL_X13_rent_p4 E L Q x1 x2 (x3 + 1) w
theorem zt_X13_rent_p70 {E : zE} {L : Nat} {Q : kx_Rs → wS → Prop} {x1 : Int32} {x2 : Int32} {x3 : Int32} {w : wS} (hL : 22 ≤ L) (h : zb_X13_rent_p70 E L Q x1 x2 x3 w) : kzE E L kt_M524 70 [(0, .ref (w_adr E.2.1 12 0)), (1, .int x1), (2, .int x2), (3, .int x3)] [] w Q := by
  unfold zb_X13_rent_p70 at h
  refine kz_inc (M := kt_M524) [(0, .ref (w_adr E.2.1 12 0)), (1, .int x1), (2, .int x2)] kX13_rent_c5.2.2.2.2.2.2.1 rfl (Nat.le_of_ble_eq_true rfl) ⟨⟨rfl, rfl, .inl rfl⟩, ⟨⟨rfl, rfl, .inl rfl⟩, ⟨⟨rfl, rfl, .inr rfl⟩, trivial⟩⟩⟩ rfl ?_
  refine kz_goto (M := kt_M524) kX13_rent_c5.2.2.2.2.2.2.2.1 (t := 4) rfl ?_
  exact kz_weak [(0, .ref (w_adr E.2.1 12 0)), (1, .int x1), (2, .int x2), (3, .int (x3 + 1))] ⟨rfl, ⟨rfl, ⟨rfl, ⟨rfl, trivial⟩⟩⟩⟩ rfl h
def zb_X13_rent_p4 (E : zE) (L : Nat) (Q : kx_Rs → wS → Prop) (x1 : Int32) (x2 : Int32) (x3 : Int32) (w : wS) : Prop := (if w_i w 12 0 120 ≤ x3 then zb_X13_rent_p76 E L Q x1 x2 w else (if 0 ≤ x2 then zb_X13_rent_p76 E L Q x1 x2 w else (kx_inb x3 (w_n w 12 0 122) = true ∧ (if x1 ≤ w_a w 12 0 122 (x3).toNatClampNeg then (kx_inb x3 (w_n w 12 0 121) = true ∧ (kx_inb x3 (w_n w 12 0 121) = true ∧ (kx_inb x3 (w_n w 12 0 121) = true ∧ (kx_inb x3 (w_n w 12 0 122) = true ∧ (kx_inb x3 (w_n w 12 0 122) = true ∧ (kx_inb x3 (w_n w 12 0 122) = true ∧ (if ¬ w_a (ws_a (ws_a w 12 0 121 (x3).toNatClampNeg ((w_a w 12 0 121 (x3).toNatClampNeg) + x1)) 12 0 122 (x3).toNatClampNeg ((w_a w 12 0 122 (x3).toNatClampNeg) - x1)) 12 0 122 (x3).toNatClampNeg = 0 then zb_X13_rent_p70 E L Q x1 (w_a w 12 0 121 (x3).toNatClampNeg) x3 (ws_a (ws_a w 12 0 121 (x3).toNatClampNeg ((w_a w 12 0 121 (x3).toNatClampNeg) + x1)) 12 0 122 (x3).toNatClampNeg ((w_a w 12 0 122 (x3).toNatClampNeg) - x1)) else zw E (L - 22) kt_M390 [.ref (w_adr E.2.1 12 0), .int x3] (ws_a (ws_a w 12 0 121 (x3).toNatClampNeg ((w_a w 12 0 121 (x3).toNatClampNeg) + x1)) 12 0 122 (x3).toNatClampNeg ((w_a w 12 0 122 (x3).toNatClampNeg) - x1)) (wk0 (fun w1 => wle (ws_a (ws_a w 12 0 121 (x3).toNatClampNeg ((w_a w 12 0 121 (x3).toNatClampNeg) + x1)) 12 0 122 (x3).toNatClampNeg ((w_a w 12 0 122 (x3).toNatClampNeg) - x1)) w1 → zb_X13_rent_p70 E L Q x1 (w_a w 12 0 121 (x3).toNatClampNeg) x3 w1) (fun e w => Q (.inr e) w))))))))) else zb_X13_rent_p70 E L Q x1 x2 x3 w))))
theorem zt_X13_rent_p4 {E : zE} {L : Nat} {Q : kx_Rs → wS → Prop} {x1 : Int32} {x2 : Int32} {x3 : Int32} {w : wS} (hL : 22 ≤ L) (h : zb_X13_rent_p4 E L Q x1 x2 x3 w) : kzE E L kt_M524 4 [(0, .ref (w_adr E.2.1 12 0)), (1, .int x1), (2, .int x2), (3, .int x3)] [] w Q := by
  unfold zb_X13_rent_p4 at h
  refine kz_iload_n (M := kt_M524) kX13_rent_c0.2.2.2.2.1 rfl ?_
  refine kz_aload_n (M := kt_M524) kX13_rent_c0.2.2.2.2.2.1 rfl ?_
  refine kz_gfi (M := kt_M524) (c := 12) (o := 0) kX13_rent_c0.2.2.2.2.2.2.1 wf_X13_1131 (.inl rfl) ?_
  refine kz_icmp_ge (M := kt_M524) kX13_rent_c0.2.2.2.2.2.2.2.1 (t := 76) rfl h (fun h => ?_) (fun h => ?_)
  · skip
    exact kz_weak [(0, .ref (w_adr E.2.1 12 0)), (1, .int x1), (2, .int x2)] ⟨rfl, ⟨rfl, ⟨rfl, trivial⟩⟩⟩ rfl (zt_X13_rent_p76 hL  h)
  · skip
    refine kz_iload_n (M := kt_M524) kX13_rent_c1.1 rfl ?_
    refine kz_if_ge (M := kt_M524) kX13_rent_c1.2.1 (t := 76) rfl h (fun h => ?_) (fun h => ?_)
    · skip
      exact kz_weak [(0, .ref (w_adr E.2.1 12 0)), (1, .int x1), (2, .int x2)] ⟨rfl, ⟨rfl, ⟨rfl, trivial⟩⟩⟩ rfl (zt_X13_rent_p76 hL  h)
    · skip
      refine kz_aload_n (M := kt_M524) kX13_rent_c1.2.2.1 rfl ?_
      refine kz_gfa (M := kt_M524) (c := 12) (o := 0) kX13_rent_c1.2.2.2.1 wf_X13_373 (.inl rfl) ?_
      refine kz_iload_n (M := kt_M524) kX13_rent_c1.2.2.2.2.1 rfl ?_
      refine kz_iald (M := kt_M524) (c := 12) (o := 0) (k := 122) (a := (w_d w 12 0 122)) kX13_rent_c1.2.2.2.2.2.1 ow_12_0_122 oa_12_0_122 ot_0 h (fun h => ?_)
      refine kz_iload_n (M := kt_M524) kX13_rent_c1.2.2.2.2.2.2.1 rfl ?_
      refine kz_icmp_ge (M := kt_M524) kX13_rent_c1.2.2.2.2.2.2.2.1 (t := 29) rfl h (fun h => ?_) (fun h => ?_)
      · skip
        refine kz_aload_n (M := kt_M524) kX13_rent_c2.2.1 rfl ?_
        refine kz_gfa (M := kt_M524) (c := 12) (o := 0) kX13_rent_c2.2.2.1 wf_X13_370 (.inl rfl) ?_
        refine kz_iload_n (M := kt_M524) kX13_rent_c2.2.2.2.1 rfl ?_
        refine kz_iald (M := kt_M524) (c := 12) (o := 0) (k := 121) (a := (w_d w 12 0 121)) kX13_rent_c2.2.2.2.2.1 ow_12_0_121 oa_12_0_121 ot_0 h (fun h => ?_)
        refine kz_sti_n (M := kt_M524) [(0, .ref (w_adr E.2.1 12 0)), (1, .int x1), (3, .int x3)] kX13_rent_c2.2.2.2.2.2.1 (Nat.le_of_ble_eq_true rfl) ⟨⟨rfl, rfl, .inl rfl⟩, ⟨⟨rfl, rfl, .inr rfl⟩, ⟨⟨rfl, rfl, .inl rfl⟩, trivial⟩⟩⟩ rfl ?_
        refine kz_aload_n (M := kt_M524) kX13_rent_c2.2.2.2.2.2.2.1 rfl ?_
        refine kz_gfa (M := kt_M524) (c := 12) (o := 0) kX13_rent_c2.2.2.2.2.2.2.2.1 wf_X13_370 (.inl rfl) ?_
        refine kz_iload_n (M := kt_M524) kX13_rent_c3.1 rfl ?_
        refine kz_dup2 (M := kt_M524) kX13_rent_c3.2.1 ⟨rfl, rfl⟩ ?_
        refine kz_iald (M := kt_M524) (c := 12) (o := 0) (k := 121) (a := (w_d w 12 0 121)) kX13_rent_c3.2.2.1 ow_12_0_121 oa_12_0_121 ot_0 h (fun h => ?_)
        refine kz_iload_n (M := kt_M524) kX13_rent_c3.2.2.2.1 rfl ?_
        refine kz_iadd (M := kt_M524) kX13_rent_c3.2.2.2.2.1 ?_
        refine kz_iast (M := kt_M524) (c := 12) (o := 0) (k := 121) (a := (w_d w 12 0 121)) kX13_rent_c3.2.2.2.2.2.1 ow_12_0_121 oa_12_0_121 ot_0 h (fun h => ?_)
        refine kz_aload_n (M := kt_M524) kX13_rent_c3.2.2.2.2.2.2.1 rfl ?_
        refine kz_gfa (M := kt_M524) (c := 12) (o := 0) kX13_rent_c3.2.2.2.2.2.2.2.1 wf_X13_373 (.inl rfl) ?_
        refine kz_iload_n (M := kt_M524) kX13_rent_c4.1 rfl ?_
        refine kz_dup2 (M := kt_M524) kX13_rent_c4.2.1 ⟨rfl, rfl⟩ ?_
        refine kz_ialdR (M := kt_M524) (n := w_n w 12 0 122) (c := 12) (o := 0) (k := 122) (a := (w_d (ws_a w 12 0 121 (x3).toNatClampNeg ((w_a w 12 0 121 (x3).toNatClampNeg) + x1)) 12 0 122)) (w_a w 12 0 122 (x3).toNatClampNeg) kX13_rent_c4.2.2.1 ow_12_0_122 oa_12_0_122 ot_0 rd_n_a (rd_a_a rfl) h (fun h => ?_)
        refine kz_iload_n (M := kt_M524) kX13_rent_c4.2.2.2.1 rfl ?_
        refine kz_isub (M := kt_M524) kX13_rent_c4.2.2.2.2.1 ?_
        refine kz_iastR (M := kt_M524) (n := w_n w 12 0 122) (c := 12) (o := 0) (k := 122) (a := (w_d (ws_a w 12 0 121 (x3).toNatClampNeg ((w_a w 12 0 121 (x3).toNatClampNeg) + x1)) 12 0 122)) kX13_rent_c4.2.2.2.2.2.1 ow_12_0_122 oa_12_0_122 ot_0 rd_n_a h (fun h => ?_)
        refine kz_aload_n (M := kt_M524) kX13_rent_c4.2.2.2.2.2.2.1 rfl ?_
        refine kz_gfa (M := kt_M524) (c := 12) (o := 0) kX13_rent_c4.2.2.2.2.2.2.2.1 wf_X13_373 (.inl rfl) ?_
        refine kz_iload_n (M := kt_M524) kX13_rent_c5.1 rfl ?_
        refine kz_ialdR (M := kt_M524) (n := w_n w 12 0 122) (c := 12) (o := 0) (k := 122) (a := (w_d (ws_a (ws_a w 12 0 121 (x3).toNatClampNeg ((w_a w 12 0 121 (x3).toNatClampNeg) + x1)) 12 0 122 (x3).toNatClampNeg ((w_a w 12 0 122 (x3).toNatClampNeg) - x1)) 12 0 122)) (w_a (ws_a (ws_a w 12 0 121 (x3).toNatClampNeg ((w_a w 12 0 121 (x3).toNatClampNeg) + x1)) 12 0 122 (x3).toNatClampNeg ((w_a w 12 0 122 (x3).toNatClampNeg) - x1)) 12 0 122 (x3).toNatClampNeg) kX13_rent_c5.2.1 ow_12_0_122 oa_12_0_122 ot_0 (rd_n_a.trans rd_n_a) rfl h (fun h => ?_)
        refine kz_if_ne (M := kt_M524) kX13_rent_c5.2.2.1 (t := 70) rfl h (fun h => ?_) (fun h => ?_)
        · skip
          exact kz_weak [(0, .ref (w_adr E.2.1 12 0)), (1, .int x1), (2, .int (w_a w 12 0 121 (x3).toNatClampNeg)), (3, .int x3)] ⟨rfl, ⟨rfl, ⟨rfl, ⟨rfl, trivial⟩⟩⟩⟩ rfl (zt_X13_rent_p70 hL  h)
        · skip
          refine kz_aload_n (M := kt_M524) kX13_rent_c5.2.2.2.1 rfl ?_
          refine kz_iload_n (M := kt_M524) kX13_rent_c5.2.2.2.2.1 rfl ?_
          refine kz_cv0 (M := kt_M524) (c := 12) (o := 0) (As := [.int x3]) (rest := []) kX13_rent_c5.2.2.2.2.2.1 wl_X13_1134 wMv_390 rfl (.inl rfl) rfl (Nat.le_trans (Nat.le_of_ble_eq_true rfl) hL) (Nat.le_of_ble_eq_true rfl) (Nat.le_of_ble_eq_true rfl) h (fun w1 hle h => ?_) (fun _ _ _ h => kzx_no rfl h)
          have h := h hle
          exact kz_weak [(0, .ref (w_adr E.2.1 12 0)), (1, .int x1), (2, .int (w_a w 12 0 121 (x3).toNatClampNeg)), (3, .int x3)] ⟨rfl, ⟨rfl, ⟨rfl, ⟨rfl, trivial⟩⟩⟩⟩ rfl (zt_X13_rent_p70 hL  h)
      · skip
        refine kz_goto (M := kt_M524) kX13_rent_c2.1 (t := 70) rfl ?_
        exact kz_weak [(0, .ref (w_adr E.2.1 12 0)), (1, .int x1), (2, .int x2), (3, .int x3)] ⟨rfl, ⟨rfl, ⟨rfl, ⟨rfl, trivial⟩⟩⟩⟩ rfl (zt_X13_rent_p70 hL  h)
def zb_X13_rent_p0 (E : zE) (L : Nat) (Q : kx_Rs → wS → Prop) (x1 : Int32) (w : wS) : Prop := zL_X13_rent_p4 E L Q x1 (-1) 0 w
theorem zt_X13_rent_p0 {E : zE} {L : Nat} {Q : kx_Rs → wS → Prop} {x1 : Int32} {w : wS} (hL : 22 ≤ L) (h : zb_X13_rent_p0 E L Q x1 w) : kzE E L kt_M524 0 [(0, .ref (w_adr E.2.1 12 0)), (1, .int x1)] [] w Q := by
  unfold zb_X13_rent_p0 at h
  refine kz_ic (M := kt_M524) (-1) kX13_rent_c0.1 rfl ?_
  refine kz_sti_n (M := kt_M524) [(0, .ref (w_adr E.2.1 12 0)), (1, .int x1)] kX13_rent_c0.2.1 (Nat.le_of_ble_eq_true rfl) ⟨⟨rfl, rfl, .inl rfl⟩, ⟨⟨rfl, rfl, .inr rfl⟩, trivial⟩⟩ rfl ?_
  refine kz_ic (M := kt_M524) 0 kX13_rent_c0.2.2.1 rfl ?_
  refine kz_sti_n (M := kt_M524) [(0, .ref (w_adr E.2.1 12 0)), (1, .int x1), (2, .int (-1))] kX13_rent_c0.2.2.2.1 (Nat.le_of_ble_eq_true rfl) ⟨⟨rfl, rfl, .inl rfl⟩, ⟨⟨rfl, rfl, .inl rfl⟩, ⟨⟨rfl, rfl, .inr rfl⟩, trivial⟩⟩⟩ rfl ?_
  exact kz_weak [(0, .ref (w_adr E.2.1 12 0)), (1, .int x1), (2, .int (-1)), (3, .int 0)] ⟨rfl, ⟨rfl, ⟨rfl, ⟨rfl, trivial⟩⟩⟩⟩ rfl h
def zb_X13_push_p71 (E : zE) (L : Nat) (Q : kx_Rs → wS → Prop) (x1 : Int32) (x2 : Int32) (x3 : Int32) (x4 : Int32) (x5 : Int32) (w : wS) : Prop := zw E (L - 23) kt_M402 [.ref (w_adr E.2.1 12 0), .int x5, .int 0, .int x1] w (wk0 (fun w1 => wle w w1 → zw E (L - 23) kt_M402 [.ref (w_adr E.2.1 12 0), .int x5, .int 1, .int x2] w1 (wk0 (fun w3 => wle w1 w3 → zw E (L - 23) kt_M402 [.ref (w_adr E.2.1 12 0), .int x5, .int 2, .int x3] w3 (wk0 (fun w5 => wle w3 w5 → zw E (L - 23) kt_M402 [.ref (w_adr E.2.1 12 0), .int x5, .int 3, .int x4] w5 (wk0 (fun w7 => wle w5 w7 → zw E (L - 23) kt_M402 [.ref (w_adr E.2.1 12 0), .int x5, .int 4, .int (w_i w7 12 0 163)] w7 (wk0 (fun w9 => wle w7 w9 → Q (.inl none) (ws_i w9 12 0 163 x5)) (fun e w => Q (.inr e) w))) (fun e w => Q (.inr e) w))) (fun e w => Q (.inr e) w))) (fun e w => Q (.inr e) w))) (fun e w => Q (.inr e) w))
theorem zt_X13_push_p71 {E : zE} {L : Nat} {Q : kx_Rs → wS → Prop} {x1 : Int32} {x2 : Int32} {x3 : Int32} {x4 : Int32} {x5 : Int32} {w : wS} (hL : 23 ≤ L) (h : zb_X13_push_p71 E L Q x1 x2 x3 x4 x5 w) : kzE E L kt_M518 71 [(0, .ref (w_adr E.2.1 12 0)), (1, .int x1), (2, .int x2), (3, .int x3), (4, .int x4), (5, .int x5)] [] w Q := by
  unfold zb_X13_push_p71 at h
  refine kz_aload_n (M := kt_M518) kX13_push_c4.2.2.2.2.1 rfl ?_
  refine kz_iload (M := kt_M518) kX13_push_c4.2.2.2.2.2.1 rfl ?_
  refine kz_ic (M := kt_M518) 0 kX13_push_c4.2.2.2.2.2.2.1 rfl ?_
  refine kz_iload_n (M := kt_M518) kX13_push_c4.2.2.2.2.2.2.2.1 rfl ?_
  refine kz_cv0 (M := kt_M518) (c := 12) (o := 0) (As := [.int x5, .int 0, .int x1]) (rest := []) kX13_push_c5.1 wl_X13_1162 wMv_402 rfl (.inl rfl) rfl (Nat.le_trans (Nat.le_of_ble_eq_true rfl) hL) (Nat.le_of_ble_eq_true rfl) (Nat.le_of_ble_eq_true rfl) h (fun w1 hle h => ?_) (fun _ _ _ h => kzx_no rfl h)
  have h := h hle
  refine kz_aload_n (M := kt_M518) kX13_push_c5.2.1 rfl ?_
  refine kz_iload (M := kt_M518) kX13_push_c5.2.2.1 rfl ?_
  refine kz_ic (M := kt_M518) 1 kX13_push_c5.2.2.2.1 rfl ?_
  refine kz_iload_n (M := kt_M518) kX13_push_c5.2.2.2.2.1 rfl ?_
  refine kz_cv0 (M := kt_M518) (c := 12) (o := 0) (As := [.int x5, .int 1, .int x2]) (rest := []) kX13_push_c5.2.2.2.2.2.1 wl_X13_1162 wMv_402 rfl (.inl rfl) rfl (Nat.le_trans (Nat.le_of_ble_eq_true rfl) hL) (Nat.le_of_ble_eq_true rfl) (Nat.le_of_ble_eq_true rfl) h (fun w3 hle h => ?_) (fun _ _ _ h => kzx_no rfl h)
  have h := h hle
  refine kz_aload_n (M := kt_M518) kX13_push_c5.2.2.2.2.2.2.1 rfl ?_
  refine kz_iload (M := kt_M518) kX13_push_c5.2.2.2.2.2.2.2.1 rfl ?_
  refine kz_ic (M := kt_M518) 2 kX13_push_c6.1 rfl ?_
  refine kz_iload_n (M := kt_M518) kX13_push_c6.2.1 rfl ?_
  refine kz_cv0 (M := kt_M518) (c := 12) (o := 0) (As := [.int x5, .int 2, .int x3]) (rest := []) kX13_push_c6.2.2.1 wl_X13_1162 wMv_402 rfl (.inl rfl) rfl (Nat.le_trans (Nat.le_of_ble_eq_true rfl) hL) (Nat.le_of_ble_eq_true rfl) (Nat.le_of_ble_eq_true rfl) h (fun w5 hle h => ?_) (fun _ _ _ h => kzx_no rfl h)
  have h := h hle
  refine kz_aload_n (M := kt_M518) kX13_push_c6.2.2.2.1 rfl ?_
  refine kz_iload (M := kt_M518) kX13_push_c6.2.2.2.2.1 rfl ?_
  refine kz_ic (M := kt_M518) 3 kX13_push_c6.2.2.2.2.2.1 rfl ?_
  refine kz_iload (M := kt_M518) kX13_push_c6.2.2.2.2.2.2.1 rfl ?_
  refine kz_cv0 (M := kt_M518) (c := 12) (o := 0) (As := [.int x5, .int 3, .int x4]) (rest := []) kX13_push_c6.2.2.2.2.2.2.2.1 wl_X13_1162 wMv_402 rfl (.inl rfl) rfl (Nat.le_trans (Nat.le_of_ble_eq_true rfl) hL) (Nat.le_of_ble_eq_true rfl) (Nat.le_of_ble_eq_true rfl) h (fun w7 hle h => ?_) (fun _ _ _ h => kzx_no rfl h)
  have h := h hle
  refine kz_aload_n (M := kt_M518) kX13_push_c7.1 rfl ?_
  refine kz_iload (M := kt_M518) kX13_push_c7.2.1 rfl ?_
  refine kz_ic (M := kt_M518) 4 kX13_push_c7.2.2.1 rfl ?_
  refine kz_aload_n (M := kt_M518) kX13_push_c7.2.2.2.1 rfl ?_
  refine kz_gfi (M := kt_M518) (c := 12) (o := 0) kX13_push_c7.2.2.2.2.1 wf_X13_1165 (.inl rfl) ?_
  refine kz_cv0 (M := kt_M518) (c := 12) (o := 0) (As := [.int x5, .int 4, .int (w_i w7 12 0 163)]) (rest := []) kX13_push_c7.2.2.2.2.2.1 wl_X13_1162 wMv_402 rfl (.inl rfl) rfl (Nat.le_trans (Nat.le_of_ble_eq_true rfl) hL) (Nat.le_of_ble_eq_true rfl) (Nat.le_of_ble_eq_true rfl) h (fun w9 hle h => ?_) (fun _ _ _ h => kzx_no rfl h)
  have h := h hle
  refine kz_aload_n (M := kt_M518) kX13_push_c7.2.2.2.2.2.2.1 rfl ?_
  refine kz_iload (M := kt_M518) kX13_push_c7.2.2.2.2.2.2.2.1 rfl ?_
  refine kz_pfi (M := kt_M518) (c := 12) (o := 0) kX13_push_c8.1 wq_X13_1165 (.inl rfl) ?_
  exact kz_ret (M := kt_M518) kX13_push_c8.2.1 rfl h
def zb_X13_push_p0 (E : zE) (L : Nat) (Q : kx_Rs → wS → Prop) (x1 : Int32) (x2 : Int32) (x3 : Int32) (x4 : Int32) (w : wS) : Prop := (if w_i w 12 0 167 < 0 then (kx_inb ((w_i w 12 0 166) / 8192) (w_n w 12 0 165) = true ∧ (if ¬ (w_r w 12 0 165 (((w_i w 12 0 166) / 8192)).toNatClampNeg) = none then zb_X13_push_p71 E L Q x1 x2 x3 x4 (w_i w 12 0 166) (ws_i w 12 0 166 ((w_i w 12 0 166) + 1)) else ((¬ (40960 : Int32) < 0 ∧ (40960 : Int32).toNatClampNeg * 4 ≤ 536870912 ∧ 1 ≤ w_C (ws_i w 12 0 166 ((w_i w 12 0 166) + 1)) ∧ (40960 : Int32).toNatClampNeg ≤ w_S (ws_i w 12 0 166 ((w_i w 12 0 166) + 1))) ∧ ((w_o (ws_new (ws_i w 12 0 166 ((w_i w 12 0 166) + 1)) 0 (40960 : Int32).toNatClampNeg) (w_z (ws_i w 12 0 166 ((w_i w 12 0 166) + 1))) = some (99, (w_z (ws_i w 12 0 166 ((w_i w 12 0 166) + 1))), 0) ∧ w_t (ws_new (ws_i w 12 0 166 ((w_i w 12 0 166) + 1)) 0 (40960 : Int32).toNatClampNeg) (w_z (ws_i w 12 0 166 ((w_i w 12 0 166) + 1))) = 0) ∧ kx_inb ((w_i w 12 0 166) / 8192) (w_n (ws_new (ws_i w 12 0 166 ((w_i w 12 0 166) + 1)) 0 (40960 : Int32).toNatClampNeg) 12 0 165) = true ∧ zb_X13_push_p71 E L Q x1 x2 x3 x4 (w_i w 12 0 166) (ws_r (ws_new (ws_i w 12 0 166 ((w_i w 12 0 166) + 1)) 0 (40960 : Int32).toNatClampNeg) 12 0 165 (((w_i w 12 0 166) / 8192)).toNatClampNeg (some (w_z (ws_i w 12 0 166 ((w_i w 12 0 166) + 1))))))))) else zw E (L - 22) kt_M403 [.ref (w_adr E.2.1 12 0), .int (w_i w 12 0 167), .int 4] w (wk1 (fun v2 w1 => wle w w1 → zb_X13_push_p71 E L Q x1 x2 x3 x4 (w_i w 12 0 167) (ws_i w1 12 0 167 v2)) (fun e w => Q (.inr e) w)))
theorem zt_X13_push_p0 {E : zE} {L : Nat} {Q : kx_Rs → wS → Prop} {x1 : Int32} {x2 : Int32} {x3 : Int32} {x4 : Int32} {w : wS} (hL : 23 ≤ L) (h : zb_X13_push_p0 E L Q x1 x2 x3 x4 w) : kzE E L kt_M518 0 [(0, .ref (w_adr E.2.1 12 0)), (1, .int x1), (2, .int x2), (3, .int x3), (4, .int x4)] [] w Q := by
  unfold zb_X13_push_p0 at h
  refine kz_aload_n (M := kt_M518) kX13_push_c0.1 rfl ?_
  refine kz_gfi (M := kt_M518) (c := 12) (o := 0) kX13_push_c0.2.1 wf_X13_1152 (.inl rfl) ?_
  refine kz_sti (M := kt_M518) [(0, .ref (w_adr E.2.1 12 0)), (1, .int x1), (2, .int x2), (3, .int x3), (4, .int x4)] kX13_push_c0.2.2.1 (Nat.le_of_ble_eq_true rfl) ⟨⟨rfl, rfl, .inl rfl⟩, ⟨⟨rfl, rfl, .inl rfl⟩, ⟨⟨rfl, rfl, .inl rfl⟩, ⟨⟨rfl, rfl, .inl rfl⟩, ⟨⟨rfl, rfl, .inr rfl⟩, trivial⟩⟩⟩⟩⟩ rfl ?_
  refine kz_iload (M := kt_M518) kX13_push_c0.2.2.2.1 rfl ?_
  refine kz_if_lt (M := kt_M518) kX13_push_c0.2.2.2.2.1 (t := 25) rfl h (fun h => ?_) (fun h => ?_)
  · skip
    refine kz_aload_n (M := kt_M518) kX13_push_c1.2.2.2.2.1 rfl ?_
    refine kz_gfi (M := kt_M518) (c := 12) (o := 0) kX13_push_c1.2.2.2.2.2.1 wf_X13_1158 (.inl rfl) ?_
    refine kz_sti (M := kt_M518) [(0, .ref (w_adr E.2.1 12 0)), (1, .int x1), (2, .int x2), (3, .int x3), (4, .int x4)] kX13_push_c1.2.2.2.2.2.2.1 (Nat.le_of_ble_eq_true rfl) ⟨⟨rfl, rfl, .inl rfl⟩, ⟨⟨rfl, rfl, .inl rfl⟩, ⟨⟨rfl, rfl, .inl rfl⟩, ⟨⟨rfl, rfl, .inl rfl⟩, ⟨⟨rfl, rfl, .inr rfl⟩, trivial⟩⟩⟩⟩⟩ rfl ?_
    refine kz_aload_n (M := kt_M518) kX13_push_c1.2.2.2.2.2.2.2.1 rfl ?_
    refine kz_dup (M := kt_M518) kX13_push_c2.1 rfl ?_
    refine kz_gfi (M := kt_M518) (c := 12) (o := 0) kX13_push_c2.2.1 wf_X13_1158 (.inl rfl) ?_
    refine kz_ic (M := kt_M518) 1 kX13_push_c2.2.2.1 rfl ?_
    refine kz_iadd (M := kt_M518) kX13_push_c2.2.2.2.1 ?_
    refine kz_pfi (M := kt_M518) (c := 12) (o := 0) kX13_push_c2.2.2.2.2.1 wq_X13_1158 (.inl rfl) ?_
    refine kz_aload_n (M := kt_M518) kX13_push_c2.2.2.2.2.2.1 rfl ?_
    refine kz_gfc (M := kt_M518) (x := 4237) (c := 12) (o := 0) kX13_push_c2.2.2.2.2.2.2.1 wf_X13_436 (.inl rfl) ?_
    refine kz_iload (M := kt_M518) kX13_push_c2.2.2.2.2.2.2.2.1 rfl ?_
    refine kz_si (M := kt_M518) 8192 kX13_push_c3.1 rfl ?_
    refine kz_idiv (M := kt_M518) kX13_push_c3.2.1 (by decide) ?_
    refine kz_aaldR (M := kt_M518) (τ := 6) (n := w_n w 12 0 165) (c := 12) (o := 0) (k := 165) (a := (E.2.1 4237)) (w_r w 12 0 165 (((w_i w 12 0 166) / 8192)).toNatClampNeg) kX13_push_c3.2.2.1 ow_12_0_165 oa_12_0_165 ot_10 rfl rd_n_i rd_r_i h (fun h => ?_)
    refine kz_ifnonnull (M := kt_M518) (x := w_r w 12 0 165 (((w_i w 12 0 166) / 8192)).toNatClampNeg) kX13_push_c3.2.2.2.1 (t := 71) rfl h (fun h => ?_) (fun h => ?_)
    · skip
      exact kz_weak [(0, .ref (w_adr E.2.1 12 0)), (1, .int x1), (2, .int x2), (3, .int x3), (4, .int x4), (5, .int (w_i w 12 0 166))] ⟨rfl, ⟨rfl, ⟨rfl, ⟨rfl, ⟨rfl, ⟨rfl, trivial⟩⟩⟩⟩⟩⟩ rfl (zt_X13_push_p71 hL  h)
    · skip
      refine kz_aload_n (M := kt_M518) kX13_push_c3.2.2.2.2.1 rfl ?_
      refine kz_gfc (M := kt_M518) (x := 4237) (c := 12) (o := 0) kX13_push_c3.2.2.2.2.2.1 wf_X13_436 (.inl rfl) ?_
      refine kz_iload (M := kt_M518) kX13_push_c3.2.2.2.2.2.2.1 rfl ?_
      refine kz_si (M := kt_M518) 8192 kX13_push_c3.2.2.2.2.2.2.2.1 rfl ?_
      refine kz_idiv (M := kt_M518) kX13_push_c4.1 (by decide) ?_
      refine kz_ldcw (M := kt_M518) (x := 40960) kX13_push_c4.2.1 (zc_X13_1161) ?_
      refine kz_newi (M := kt_M518) kX13_push_c4.2.2.1 ot_f0 ot_0 ot_ai h (fun h => ?_)
      refine kz_aastA (M := kt_M518) (τ := 6) (c := 12) (o := 0) (k := 165) (a := (E.2.1 4237)) kX13_push_c4.2.2.2.1 ow_12_0_165 oa_12_0_165 ot_10 ot_0 h (fun h => ?_)
      exact kz_weak [(0, .ref (w_adr E.2.1 12 0)), (1, .int x1), (2, .int x2), (3, .int x3), (4, .int x4), (5, .int (w_i w 12 0 166))] ⟨rfl, ⟨rfl, ⟨rfl, ⟨rfl, ⟨rfl, ⟨rfl, trivial⟩⟩⟩⟩⟩⟩ rfl (zt_X13_push_p71 hL  h)
  · skip
    refine kz_aload_n (M := kt_M518) kX13_push_c0.2.2.2.2.2.1 rfl ?_
    refine kz_aload_n (M := kt_M518) kX13_push_c0.2.2.2.2.2.2.1 rfl ?_
    refine kz_iload (M := kt_M518) kX13_push_c0.2.2.2.2.2.2.2.1 rfl ?_
    refine kz_ic (M := kt_M518) 4 kX13_push_c1.1 rfl ?_
    refine kz_cv1 (M := kt_M518) (c := 12) (o := 0) (As := [.int (w_i w 12 0 167), .int 4]) (rest := [.ref (w_adr E.2.1 12 0)]) kX13_push_c1.2.1 wl_X13_1155 wMv_403 rfl (.inl rfl) rfl (Nat.le_trans (Nat.le_of_ble_eq_true rfl) hL) (Nat.le_of_ble_eq_true rfl) (Nat.le_of_ble_eq_true rfl) h (fun v2 w1 hle h => ?_) (fun _ _ _ h => kzx_no rfl h)
    have h := h hle
    refine kz_pfi (M := kt_M518) (c := 12) (o := 0) kX13_push_c1.2.2.1 wq_X13_1152 (.inl rfl) ?_
    refine kz_goto (M := kt_M518) kX13_push_c1.2.2.2.1 (t := 71) rfl ?_
    exact kz_weak [(0, .ref (w_adr E.2.1 12 0)), (1, .int x1), (2, .int x2), (3, .int x3), (4, .int x4), (5, .int (w_i w 12 0 167))] ⟨rfl, ⟨rfl, ⟨rfl, ⟨rfl, ⟨rfl, ⟨rfl, trivial⟩⟩⟩⟩⟩⟩ rfl (zt_X13_push_p71 hL  h)
