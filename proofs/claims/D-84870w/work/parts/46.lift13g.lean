/-! ===== methods over the typed state (printed by tools/gen_lift.py) ===== -/
set_option maxRecDepth 100000
def zb_X13_typeReplicator_p224 (E : zE) (L : Nat) (Q : kx_Rs → wS → Prop) (w : wS) : Prop := Q (.inl none) w
theorem zt_X13_typeReplicator_p224 {E : zE} {L : Nat} {Q : kx_Rs → wS → Prop} {w : wS} (hL : 24 ≤ L) (h : zb_X13_typeReplicator_p224 E L Q  w) : kzE E L kt_M585 224 [(0, .ref (w_adr E.2.1 12 0))] [] w Q := by
  unfold zb_X13_typeReplicator_p224 at h
  exact kz_ret (M := kt_M585) kX13_typeReplicator_c15.2.2.2.2.2.2.1 rfl h
def zb_X13_typeReplicator_p202 (E : zE) (L : Nat) (Q : kx_Rs → wS → Prop) (x1 : Int32) (y0 : Int64) (y1 : Int32) (w : wS) : Prop := (kx_inb y1 (w_n w 12 0 76) = true ∧ (kx_inb x1 (w_n w 12 0 76) = true ∧ (if (lg_cmp (w_b (ws_b w 12 0 76 (y1).toNatClampNeg y0) 12 0 76 (x1).toNatClampNeg) 0) ≤ 0 then zb_X13_typeReplicator_p224 E L Q (ws_b w 12 0 76 (y1).toNatClampNeg y0) else (kx_inb x1 (w_n w 12 0 76) = true ∧ zb_X13_typeReplicator_p224 E L Q (ws_g (ws_b w 12 0 76 (y1).toNatClampNeg y0) 12 0 79 (w_b (ws_b w 12 0 76 (y1).toNatClampNeg y0) 12 0 76 (x1).toNatClampNeg))))))
theorem zt_X13_typeReplicator_p202 {E : zE} {L : Nat} {Q : kx_Rs → wS → Prop} {x1 : Int32} {y0 : Int64} {y1 : Int32} {w : wS} (hL : 24 ≤ L) (h : zb_X13_typeReplicator_p202 E L Q x1 y0 y1 w) : kzE E L kt_M585 202 [(0, .ref (w_adr E.2.1 12 0)), (1, .int x1)] [.long (y0), .int y1, .ref (E.2.1 4148)] w Q := by
  unfold zb_X13_typeReplicator_p202 at h
  refine kz_last (M := kt_M585) (c := 12) (o := 0) (k := 76) (a := (E.2.1 4148)) kX13_typeReplicator_c14.1 ow_12_0_76 oa_12_0_76 ot_3 h (fun h => ?_)
  refine kz_aload_n (M := kt_M585) kX13_typeReplicator_c14.2.1 rfl ?_
  refine kz_gfc (M := kt_M585) (x := 4148) (c := 12) (o := 0) kX13_typeReplicator_c14.2.2.1 wf_X13_284 (.inl rfl) ?_
  refine kz_iload_n (M := kt_M585) kX13_typeReplicator_c14.2.2.2.1 rfl ?_
  refine kz_laldR (M := kt_M585) (n := w_n w 12 0 76) (c := 12) (o := 0) (k := 76) (a := (E.2.1 4148)) (w_b (ws_b w 12 0 76 (y1).toNatClampNeg y0) 12 0 76 (x1).toNatClampNeg) kX13_typeReplicator_c14.2.2.2.2.1 ow_12_0_76 oa_12_0_76 ot_3 rd_n_b rfl h (fun h => ?_)
  refine kz_lconst (M := kt_M585) kX13_typeReplicator_c14.2.2.2.2.2.1 ?_
  refine kz_lcmp (M := kt_M585) kX13_typeReplicator_c14.2.2.2.2.2.2.1 ?_
  refine kz_if_le (M := kt_M585) kX13_typeReplicator_c14.2.2.2.2.2.2.2.1 (t := 224) rfl h (fun h => ?_) (fun h => ?_)
  · skip
    exact kz_weak [(0, .ref (w_adr E.2.1 12 0))] ⟨rfl, trivial⟩ rfl (zt_X13_typeReplicator_p224 hL  h)
  · skip
    refine kz_aload_n (M := kt_M585) kX13_typeReplicator_c15.1 rfl ?_
    refine kz_aload_n (M := kt_M585) kX13_typeReplicator_c15.2.1 rfl ?_
    refine kz_gfc (M := kt_M585) (x := 4148) (c := 12) (o := 0) kX13_typeReplicator_c15.2.2.1 wf_X13_284 (.inl rfl) ?_
    refine kz_iload_n (M := kt_M585) kX13_typeReplicator_c15.2.2.2.1 rfl ?_
    refine kz_laldR (M := kt_M585) (n := w_n w 12 0 76) (c := 12) (o := 0) (k := 76) (a := (E.2.1 4148)) (w_b (ws_b w 12 0 76 (y1).toNatClampNeg y0) 12 0 76 (x1).toNatClampNeg) kX13_typeReplicator_c15.2.2.2.2.1 ow_12_0_76 oa_12_0_76 ot_3 rd_n_b rfl h (fun h => ?_)
    refine kz_pfg (M := kt_M585) (c := 12) (o := 0) kX13_typeReplicator_c15.2.2.2.2.2.1 wq_X13_938 (.inl rfl) ?_
    exact kz_weak [(0, .ref (w_adr E.2.1 12 0))] ⟨rfl, trivial⟩ rfl (zt_X13_typeReplicator_p224 hL  h)
def zb_X13_typeReplicator_p201 (E : zE) (L : Nat) (Q : kx_Rs → wS → Prop) (x1 : Int32) (y0 : Int32) (w : wS) : Prop := zb_X13_typeReplicator_p202 E L Q x1 0 y0 w
theorem zt_X13_typeReplicator_p201 {E : zE} {L : Nat} {Q : kx_Rs → wS → Prop} {x1 : Int32} {y0 : Int32} {w : wS} (hL : 24 ≤ L) (h : zb_X13_typeReplicator_p201 E L Q x1 y0 w) : kzE E L kt_M585 201 [(0, .ref (w_adr E.2.1 12 0)), (1, .int x1)] [.int y0, .ref (E.2.1 4148)] w Q := by
  unfold zb_X13_typeReplicator_p201 at h
  refine kz_lconst (M := kt_M585) kX13_typeReplicator_c13.2.2.2.2.2.2.2.1 ?_
  exact kz_weak [(0, .ref (w_adr E.2.1 12 0)), (1, .int x1)] ⟨rfl, ⟨rfl, trivial⟩⟩ rfl (zt_X13_typeReplicator_p202 hL  h)
def zb_X13_typeReplicator_p162 (E : zE) (L : Nat) (Q : kx_Rs → wS → Prop) (x1 : Int32) (x3 : Int32) (w : wS) : Prop := (if x3 = 0 then zb_X13_typeReplicator_p201 E L Q x1 x1 w else (kx_inb x1 (w_n w 12 0 78) = true ∧ (if w_a w 12 0 78 (x1).toNatClampNeg ≤ 0 then zb_X13_typeReplicator_p201 E L Q x1 x1 w else (kx_inb x1 (w_n w 12 0 78) = true ∧ zb_X13_typeReplicator_p202 E L Q x1 (if ((w_g w 12 0 79) * ((w_a w 12 0 78 (x1).toNatClampNeg).toInt64)) < 1000000 then ((w_g w 12 0 79) * ((w_a w 12 0 78 (x1).toNatClampNeg).toInt64)) else 1000000) x1 w))))
theorem zt_X13_typeReplicator_p162 {E : zE} {L : Nat} {Q : kx_Rs → wS → Prop} {x1 : Int32} {x3 : Int32} {w : wS} (hL : 24 ≤ L) (h : zb_X13_typeReplicator_p162 E L Q x1 x3 w) : kzE E L kt_M585 162 [(0, .ref (w_adr E.2.1 12 0)), (1, .int x1), (3, .int x3)] [] w Q := by
  unfold zb_X13_typeReplicator_p162 at h
  refine kz_aload_n (M := kt_M585) kX13_typeReplicator_c11.2.2.1 rfl ?_
  refine kz_gfc (M := kt_M585) (x := 4148) (c := 12) (o := 0) kX13_typeReplicator_c11.2.2.2.1 wf_X13_284 (.inl rfl) ?_
  refine kz_iload_n (M := kt_M585) kX13_typeReplicator_c11.2.2.2.2.1 rfl ?_
  refine kz_iload_n (M := kt_M585) kX13_typeReplicator_c11.2.2.2.2.2.1 rfl ?_
  refine kz_if_eq (M := kt_M585) kX13_typeReplicator_c11.2.2.2.2.2.2.1 (t := 201) rfl h (fun h => ?_) (fun h => ?_)
  · skip
    exact kz_weak [(0, .ref (w_adr E.2.1 12 0)), (1, .int x1)] ⟨rfl, ⟨rfl, trivial⟩⟩ rfl (zt_X13_typeReplicator_p201 hL  h)
  · skip
    refine kz_aload_n (M := kt_M585) kX13_typeReplicator_c11.2.2.2.2.2.2.2.1 rfl ?_
    refine kz_gfc (M := kt_M585) (x := 4150) (c := 12) (o := 0) kX13_typeReplicator_c12.1 wf_X13_291 (.inl rfl) ?_
    refine kz_iload_n (M := kt_M585) kX13_typeReplicator_c12.2.1 rfl ?_
    refine kz_iald (M := kt_M585) (c := 12) (o := 0) (k := 78) (a := (E.2.1 4150)) kX13_typeReplicator_c12.2.2.1 ow_12_0_78 oa_12_0_78 ot_0 h (fun h => ?_)
    refine kz_if_le (M := kt_M585) kX13_typeReplicator_c12.2.2.2.1 (t := 201) rfl h (fun h => ?_) (fun h => ?_)
    · skip
      exact kz_weak [(0, .ref (w_adr E.2.1 12 0)), (1, .int x1)] ⟨rfl, ⟨rfl, trivial⟩⟩ rfl (zt_X13_typeReplicator_p201 hL  h)
    · skip
      refine kz_ldc2 (M := kt_M585) (x := 1000000) kX13_typeReplicator_c12.2.2.2.2.1 (zc_X13_942) ?_
      refine kz_aload_n (M := kt_M585) kX13_typeReplicator_c12.2.2.2.2.2.1 rfl ?_
      refine kz_gfg (M := kt_M585) (c := 12) (o := 0) kX13_typeReplicator_c12.2.2.2.2.2.2.1 wf_X13_938 (.inl rfl) ?_
      refine kz_aload_n (M := kt_M585) kX13_typeReplicator_c12.2.2.2.2.2.2.2.1 rfl ?_
      refine kz_gfc (M := kt_M585) (x := 4150) (c := 12) (o := 0) kX13_typeReplicator_c13.1 wf_X13_291 (.inl rfl) ?_
      refine kz_iload_n (M := kt_M585) kX13_typeReplicator_c13.2.1 rfl ?_
      refine kz_iald (M := kt_M585) (c := 12) (o := 0) (k := 78) (a := (E.2.1 4150)) kX13_typeReplicator_c13.2.2.1 ow_12_0_78 oa_12_0_78 ot_0 h (fun h => ?_)
      refine kz_i2l (M := kt_M585) kX13_typeReplicator_c13.2.2.2.1 ?_
      refine kz_lmul (M := kt_M585) kX13_typeReplicator_c13.2.2.2.2.1 ?_
      refine kz_mminL (M := kt_M585) kX13_typeReplicator_c13.2.2.2.2.2.1 zm_l_X13_944 zm_s_minL zm_i zm_c_minL (Nat.le_trans (Nat.le_of_ble_eq_true rfl) hL) (Nat.le_of_ble_eq_true rfl) ?_
      refine kz_goto (M := kt_M585) kX13_typeReplicator_c13.2.2.2.2.2.2.1 (t := 202) rfl ?_
      exact kz_weak [(0, .ref (w_adr E.2.1 12 0)), (1, .int x1)] ⟨rfl, ⟨rfl, trivial⟩⟩ rfl (zt_X13_typeReplicator_p202 hL  h)
def zb_X13_typeReplicator_p150 (E : zE) (L : Nat) (Q : kx_Rs → wS → Prop) (x1 : Int32) (x3 : Int32) (w : wS) : Prop := (kx_inb x1 (w_n w 12 0 27) = true ∧ zw E (L - 22) kt_M560 [.ref (w_adr E.2.1 12 0), .int 9, .int (w_a w 12 0 27 (x1).toNatClampNeg)] w (wk0 (fun w1 => wle w w1 → zb_X13_typeReplicator_p162 E L Q x1 x3 w1) (fun e w => Q (.inr e) w)))
theorem zt_X13_typeReplicator_p150 {E : zE} {L : Nat} {Q : kx_Rs → wS → Prop} {x1 : Int32} {x3 : Int32} {w : wS} (hL : 24 ≤ L) (h : zb_X13_typeReplicator_p150 E L Q x1 x3 w) : kzE E L kt_M585 150 [(0, .ref (w_adr E.2.1 12 0)), (1, .int x1), (3, .int x3)] [] w Q := by
  unfold zb_X13_typeReplicator_p150 at h
  refine kz_aload_n (M := kt_M585) kX13_typeReplicator_c10.2.2.2.1 rfl ?_
  refine kz_bi (M := kt_M585) 9 kX13_typeReplicator_c10.2.2.2.2.1 rfl ?_
  refine kz_aload_n (M := kt_M585) kX13_typeReplicator_c10.2.2.2.2.2.1 rfl ?_
  refine kz_gfc (M := kt_M585) (x := 4099) (c := 12) (o := 0) kX13_typeReplicator_c10.2.2.2.2.2.2.1 wf_X13_190 (.inl rfl) ?_
  refine kz_iload_n (M := kt_M585) kX13_typeReplicator_c10.2.2.2.2.2.2.2.1 rfl ?_
  refine kz_iald (M := kt_M585) (c := 12) (o := 0) (k := 27) (a := (E.2.1 4099)) kX13_typeReplicator_c11.1 ow_12_0_27 oa_12_0_27 ot_0 h (fun h => ?_)
  refine kz_cv0 (M := kt_M585) (c := 12) (o := 0) (As := [.int 9, .int (w_a w 12 0 27 (x1).toNatClampNeg)]) (rest := []) kX13_typeReplicator_c11.2.1 wl_X13_734 wMv_560 rfl (.inl rfl) rfl (Nat.le_trans (Nat.le_of_ble_eq_true rfl) hL) (Nat.le_of_ble_eq_true rfl) (Nat.le_of_ble_eq_true rfl) h (fun w1 hle h => ?_) (fun _ _ _ h => kzx_no rfl h)
  have h := h hle
  exact kz_weak [(0, .ref (w_adr E.2.1 12 0)), (1, .int x1), (3, .int x3)] ⟨rfl, ⟨rfl, ⟨rfl, trivial⟩⟩⟩ rfl (zt_X13_typeReplicator_p162 hL  h)
def zb_X13_typeReplicator_p125 (E : zE) (L : Nat) (Q : kx_Rs → wS → Prop) (x1 : Int32) (x2 : Int32) (x3 : Int32) (y0 : Int32) (y1 : Int32) (w : wS) : Prop := (kx_inb y1 (w_n w 12 0 78) = true ∧ (if x2 = 0 then zb_X13_typeReplicator_p162 E L Q x1 x3 (ws_a w 12 0 78 (y1).toNatClampNeg y0) else (if x3 = 0 then zb_X13_typeReplicator_p150 E L Q x1 x3 (ws_a w 12 0 78 (y1).toNatClampNeg y0) else (if w_i w 12 0 24 < 0 then zb_X13_typeReplicator_p150 E L Q x1 x3 (ws_a w 12 0 78 (y1).toNatClampNeg y0) else (if w_i w 12 0 24 ≤ 64 then zb_X13_typeReplicator_p162 E L Q x1 x3 (ws_a w 12 0 78 (y1).toNatClampNeg y0) else zb_X13_typeReplicator_p150 E L Q x1 x3 (ws_a w 12 0 78 (y1).toNatClampNeg y0))))))
theorem zt_X13_typeReplicator_p125 {E : zE} {L : Nat} {Q : kx_Rs → wS → Prop} {x1 : Int32} {x2 : Int32} {x3 : Int32} {y0 : Int32} {y1 : Int32} {w : wS} (hL : 24 ≤ L) (h : zb_X13_typeReplicator_p125 E L Q x1 x2 x3 y0 y1 w) : kzE E L kt_M585 125 [(0, .ref (w_adr E.2.1 12 0)), (1, .int x1), (2, .int x2), (3, .int x3)] [.int y0, .int y1, .ref (E.2.1 4150)] w Q := by
  unfold zb_X13_typeReplicator_p125 at h
  refine kz_iast (M := kt_M585) (c := 12) (o := 0) (k := 78) (a := (E.2.1 4150)) kX13_typeReplicator_c8.2.2.2.2.2.2.2.1 ow_12_0_78 oa_12_0_78 ot_0 h (fun h => ?_)
  refine kz_iload_n (M := kt_M585) kX13_typeReplicator_c9.1 rfl ?_
  refine kz_if_eq (M := kt_M585) kX13_typeReplicator_c9.2.1 (t := 162) rfl h (fun h => ?_) (fun h => ?_)
  · skip
    exact kz_weak [(0, .ref (w_adr E.2.1 12 0)), (1, .int x1), (3, .int x3)] ⟨rfl, ⟨rfl, ⟨rfl, trivial⟩⟩⟩ rfl (zt_X13_typeReplicator_p162 hL  h)
  · skip
    refine kz_iload_n (M := kt_M585) kX13_typeReplicator_c9.2.2.1 rfl ?_
    refine kz_if_eq (M := kt_M585) kX13_typeReplicator_c9.2.2.2.1 (t := 150) rfl h (fun h => ?_) (fun h => ?_)
    · skip
      exact kz_weak [(0, .ref (w_adr E.2.1 12 0)), (1, .int x1), (3, .int x3)] ⟨rfl, ⟨rfl, ⟨rfl, trivial⟩⟩⟩ rfl (zt_X13_typeReplicator_p150 hL  h)
    · skip
      refine kz_aload_n (M := kt_M585) kX13_typeReplicator_c9.2.2.2.2.1 rfl ?_
      refine kz_gfiR (M := kt_M585) (c := 12) (o := 0) (w_i w 12 0 24) kX13_typeReplicator_c9.2.2.2.2.2.1 wf_X13_493 (.inl rfl) rd_i_a ?_
      refine kz_if_lt (M := kt_M585) kX13_typeReplicator_c9.2.2.2.2.2.2.1 (t := 150) rfl h (fun h => ?_) (fun h => ?_)
      · skip
        exact kz_weak [(0, .ref (w_adr E.2.1 12 0)), (1, .int x1), (3, .int x3)] ⟨rfl, ⟨rfl, ⟨rfl, trivial⟩⟩⟩ rfl (zt_X13_typeReplicator_p150 hL  h)
      · skip
        refine kz_aload_n (M := kt_M585) kX13_typeReplicator_c9.2.2.2.2.2.2.2.1 rfl ?_
        refine kz_gfiR (M := kt_M585) (c := 12) (o := 0) (w_i w 12 0 24) kX13_typeReplicator_c10.1 wf_X13_493 (.inl rfl) rd_i_a ?_
        refine kz_bi (M := kt_M585) 64 kX13_typeReplicator_c10.2.1 rfl ?_
        refine kz_icmp_le (M := kt_M585) kX13_typeReplicator_c10.2.2.1 (t := 162) rfl h (fun h => ?_) (fun h => ?_)
        · skip
          exact kz_weak [(0, .ref (w_adr E.2.1 12 0)), (1, .int x1), (3, .int x3)] ⟨rfl, ⟨rfl, ⟨rfl, trivial⟩⟩⟩ rfl (zt_X13_typeReplicator_p162 hL  h)
        · skip
          exact kz_weak [(0, .ref (w_adr E.2.1 12 0)), (1, .int x1), (3, .int x3)] ⟨rfl, ⟨rfl, ⟨rfl, trivial⟩⟩⟩ rfl (zt_X13_typeReplicator_p150 hL  h)
def zb_X13_typeReplicator_p107 (E : zE) (L : Nat) (Q : kx_Rs → wS → Prop) (x1 : Int32) (x2 : Int32) (y0 : Int32) (w : wS) : Prop := (if y0 = 0 then zb_X13_typeReplicator_p125 E L Q x1 x2 y0 0 x1 w else zb_X13_typeReplicator_p125 E L Q x1 x2 y0 (w_i w 12 0 24) x1 w)
theorem zt_X13_typeReplicator_p107 {E : zE} {L : Nat} {Q : kx_Rs → wS → Prop} {x1 : Int32} {x2 : Int32} {y0 : Int32} {w : wS} (hL : 24 ≤ L) (h : zb_X13_typeReplicator_p107 E L Q x1 x2 y0 w) : kzE E L kt_M585 107 [(0, .ref (w_adr E.2.1 12 0)), (1, .int x1), (2, .int x2)] [.int y0] w Q := by
  unfold zb_X13_typeReplicator_p107 at h
  refine kz_sti_n (M := kt_M585) [(0, .ref (w_adr E.2.1 12 0)), (1, .int x1), (2, .int x2)] kX13_typeReplicator_c7.2.2.2.2.2.1 (Nat.le_of_ble_eq_true rfl) ⟨⟨rfl, rfl, .inl rfl⟩, ⟨⟨rfl, rfl, .inl rfl⟩, ⟨⟨rfl, rfl, .inr rfl⟩, trivial⟩⟩⟩ rfl ?_
  refine kz_aload_n (M := kt_M585) kX13_typeReplicator_c7.2.2.2.2.2.2.1 rfl ?_
  refine kz_gfc (M := kt_M585) (x := 4150) (c := 12) (o := 0) kX13_typeReplicator_c7.2.2.2.2.2.2.2.1 wf_X13_291 (.inl rfl) ?_
  refine kz_iload_n (M := kt_M585) kX13_typeReplicator_c8.1 rfl ?_
  refine kz_iload_n (M := kt_M585) kX13_typeReplicator_c8.2.1 rfl ?_
  refine kz_if_eq (M := kt_M585) kX13_typeReplicator_c8.2.2.1 (t := 124) rfl h (fun h => ?_) (fun h => ?_)
  · skip
    refine kz_ic (M := kt_M585) 0 kX13_typeReplicator_c8.2.2.2.2.2.2.1 rfl ?_
    exact kz_weak [(0, .ref (w_adr E.2.1 12 0)), (1, .int x1), (2, .int x2), (3, .int y0)] ⟨rfl, ⟨rfl, ⟨rfl, ⟨rfl, trivial⟩⟩⟩⟩ rfl (zt_X13_typeReplicator_p125 hL  h)
  · skip
    refine kz_aload_n (M := kt_M585) kX13_typeReplicator_c8.2.2.2.1 rfl ?_
    refine kz_gfi (M := kt_M585) (c := 12) (o := 0) kX13_typeReplicator_c8.2.2.2.2.1 wf_X13_493 (.inl rfl) ?_
    refine kz_goto (M := kt_M585) kX13_typeReplicator_c8.2.2.2.2.2.1 (t := 125) rfl ?_
    exact kz_weak [(0, .ref (w_adr E.2.1 12 0)), (1, .int x1), (2, .int x2), (3, .int y0)] ⟨rfl, ⟨rfl, ⟨rfl, ⟨rfl, trivial⟩⟩⟩⟩ rfl (zt_X13_typeReplicator_p125 hL  h)
def zb_X13_typeReplicator_p106 (E : zE) (L : Nat) (Q : kx_Rs → wS → Prop) (x1 : Int32) (x2 : Int32) (w : wS) : Prop := zb_X13_typeReplicator_p107 E L Q x1 x2 0 w
theorem zt_X13_typeReplicator_p106 {E : zE} {L : Nat} {Q : kx_Rs → wS → Prop} {x1 : Int32} {x2 : Int32} {w : wS} (hL : 24 ≤ L) (h : zb_X13_typeReplicator_p106 E L Q x1 x2 w) : kzE E L kt_M585 106 [(0, .ref (w_adr E.2.1 12 0)), (1, .int x1), (2, .int x2)] [] w Q := by
  unfold zb_X13_typeReplicator_p106 at h
  refine kz_ic (M := kt_M585) 0 kX13_typeReplicator_c7.2.2.2.2.1 rfl ?_
  exact kz_weak [(0, .ref (w_adr E.2.1 12 0)), (1, .int x1), (2, .int x2)] ⟨rfl, ⟨rfl, ⟨rfl, trivial⟩⟩⟩ rfl (zt_X13_typeReplicator_p107 hL  h)
def zb_X13_typeReplicator_p84 (E : zE) (L : Nat) (Q : kx_Rs → wS → Prop) (x1 : Int32) (x2 : Int32) (x3 : Int32) (y0 : Int32) (y1 : Int32) (w : wS) : Prop := (kx_inb y1 (w_n w 12 0 77) = true ∧ (if x3 = 0 then zb_X13_typeReplicator_p106 E L Q x1 x2 (ws_a w 12 0 77 (y1).toNatClampNeg y0) else (kx_inb x1 (w_n w 12 0 29) = true ∧ zw E (L - 23) kt_M428 [.ref (w_adr E.2.1 12 0), .int (w_a w 12 0 29 (x1).toNatClampNeg)] (ws_a w 12 0 77 (y1).toNatClampNeg y0) (wk1 (fun v2 w1 => wle (ws_a w 12 0 77 (y1).toNatClampNeg y0) w1 → (if v2 = 0 then zb_X13_typeReplicator_p106 E L Q x1 x2 w1 else zb_X13_typeReplicator_p107 E L Q x1 x2 1 w1)) (fun e w => Q (.inr e) w)))))
theorem zt_X13_typeReplicator_p84 {E : zE} {L : Nat} {Q : kx_Rs → wS → Prop} {x1 : Int32} {x2 : Int32} {x3 : Int32} {y0 : Int32} {y1 : Int32} {w : wS} (hL : 24 ≤ L) (h : zb_X13_typeReplicator_p84 E L Q x1 x2 x3 y0 y1 w) : kzE E L kt_M585 84 [(0, .ref (w_adr E.2.1 12 0)), (1, .int x1), (2, .int x2), (3, .int x3)] [.int y0, .int y1, .ref (E.2.1 4149)] w Q := by
  unfold zb_X13_typeReplicator_p84 at h
  refine kz_iast (M := kt_M585) (c := 12) (o := 0) (k := 77) (a := (E.2.1 4149)) kX13_typeReplicator_c6.1 ow_12_0_77 oa_12_0_77 ot_0 h (fun h => ?_)
  refine kz_iload_n (M := kt_M585) kX13_typeReplicator_c6.2.1 rfl ?_
  refine kz_if_eq (M := kt_M585) kX13_typeReplicator_c6.2.2.1 (t := 106) rfl h (fun h => ?_) (fun h => ?_)
  · skip
    exact kz_weak [(0, .ref (w_adr E.2.1 12 0)), (1, .int x1), (2, .int x2)] ⟨rfl, ⟨rfl, ⟨rfl, trivial⟩⟩⟩ rfl (zt_X13_typeReplicator_p106 hL  h)
  · skip
    refine kz_aload_n (M := kt_M585) kX13_typeReplicator_c6.2.2.2.1 rfl ?_
    refine kz_aload_n (M := kt_M585) kX13_typeReplicator_c6.2.2.2.2.1 rfl ?_
    refine kz_gfc (M := kt_M585) (x := 4101) (c := 12) (o := 0) kX13_typeReplicator_c6.2.2.2.2.2.1 wf_X13_196 (.inl rfl) ?_
    refine kz_iload_n (M := kt_M585) kX13_typeReplicator_c6.2.2.2.2.2.2.1 rfl ?_
    refine kz_ialdR (M := kt_M585) (n := w_n w 12 0 29) (c := 12) (o := 0) (k := 29) (a := (E.2.1 4101)) (w_a w 12 0 29 (x1).toNatClampNeg) kX13_typeReplicator_c6.2.2.2.2.2.2.2.1 ow_12_0_29 oa_12_0_29 ot_0 rd_n_a (rd_a_a rfl) h (fun h => ?_)
    refine kz_cv1 (M := kt_M585) (c := 12) (o := 0) (As := [.int (w_a w 12 0 29 (x1).toNatClampNeg)]) (rest := []) kX13_typeReplicator_c7.1 wl_X13_846 wMv_428 rfl (.inl rfl) rfl (Nat.le_trans (Nat.le_of_ble_eq_true rfl) hL) (Nat.le_of_ble_eq_true rfl) (Nat.le_of_ble_eq_true rfl) h (fun v2 w1 hle h => ?_) (fun _ _ _ h => kzx_no rfl h)
    have h := h hle
    refine kz_if_eq (M := kt_M585) kX13_typeReplicator_c7.2.1 (t := 106) rfl h (fun h => ?_) (fun h => ?_)
    · skip
      exact kz_weak [(0, .ref (w_adr E.2.1 12 0)), (1, .int x1), (2, .int x2)] ⟨rfl, ⟨rfl, ⟨rfl, trivial⟩⟩⟩ rfl (zt_X13_typeReplicator_p106 hL  h)
    · skip
      refine kz_ic (M := kt_M585) 1 kX13_typeReplicator_c7.2.2.1 rfl ?_
      refine kz_goto (M := kt_M585) kX13_typeReplicator_c7.2.2.2.1 (t := 107) rfl ?_
      exact kz_weak [(0, .ref (w_adr E.2.1 12 0)), (1, .int x1), (2, .int x2)] ⟨rfl, ⟨rfl, ⟨rfl, trivial⟩⟩⟩ rfl (zt_X13_typeReplicator_p107 hL  h)
def zb_X13_typeReplicator_p66 (E : zE) (L : Nat) (Q : kx_Rs → wS → Prop) (x1 : Int32) (x2 : Int32) (y0 : Int32) (w : wS) : Prop := (if y0 = 0 then zb_X13_typeReplicator_p84 E L Q x1 x2 y0 0 x1 w else zb_X13_typeReplicator_p84 E L Q x1 x2 y0 (w_i w 12 0 24) x1 w)
theorem zt_X13_typeReplicator_p66 {E : zE} {L : Nat} {Q : kx_Rs → wS → Prop} {x1 : Int32} {x2 : Int32} {y0 : Int32} {w : wS} (hL : 24 ≤ L) (h : zb_X13_typeReplicator_p66 E L Q x1 x2 y0 w) : kzE E L kt_M585 66 [(0, .ref (w_adr E.2.1 12 0)), (1, .int x1), (2, .int x2)] [.int y0] w Q := by
  unfold zb_X13_typeReplicator_p66 at h
  refine kz_sti_n (M := kt_M585) [(0, .ref (w_adr E.2.1 12 0)), (1, .int x1), (2, .int x2)] kX13_typeReplicator_c4.2.2.2.2.2.2.1 (Nat.le_of_ble_eq_true rfl) ⟨⟨rfl, rfl, .inl rfl⟩, ⟨⟨rfl, rfl, .inl rfl⟩, ⟨⟨rfl, rfl, .inr rfl⟩, trivial⟩⟩⟩ rfl ?_
  refine kz_aload_n (M := kt_M585) kX13_typeReplicator_c4.2.2.2.2.2.2.2.1 rfl ?_
  refine kz_gfc (M := kt_M585) (x := 4149) (c := 12) (o := 0) kX13_typeReplicator_c5.1 wf_X13_288 (.inl rfl) ?_
  refine kz_iload_n (M := kt_M585) kX13_typeReplicator_c5.2.1 rfl ?_
  refine kz_iload_n (M := kt_M585) kX13_typeReplicator_c5.2.2.1 rfl ?_
  refine kz_if_eq (M := kt_M585) kX13_typeReplicator_c5.2.2.2.1 (t := 83) rfl h (fun h => ?_) (fun h => ?_)
  · skip
    refine kz_ic (M := kt_M585) 0 kX13_typeReplicator_c5.2.2.2.2.2.2.2.1 rfl ?_
    exact kz_weak [(0, .ref (w_adr E.2.1 12 0)), (1, .int x1), (2, .int x2), (3, .int y0)] ⟨rfl, ⟨rfl, ⟨rfl, ⟨rfl, trivial⟩⟩⟩⟩ rfl (zt_X13_typeReplicator_p84 hL  h)
  · skip
    refine kz_aload_n (M := kt_M585) kX13_typeReplicator_c5.2.2.2.2.1 rfl ?_
    refine kz_gfi (M := kt_M585) (c := 12) (o := 0) kX13_typeReplicator_c5.2.2.2.2.2.1 wf_X13_493 (.inl rfl) ?_
    refine kz_goto (M := kt_M585) kX13_typeReplicator_c5.2.2.2.2.2.2.1 (t := 84) rfl ?_
    exact kz_weak [(0, .ref (w_adr E.2.1 12 0)), (1, .int x1), (2, .int x2), (3, .int y0)] ⟨rfl, ⟨rfl, ⟨rfl, ⟨rfl, trivial⟩⟩⟩⟩ rfl (zt_X13_typeReplicator_p84 hL  h)
def zb_X13_typeReplicator_p65 (E : zE) (L : Nat) (Q : kx_Rs → wS → Prop) (x1 : Int32) (x2 : Int32) (w : wS) : Prop := zb_X13_typeReplicator_p66 E L Q x1 x2 0 w
theorem zt_X13_typeReplicator_p65 {E : zE} {L : Nat} {Q : kx_Rs → wS → Prop} {x1 : Int32} {x2 : Int32} {w : wS} (hL : 24 ≤ L) (h : zb_X13_typeReplicator_p65 E L Q x1 x2 w) : kzE E L kt_M585 65 [(0, .ref (w_adr E.2.1 12 0)), (1, .int x1), (2, .int x2)] [] w Q := by
  unfold zb_X13_typeReplicator_p65 at h
  refine kz_ic (M := kt_M585) 0 kX13_typeReplicator_c4.2.2.2.2.2.1 rfl ?_
  exact kz_weak [(0, .ref (w_adr E.2.1 12 0)), (1, .int x1), (2, .int x2)] ⟨rfl, ⟨rfl, ⟨rfl, trivial⟩⟩⟩ rfl (zt_X13_typeReplicator_p66 hL  h)
def zb_X13_typeReplicator_p0 (E : zE) (L : Nat) (Q : kx_Rs → wS → Prop) (x1 : Int32) (x2 : Int32) (w : wS) : Prop := (kx_inb x1 (w_n w 12 0 28) = true ∧ zw E (L - 23) kt_M602 [.ref (w_adr E.2.1 12 0), .int (w_a w 12 0 28 (x1).toNatClampNeg), .int 0] w (wk0 (fun w1 => wle w w1 → (kx_inb x1 (w_n w1 12 0 29) = true ∧ zw E (L - 23) kt_M602 [.ref (w_adr E.2.1 12 0), .int (w_a w1 12 0 29 (x1).toNatClampNeg), .int 0] w1 (wk0 (fun w3 => wle w1 w3 → (kx_inb x1 (w_n w3 12 0 28) = true ∧ zw E (L - 23) kt_M440 [.ref (w_adr E.2.1 12 0), .int (w_a w3 12 0 28 (x1).toNatClampNeg)] w3 (wk1 (fun v6 w5 => wle w3 w5 → (if v6 = 0 then zb_X13_typeReplicator_p65 E L Q x1 x2 w5 else (kx_inb x1 (w_n w5 12 0 29) = true ∧ zw E (L - 23) kt_M440 [.ref (w_adr E.2.1 12 0), .int (w_a w5 12 0 29 (x1).toNatClampNeg)] w5 (wk1 (fun v8 w7 => wle w5 w7 → (if v8 = 0 then zb_X13_typeReplicator_p65 E L Q x1 x2 w7 else (kx_inb x1 (w_n w7 12 0 28) = true ∧ zw E (L - 23) kt_M428 [.ref (w_adr E.2.1 12 0), .int (w_a w7 12 0 28 (x1).toNatClampNeg)] w7 (wk1 (fun v10 w9 => wle w7 w9 → (if v10 = 0 then zb_X13_typeReplicator_p65 E L Q x1 x2 w9 else zb_X13_typeReplicator_p66 E L Q x1 x2 1 w9)) (fun e w => Q (.inr e) w))))) (fun e w => Q (.inr e) w))))) (fun e w => Q (.inr e) w)))) (fun e w => Q (.inr e) w)))) (fun e w => Q (.inr e) w)))
theorem zt_X13_typeReplicator_p0 {E : zE} {L : Nat} {Q : kx_Rs → wS → Prop} {x1 : Int32} {x2 : Int32} {w : wS} (hL : 24 ≤ L) (h : zb_X13_typeReplicator_p0 E L Q x1 x2 w) : kzE E L kt_M585 0 [(0, .ref (w_adr E.2.1 12 0)), (1, .int x1), (2, .int x2)] [] w Q := by
  unfold zb_X13_typeReplicator_p0 at h
  refine kz_aload_n (M := kt_M585) kX13_typeReplicator_c0.1 rfl ?_
  refine kz_aload_n (M := kt_M585) kX13_typeReplicator_c0.2.1 rfl ?_
  refine kz_gfc (M := kt_M585) (x := 4100) (c := 12) (o := 0) kX13_typeReplicator_c0.2.2.1 wf_X13_193 (.inl rfl) ?_
  refine kz_iload_n (M := kt_M585) kX13_typeReplicator_c0.2.2.2.1 rfl ?_
  refine kz_iald (M := kt_M585) (c := 12) (o := 0) (k := 28) (a := (E.2.1 4100)) kX13_typeReplicator_c0.2.2.2.2.1 ow_12_0_28 oa_12_0_28 ot_0 h (fun h => ?_)
  refine kz_ic (M := kt_M585) 0 kX13_typeReplicator_c0.2.2.2.2.2.1 rfl ?_
  refine kz_cv0 (M := kt_M585) (c := 12) (o := 0) (As := [.int (w_a w 12 0 28 (x1).toNatClampNeg), .int 0]) (rest := []) kX13_typeReplicator_c0.2.2.2.2.2.2.1 wl_X13_880 wMv_602 rfl (.inl rfl) rfl (Nat.le_trans (Nat.le_of_ble_eq_true rfl) hL) (Nat.le_of_ble_eq_true rfl) (Nat.le_of_ble_eq_true rfl) h (fun w1 hle h => ?_) (fun _ _ _ h => kzx_no rfl h)
  have h := h hle
  refine kz_aload_n (M := kt_M585) kX13_typeReplicator_c0.2.2.2.2.2.2.2.1 rfl ?_
  refine kz_aload_n (M := kt_M585) kX13_typeReplicator_c1.1 rfl ?_
  refine kz_gfc (M := kt_M585) (x := 4101) (c := 12) (o := 0) kX13_typeReplicator_c1.2.1 wf_X13_196 (.inl rfl) ?_
  refine kz_iload_n (M := kt_M585) kX13_typeReplicator_c1.2.2.1 rfl ?_
  refine kz_iald (M := kt_M585) (c := 12) (o := 0) (k := 29) (a := (E.2.1 4101)) kX13_typeReplicator_c1.2.2.2.1 ow_12_0_29 oa_12_0_29 ot_0 h (fun h => ?_)
  refine kz_ic (M := kt_M585) 0 kX13_typeReplicator_c1.2.2.2.2.1 rfl ?_
  refine kz_cv0 (M := kt_M585) (c := 12) (o := 0) (As := [.int (w_a w1 12 0 29 (x1).toNatClampNeg), .int 0]) (rest := []) kX13_typeReplicator_c1.2.2.2.2.2.1 wl_X13_880 wMv_602 rfl (.inl rfl) rfl (Nat.le_trans (Nat.le_of_ble_eq_true rfl) hL) (Nat.le_of_ble_eq_true rfl) (Nat.le_of_ble_eq_true rfl) h (fun w3 hle h => ?_) (fun _ _ _ h => kzx_no rfl h)
  have h := h hle
  refine kz_aload_n (M := kt_M585) kX13_typeReplicator_c1.2.2.2.2.2.2.1 rfl ?_
  refine kz_aload_n (M := kt_M585) kX13_typeReplicator_c1.2.2.2.2.2.2.2.1 rfl ?_
  refine kz_gfc (M := kt_M585) (x := 4100) (c := 12) (o := 0) kX13_typeReplicator_c2.1 wf_X13_193 (.inl rfl) ?_
  refine kz_iload_n (M := kt_M585) kX13_typeReplicator_c2.2.1 rfl ?_
  refine kz_iald (M := kt_M585) (c := 12) (o := 0) (k := 28) (a := (E.2.1 4100)) kX13_typeReplicator_c2.2.2.1 ow_12_0_28 oa_12_0_28 ot_0 h (fun h => ?_)
  refine kz_cv1 (M := kt_M585) (c := 12) (o := 0) (As := [.int (w_a w3 12 0 28 (x1).toNatClampNeg)]) (rest := []) kX13_typeReplicator_c2.2.2.2.1 wl_X13_816 wMv_440 rfl (.inl rfl) rfl (Nat.le_trans (Nat.le_of_ble_eq_true rfl) hL) (Nat.le_of_ble_eq_true rfl) (Nat.le_of_ble_eq_true rfl) h (fun v6 w5 hle h => ?_) (fun _ _ _ h => kzx_no rfl h)
  have h := h hle
  refine kz_if_eq (M := kt_M585) kX13_typeReplicator_c2.2.2.2.2.1 (t := 65) rfl h (fun h => ?_) (fun h => ?_)
  · skip
    exact kz_weak [(0, .ref (w_adr E.2.1 12 0)), (1, .int x1), (2, .int x2)] ⟨rfl, ⟨rfl, ⟨rfl, trivial⟩⟩⟩ rfl (zt_X13_typeReplicator_p65 hL  h)
  · skip
    refine kz_aload_n (M := kt_M585) kX13_typeReplicator_c2.2.2.2.2.2.1 rfl ?_
    refine kz_aload_n (M := kt_M585) kX13_typeReplicator_c2.2.2.2.2.2.2.1 rfl ?_
    refine kz_gfc (M := kt_M585) (x := 4101) (c := 12) (o := 0) kX13_typeReplicator_c2.2.2.2.2.2.2.2.1 wf_X13_196 (.inl rfl) ?_
    refine kz_iload_n (M := kt_M585) kX13_typeReplicator_c3.1 rfl ?_
    refine kz_iald (M := kt_M585) (c := 12) (o := 0) (k := 29) (a := (E.2.1 4101)) kX13_typeReplicator_c3.2.1 ow_12_0_29 oa_12_0_29 ot_0 h (fun h => ?_)
    refine kz_cv1 (M := kt_M585) (c := 12) (o := 0) (As := [.int (w_a w5 12 0 29 (x1).toNatClampNeg)]) (rest := []) kX13_typeReplicator_c3.2.2.1 wl_X13_816 wMv_440 rfl (.inl rfl) rfl (Nat.le_trans (Nat.le_of_ble_eq_true rfl) hL) (Nat.le_of_ble_eq_true rfl) (Nat.le_of_ble_eq_true rfl) h (fun v8 w7 hle h => ?_) (fun _ _ _ h => kzx_no rfl h)
    have h := h hle
    refine kz_if_eq (M := kt_M585) kX13_typeReplicator_c3.2.2.2.1 (t := 65) rfl h (fun h => ?_) (fun h => ?_)
    · skip
      exact kz_weak [(0, .ref (w_adr E.2.1 12 0)), (1, .int x1), (2, .int x2)] ⟨rfl, ⟨rfl, ⟨rfl, trivial⟩⟩⟩ rfl (zt_X13_typeReplicator_p65 hL  h)
    · skip
      refine kz_aload_n (M := kt_M585) kX13_typeReplicator_c3.2.2.2.2.1 rfl ?_
      refine kz_aload_n (M := kt_M585) kX13_typeReplicator_c3.2.2.2.2.2.1 rfl ?_
      refine kz_gfc (M := kt_M585) (x := 4100) (c := 12) (o := 0) kX13_typeReplicator_c3.2.2.2.2.2.2.1 wf_X13_193 (.inl rfl) ?_
      refine kz_iload_n (M := kt_M585) kX13_typeReplicator_c3.2.2.2.2.2.2.2.1 rfl ?_
      refine kz_iald (M := kt_M585) (c := 12) (o := 0) (k := 28) (a := (E.2.1 4100)) kX13_typeReplicator_c4.1 ow_12_0_28 oa_12_0_28 ot_0 h (fun h => ?_)
      refine kz_cv1 (M := kt_M585) (c := 12) (o := 0) (As := [.int (w_a w7 12 0 28 (x1).toNatClampNeg)]) (rest := []) kX13_typeReplicator_c4.2.1 wl_X13_846 wMv_428 rfl (.inl rfl) rfl (Nat.le_trans (Nat.le_of_ble_eq_true rfl) hL) (Nat.le_of_ble_eq_true rfl) (Nat.le_of_ble_eq_true rfl) h (fun v10 w9 hle h => ?_) (fun _ _ _ h => kzx_no rfl h)
      have h := h hle
      refine kz_if_eq (M := kt_M585) kX13_typeReplicator_c4.2.2.1 (t := 65) rfl h (fun h => ?_) (fun h => ?_)
      · skip
        exact kz_weak [(0, .ref (w_adr E.2.1 12 0)), (1, .int x1), (2, .int x2)] ⟨rfl, ⟨rfl, ⟨rfl, trivial⟩⟩⟩ rfl (zt_X13_typeReplicator_p65 hL  h)
      · skip
        refine kz_ic (M := kt_M585) 1 kX13_typeReplicator_c4.2.2.2.1 rfl ?_
        refine kz_goto (M := kt_M585) kX13_typeReplicator_c4.2.2.2.2.1 (t := 66) rfl ?_
        exact kz_weak [(0, .ref (w_adr E.2.1 12 0)), (1, .int x1), (2, .int x2)] ⟨rfl, ⟨rfl, ⟨rfl, trivial⟩⟩⟩ rfl (zt_X13_typeReplicator_p66 hL  h)
