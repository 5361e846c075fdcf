/-! ===== methods over the typed state (printed by tools/gen_lift.py) ===== -/
set_option maxRecDepth 100000
theorem zs_X8_180 {E : zE} : ∃ r n d, kx_fl (zV E) "MeetingHouse$Uses" 180 = some (r, n, d) ∧ kx_sv (zV E) r n d = some (va_rf (some (E.1.1 37))) := ⟨_, _, _, (show kt_get kt_flA "MeetingHouse$Uses" 180 = some ("MeetingHouse$Kind", "OUTPUT", "LMeetingHouse$Kind;") from by decide +kernel), kx_sv_E.trans (kw_sv_en zen_37)⟩
theorem zs_X8_186 {E : zE} : ∃ r n d, kx_fl (zV E) "MeetingHouse$Uses" 186 = some (r, n, d) ∧ kx_sv (zV E) r n d = some (va_rf (some (E.1.1 39))) := ⟨_, _, _, (show kt_get kt_flA "MeetingHouse$Uses" 186 = some ("MeetingHouse$Kind", "CASE_INPUT", "LMeetingHouse$Kind;") from by decide +kernel), kx_sv_E.trans (kw_sv_en zen_39)⟩
theorem zs_X8_189 {E : zE} : ∃ r n d, kx_fl (zV E) "MeetingHouse$Uses" 189 = some (r, n, d) ∧ kx_sv (zV E) r n d = some (va_rf (some (E.1.1 51))) := ⟨_, _, _, (show kt_get kt_flA "MeetingHouse$Uses" 189 = some ("MeetingHouse$Kind", "ALT", "LMeetingHouse$Kind;") from by decide +kernel), kx_sv_E.trans (kw_sv_en zen_51)⟩
theorem zs_X8_252 {E : zE} : ∃ r n d, kx_fl (zV E) "MeetingHouse$Uses" 252 = some (r, n, d) ∧ kx_sv (zV E) r n d = some (va_rf (some (E.1.1 53))) := ⟨_, _, _, (show kt_get kt_flA "MeetingHouse$Uses" 252 = some ("MeetingHouse$What", "CHANNEL", "LMeetingHouse$What;") from by decide +kernel), kx_sv_E.trans (kw_sv_en zen_53)⟩
theorem wq_X8_11 {adE adK adV : Nat → Nat} {zr : Nat → Value} {b L0 : Nat} {xs : Nat → Int32} {lo : Nat} : wP (kw_V adE adK adV zr b L0 xs lo) wG "MeetingHouse$Uses" 11 7 2 3 (.array (.object "MeetingHouse$Symbol")) := wPb_ok (by decide +kernel) wf_X8_11 (r := "MeetingHouse$Uses") (n := "symbols") (d := "[LMeetingHouse$Symbol;") (by decide +kernel) (by decide +kernel)
theorem wq_X8_17 {adE adK adV : Nat → Nat} {zr : Nat → Value} {b L0 : Nat} {xs : Nat → Int32} {lo : Nat} : wP (kw_V adE adK adV zr b L0 xs lo) wG "MeetingHouse$Uses" 17 7 3 3 (.array .int) := wPb_ok (by decide +kernel) wf_X8_17 (r := "MeetingHouse$Uses") (n := "bits") (d := "[I") (by decide +kernel) (by decide +kernel)
theorem wq_X8_272 {adE adK adV : Nat → Nat} {zr : Nat → Value} {b L0 : Nat} {xs : Nat → Int32} {lo : Nat} : wP (kw_V adE adK adV zr b L0 xs lo) wG "MeetingHouse$Uses" 272 15 26 0 .boolean := wPb_ok (by decide +kernel) wf_X8_272 (r := "MeetingHouse$Symbol") (n := "fixed") (d := "Z") (by decide +kernel) (by decide +kernel)
def zL_X8_changes_p2 (E : zE) (L : Nat) (Q : kx_Rs → wS → Prop) (x2 : Option Nat) (w : wS) : Prop := kzE E L kt_M305 2 [(0, .ref (w_adr E.2.1 7 0)), (2, va_rf (x2))] [] w Q
def zb_X8_changes_p2 (E : zE) (L : Nat) (Q : kx_Rs → wS → Prop) (x2 : Option Nat) (w : wS) : Prop := (if x2 = none then Q (.inl none) w else zw E (L - 22) kt_M307 [.ref (w_adr E.2.1 7 0), va_rf (x2), .int 2] w (wk0 (fun w1 => wle w w1 → (∃ p3, x2 = some p3 ∧ w_l w1 E.2.1 14 p3 ∧ zL_X8_changes_p2 E L Q (w_p w1 14 p3 7) w1)) (fun e w => Q (.inr e) w)))
theorem zt_X8_changes_p2 {E : zE} {L : Nat} {Q : kx_Rs → wS → Prop} {x2 : Option Nat} {w : wS} (hL : 22 ≤ L) (h : zb_X8_changes_p2 E L Q x2 w) : kzE E L kt_M305 2 [(0, .ref (w_adr E.2.1 7 0)), (2, va_rf (x2))] [] w Q := by
  unfold zb_X8_changes_p2 at h
  refine kz_aload_nv (M := kt_M305) (x := x2) kX8_changes_c0.2.2.1 rfl ?_
  refine kz_ifnull (M := kt_M305) (x := x2) kX8_changes_c0.2.2.2.1 (t := 20) rfl h (fun h => ?_) (fun h => ?_)
  · skip
    exact kz_ret (M := kt_M305) kX8_changes_c1.2.2.2.2.1 rfl h
  · skip
    refine kz_aload_n (M := kt_M305) kX8_changes_c0.2.2.2.2.1 rfl ?_
    refine kz_aload_nv (M := kt_M305) (x := x2) kX8_changes_c0.2.2.2.2.2.1 rfl ?_
    refine kz_ic (M := kt_M305) 2 kX8_changes_c0.2.2.2.2.2.2.1 rfl ?_
    refine kz_cv0 (M := kt_M305) (c := 7) (o := 0) (As := [va_rf (x2), .int 2]) (rest := []) kX8_changes_c0.2.2.2.2.2.2.2.1 wl_X8_310 wMv_307 rfl (.inl rfl) rfl (Nat.le_trans (Nat.le_of_ble_eq_true rfl) hL) (by simp [lg_sl, w_cat, z_ci, z_cr, z_cl, z_cn, kt_M307]) (Nat.le_of_ble_eq_true rfl) h (fun w1 hle h => ?_) (fun _ _ _ h => kzx_no rfl h)
    have h := h hle
    refine kz_aload_nv (M := kt_M305) (x := x2) kX8_changes_c1.1 rfl ?_
    obtain ⟨p3, hxp3, hlp3, h⟩ := h
    refine kz_nz0 (x := x2) hxp3 ?_
    refine kz_gfp (M := kt_M305) (c := 14) (o := p3) kX8_changes_c1.2.1 wf_X8_67 (.inr (by exact hlp3)) ?_
    refine kz_stv_n (M := kt_M305) (x := w_p w1 14 p3 7) [(0, .ref (w_adr E.2.1 7 0))] kX8_changes_c1.2.2.1 (Nat.le_of_ble_eq_true rfl) ⟨⟨rfl, rfl, .inl rfl⟩, trivial⟩ rfl ?_
    refine kz_goto (M := kt_M305) kX8_changes_c1.2.2.2.1 (t := 2) rfl ?_
    exact kz_weak [(0, .ref (w_adr E.2.1 7 0)), (2, va_rf (w_p w1 14 p3 7))] ⟨rfl, ⟨rfl, trivial⟩⟩ rfl h
def zb_X8_changes_p0 (E : zE) (L : Nat) (Q : kx_Rs → wS → Prop) (x1 : Option Nat) (w : wS) : Prop := zL_X8_changes_p2 E L Q x1 w
theorem zt_X8_changes_p0 {E : zE} {L : Nat} {Q : kx_Rs → wS → Prop} {x1 : Option Nat} {w : wS} (hL : 22 ≤ L) (h : zb_X8_changes_p0 E L Q x1 w) : kzE E L kt_M305 0 [(0, .ref (w_adr E.2.1 7 0)), (1, va_rf (x1))] [] w Q := by
  unfold zb_X8_changes_p0 at h
  refine kz_aload_nv (M := kt_M305) (x := x1) kX8_changes_c0.1 rfl ?_
  refine kz_stv_n (M := kt_M305) (x := x1) [(0, .ref (w_adr E.2.1 7 0))] kX8_changes_c0.2.1 (Nat.le_of_ble_eq_true rfl) ⟨⟨rfl, rfl, .inl rfl⟩, trivial⟩ rfl ?_
  exact kz_weak [(0, .ref (w_adr E.2.1 7 0)), (2, va_rf (x1))] ⟨rfl, ⟨rfl, trivial⟩⟩ rfl h
def zL_X8_input_p67 (E : zE) (L : Nat) (Q : kx_Rs → wS → Prop) (x3 : Option Nat) (w : wS) : Prop := kzE E L kt_M314 67 [(0, .ref (w_adr E.2.1 7 0)), (3, va_rf (x3))] [] w Q
def zb_X8_input_p95 (E : zE) (L : Nat) (Q : kx_Rs → wS → Prop) (w : wS) : Prop := Q (.inl none) w
theorem zt_X8_input_p95 {E : zE} {L : Nat} {Q : kx_Rs → wS → Prop} {w : wS} (hL : 22 ≤ L) (h : zb_X8_input_p95 E L Q  w) : kzE E L kt_M314 95 [(0, .ref (w_adr E.2.1 7 0))] [] w Q := by
  unfold zb_X8_input_p95 at h
  exact kz_ret (M := kt_M314) kX8_input_c5.2.2.2.2.2.2.2.1 rfl h
def zb_X8_input_p67 (E : zE) (L : Nat) (Q : kx_Rs → wS → Prop) (x3 : Option Nat) (w : wS) : Prop := (if x3 = none then zb_X8_input_p95 E L Q w else (∃ p1, x3 = some p1 ∧ w_l w E.2.1 14 p1 ∧ zw E (L - 22) kt_M305 [.ref (w_adr E.2.1 7 0), va_rf (w_p w 14 p1 4)] w (wk0 (fun w2 => wle w w2 → zw E (L - 22) kt_M321 [.ref (w_adr E.2.1 7 0), va_rf (w_p w2 14 p1 6)] w2 (wk0 (fun w4 => wle w2 w4 → zL_X8_input_p67 E L Q (w_p w4 14 p1 7) w4) (fun e w => Q (.inr e) w))) (fun e w => Q (.inr e) w))))
theorem zt_X8_input_p67 {E : zE} {L : Nat} {Q : kx_Rs → wS → Prop} {x3 : Option Nat} {w : wS} (hL : 22 ≤ L) (h : zb_X8_input_p67 E L Q x3 w) : kzE E L kt_M314 67 [(0, .ref (w_adr E.2.1 7 0)), (3, va_rf (x3))] [] w Q := by
  unfold zb_X8_input_p67 at h
  refine kz_aload_nv (M := kt_M314) (x := x3) kX8_input_c4.2.1 rfl ?_
  refine kz_ifnull (M := kt_M314) (x := x3) kX8_input_c4.2.2.1 (t := 95) rfl h (fun h => ?_) (fun h => ?_)
  · skip
    exact kz_weak [(0, .ref (w_adr E.2.1 7 0))] ⟨rfl, trivial⟩ rfl (zt_X8_input_p95 hL  h)
  · skip
    refine kz_aload_n (M := kt_M314) kX8_input_c4.2.2.2.1 rfl ?_
    refine kz_aload_nv (M := kt_M314) (x := x3) kX8_input_c4.2.2.2.2.1 rfl ?_
    obtain ⟨p1, hxp1, hlp1, h⟩ := h
    refine kz_nz0 (x := x3) hxp1 ?_
    refine kz_gfp (M := kt_M314) (c := 14) (o := p1) kX8_input_c4.2.2.2.2.2.1 wf_X8_70 (.inr (by exact hlp1)) ?_
    refine kz_cv0 (M := kt_M314) (c := 7) (o := 0) (As := [va_rf (w_p w 14 p1 4)]) (rest := []) kX8_input_c4.2.2.2.2.2.2.1 wl_X8_304 wMv_305 rfl (.inl rfl) rfl (Nat.le_trans (Nat.le_of_ble_eq_true rfl) hL) (by simp [lg_sl, w_cat, z_ci, z_cr, z_cl, z_cn, kt_M305]) (Nat.le_of_ble_eq_true rfl) h (fun w2 hle h => ?_) (fun _ _ _ h => kzx_no rfl h)
    have h := h hle
    have hlp1 := w_l_le hlp1 hle
    refine kz_aload_n (M := kt_M314) kX8_input_c4.2.2.2.2.2.2.2.1 rfl ?_
    refine kz_aload_nv (M := kt_M314) (x := x3) kX8_input_c5.1 rfl ?_
    refine kz_nz0 (x := x3) hxp1 ?_
    refine kz_gfp (M := kt_M314) (c := 14) (o := p1) kX8_input_c5.2.1 wf_X8_128 (.inr (by exact hlp1)) ?_
    refine kz_cv0 (M := kt_M314) (c := 7) (o := 0) (As := [va_rf (w_p w2 14 p1 6)]) (rest := []) kX8_input_c5.2.2.1 wl_X8_119 wMv_321 rfl (.inl rfl) rfl (Nat.le_trans (Nat.le_of_ble_eq_true rfl) hL) (by simp [lg_sl, w_cat, z_ci, z_cr, z_cl, z_cn, kt_M321]) (Nat.le_of_ble_eq_true rfl) h (fun w4 hle h => ?_) (fun _ _ _ h => kzx_no rfl h)
    have h := h hle
    have hlp1 := w_l_le hlp1 hle
    refine kz_aload_nv (M := kt_M314) (x := x3) kX8_input_c5.2.2.2.1 rfl ?_
    refine kz_nz0 (x := x3) hxp1 ?_
    refine kz_gfp (M := kt_M314) (c := 14) (o := p1) kX8_input_c5.2.2.2.2.1 wf_X8_67 (.inr (by exact hlp1)) ?_
    refine kz_stv_n (M := kt_M314) (x := w_p w4 14 p1 7) [(0, .ref (w_adr E.2.1 7 0))] kX8_input_c5.2.2.2.2.2.1 (Nat.le_of_ble_eq_true rfl) ⟨⟨rfl, rfl, .inl rfl⟩, trivial⟩ rfl ?_
    refine kz_goto (M := kt_M314) kX8_input_c5.2.2.2.2.2.2.1 (t := 67) rfl ?_
    exact kz_weak [(0, .ref (w_adr E.2.1 7 0)), (3, va_rf (w_p w4 14 p1 7))] ⟨rfl, ⟨rfl, trivial⟩⟩ rfl h
def zb_X8_input_p30 (E : zE) (L : Nat) (Q : kx_Rs → wS → Prop) (x1 : Option Nat) (x2 : Int32) (w : wS) : Prop := (if ¬ x2 = 2 then (if ¬ x2 = 1 then (∃ p1, x1 = some p1 ∧ w_l w E.2.1 14 p1 ∧ zL_X8_input_p67 E L Q (w_p w 14 p1 4) w) else (∃ p2, x1 = some p2 ∧ w_l w E.2.1 14 p2 ∧ zw E (L - 22) kt_M305 [.ref (w_adr E.2.1 7 0), va_rf (w_p w 14 p2 4)] w (wk0 (fun w3 => wle w w3 → zb_X8_input_p95 E L Q w3) (fun e w => Q (.inr e) w)))) else (∃ p5, x1 = some p5 ∧ w_l w E.2.1 14 p5 ∧ zw E (L - 22) kt_M308 [.ref (w_adr E.2.1 7 0), va_rf (w_p w 14 p5 4)] w (wk0 (fun w6 => wle w w6 → zb_X8_input_p95 E L Q w6) (fun e w => Q (.inr e) w))))
theorem zt_X8_input_p30 {E : zE} {L : Nat} {Q : kx_Rs → wS → Prop} {x1 : Option Nat} {x2 : Int32} {w : wS} (hL : 22 ≤ L) (h : zb_X8_input_p30 E L Q x1 x2 w) : kzE E L kt_M314 30 [(0, .ref (w_adr E.2.1 7 0)), (1, va_rf (x1)), (2, .int x2)] [] w Q := by
  unfold zb_X8_input_p30 at h
  refine kz_iload_n (M := kt_M314) kX8_input_c1.2.2.2.2.2.2.1 rfl ?_
  refine kz_ic (M := kt_M314) 2 kX8_input_c1.2.2.2.2.2.2.2.1 rfl ?_
  refine kz_icmp_ne (M := kt_M314) kX8_input_c2.1 (t := 46) rfl h (fun h => ?_) (fun h => ?_)
  · skip
    refine kz_iload_n (M := kt_M314) kX8_input_c2.2.2.2.2.2.2.1 rfl ?_
    refine kz_ic (M := kt_M314) 1 kX8_input_c2.2.2.2.2.2.2.2.1 rfl ?_
    refine kz_icmp_ne (M := kt_M314) kX8_input_c3.1 (t := 62) rfl h (fun h => ?_) (fun h => ?_)
    · skip
      refine kz_aload_nv (M := kt_M314) (x := x1) kX8_input_c3.2.2.2.2.2.2.1 rfl ?_
      obtain ⟨p1, hxp1, hlp1, h⟩ := h
      refine kz_nz0 (x := x1) hxp1 ?_
      refine kz_gfp (M := kt_M314) (c := 14) (o := p1) kX8_input_c3.2.2.2.2.2.2.2.1 wf_X8_70 (.inr (by exact hlp1)) ?_
      refine kz_stv_n (M := kt_M314) (x := w_p w 14 p1 4) [(0, .ref (w_adr E.2.1 7 0))] kX8_input_c4.1 (Nat.le_of_ble_eq_true rfl) ⟨⟨rfl, rfl, .inl rfl⟩, trivial⟩ rfl ?_
      exact kz_weak [(0, .ref (w_adr E.2.1 7 0)), (3, va_rf (w_p w 14 p1 4))] ⟨rfl, ⟨rfl, trivial⟩⟩ rfl h
    · skip
      refine kz_aload_n (M := kt_M314) kX8_input_c3.2.1 rfl ?_
      refine kz_aload_nv (M := kt_M314) (x := x1) kX8_input_c3.2.2.1 rfl ?_
      obtain ⟨p2, hxp2, hlp2, h⟩ := h
      refine kz_nz0 (x := x1) hxp2 ?_
      refine kz_gfp (M := kt_M314) (c := 14) (o := p2) kX8_input_c3.2.2.2.1 wf_X8_70 (.inr (by exact hlp2)) ?_
      refine kz_cv0 (M := kt_M314) (c := 7) (o := 0) (As := [va_rf (w_p w 14 p2 4)]) (rest := []) kX8_input_c3.2.2.2.2.1 wl_X8_304 wMv_305 rfl (.inl rfl) rfl (Nat.le_trans (Nat.le_of_ble_eq_true rfl) hL) (by simp [lg_sl, w_cat, z_ci, z_cr, z_cl, z_cn, kt_M305]) (Nat.le_of_ble_eq_true rfl) h (fun w3 hle h => ?_) (fun _ _ _ h => kzx_no rfl h)
      have h := h hle
      have hlp2 := w_l_le hlp2 hle
      refine kz_goto (M := kt_M314) kX8_input_c3.2.2.2.2.2.1 (t := 95) rfl ?_
      exact kz_weak [(0, .ref (w_adr E.2.1 7 0))] ⟨rfl, trivial⟩ rfl (zt_X8_input_p95 hL  h)
  · skip
    refine kz_aload_n (M := kt_M314) kX8_input_c2.2.1 rfl ?_
    refine kz_aload_nv (M := kt_M314) (x := x1) kX8_input_c2.2.2.1 rfl ?_
    obtain ⟨p5, hxp5, hlp5, h⟩ := h
    refine kz_nz0 (x := x1) hxp5 ?_
    refine kz_gfp (M := kt_M314) (c := 14) (o := p5) kX8_input_c2.2.2.2.1 wf_X8_70 (.inr (by exact hlp5)) ?_
    refine kz_cv0 (M := kt_M314) (c := 7) (o := 0) (As := [va_rf (w_p w 14 p5 4)]) (rest := []) kX8_input_c2.2.2.2.2.1 wl_X8_122 wMv_308 rfl (.inl rfl) rfl (Nat.le_trans (Nat.le_of_ble_eq_true rfl) hL) (by simp [lg_sl, w_cat, z_ci, z_cr, z_cl, z_cn, kt_M308]) (Nat.le_of_ble_eq_true rfl) h (fun w6 hle h => ?_) (fun _ _ _ h => kzx_no rfl h)
    have h := h hle
    have hlp5 := w_l_le hlp5 hle
    refine kz_goto (M := kt_M314) kX8_input_c2.2.2.2.2.2.1 (t := 95) rfl ?_
    exact kz_weak [(0, .ref (w_adr E.2.1 7 0))] ⟨rfl, trivial⟩ rfl (zt_X8_input_p95 hL  h)
def zb_X8_input_p0 (E : zE) (L : Nat) (Q : kx_Rs → wS → Prop) (x1 : Option Nat) (x2 : Int32) (w : wS) : Prop := (∃ p1, x1 = some p1 ∧ w_l (ws_i w 7 0 14 1) E.2.1 14 p1 ∧ (∃ p2, w_p w 14 p1 3 = some p2 ∧ w_l (ws_i w 7 0 14 1) E.2.1 14 p2 ∧ (∃ p3, w_p w 14 p2 16 = some p3 ∧ w_l (ws_i w 7 0 14 1) E.2.1 15 p3 ∧ (if ¬ w_p w 15 p3 0 = some (E.1.1 53) then zb_X8_input_p30 E L Q x1 x2 (ws_i w 7 0 14 1) else zw E (L - 22) kt_M307 [.ref (w_adr E.2.1 7 0), va_rf (w_p w 14 p1 3), .int 4] (ws_i w 7 0 14 1) (wk0 (fun w4 => wle (ws_i w 7 0 14 1) w4 → zb_X8_input_p30 E L Q x1 x2 w4) (fun e w => Q (.inr e) w))))))
theorem zt_X8_input_p0 {E : zE} {L : Nat} {Q : kx_Rs → wS → Prop} {x1 : Option Nat} {x2 : Int32} {w : wS} (hL : 22 ≤ L) (h : zb_X8_input_p0 E L Q x1 x2 w) : kzE E L kt_M314 0 [(0, .ref (w_adr E.2.1 7 0)), (1, va_rf (x1)), (2, .int x2)] [] w Q := by
  unfold zb_X8_input_p0 at h
  refine kz_aload_n (M := kt_M314) kX8_input_c0.1 rfl ?_
  refine kz_ic (M := kt_M314) 1 kX8_input_c0.2.1 rfl ?_
  refine kz_pfz (M := kt_M314) (c := 7) (o := 0) kX8_input_c0.2.2.1 wq_X8_108 (.inl rfl) (by decide) ?_
  refine kz_aload_nv (M := kt_M314) (x := x1) kX8_input_c0.2.2.2.1 rfl ?_
  obtain ⟨p1, hxp1, hlp1, h⟩ := h
  refine kz_nz0 (x := x1) hxp1 ?_
  refine kz_gfpR (M := kt_M314) (c := 14) (o := p1) (w_p w 14 p1 3) kX8_input_c0.2.2.2.2.1 wf_X8_58 (.inr (by exact hlp1)) rd_p_i ?_
  obtain ⟨p2, hxp2, hlp2, h⟩ := h
  refine kz_nz0 (x := w_p w 14 p1 3) hxp2 ?_
  refine kz_gfpR (M := kt_M314) (c := 14) (o := p2) (w_p w 14 p2 16) kX8_input_c0.2.2.2.2.2.1 wf_X8_131 (.inr (by exact hlp2)) rd_p_i ?_
  obtain ⟨p3, hxp3, hlp3, h⟩ := h
  refine kz_nz0 (x := w_p w 14 p2 16) hxp3 ?_
  refine kz_gfpR (M := kt_M314) (c := 15) (o := p3) (w_p w 15 p3 0) kX8_input_c0.2.2.2.2.2.2.1 wf_X8_248 (.inr (by exact hlp3)) rd_p_i ?_
  refine kz_getsE (M := kt_M314) (v := va_rf (some (E.1.1 53))) kX8_input_c0.2.2.2.2.2.2.2.1 zs_X8_252 ?_
  refine kz_acmp_ne (M := kt_M314) (x := w_p w 15 p3 0) (y := some (E.1.1 53)) kX8_input_c1.1 (t := 30) rfl h (fun h => ?_) (fun h => ?_)
  · skip
    exact kz_weak [(0, .ref (w_adr E.2.1 7 0)), (1, va_rf (x1)), (2, .int x2)] ⟨rfl, ⟨rfl, ⟨rfl, trivial⟩⟩⟩ rfl (zt_X8_input_p30 hL  h)
  · skip
    refine kz_aload_n (M := kt_M314) kX8_input_c1.2.1 rfl ?_
    refine kz_aload_nv (M := kt_M314) (x := x1) kX8_input_c1.2.2.1 rfl ?_
    refine kz_nz0 (x := x1) hxp1 ?_
    refine kz_gfpR (M := kt_M314) (c := 14) (o := p1) (w_p w 14 p1 3) kX8_input_c1.2.2.2.1 wf_X8_58 (.inr (by exact hlp1)) rd_p_i ?_
    refine kz_ic (M := kt_M314) 4 kX8_input_c1.2.2.2.2.1 rfl ?_
    refine kz_cv0 (M := kt_M314) (c := 7) (o := 0) (As := [va_rf (w_p w 14 p1 3), .int 4]) (rest := []) kX8_input_c1.2.2.2.2.2.1 wl_X8_310 wMv_307 rfl (.inl rfl) rfl (Nat.le_trans (Nat.le_of_ble_eq_true rfl) hL) (by simp [lg_sl, w_cat, z_ci, z_cr, z_cl, z_cn, kt_M307]) (Nat.le_of_ble_eq_true rfl) h (fun w4 hle h => ?_) (fun _ _ _ h => kzx_no rfl h)
    have h := h hle
    have hlp1 := w_l_le hlp1 hle
    have hlp2 := w_l_le hlp2 hle
    have hlp3 := w_l_le hlp3 hle
    exact kz_weak [(0, .ref (w_adr E.2.1 7 0)), (1, va_rf (x1)), (2, .int x2)] ⟨rfl, ⟨rfl, ⟨rfl, trivial⟩⟩⟩ rfl (zt_X8_input_p30 hL  h)
def zL_X8_called_p105 (E : zE) (L : Nat) (Q : kx_Rs → wS → Prop) (x2 : Option Nat) (x3 : Option Nat) (x4 : Int32) (x5 : Option Nat) (x6 : Int32) (w : wS) : Prop := kzE E L kt_M304 105 [(0, .ref (w_adr E.2.1 7 0)), (2, va_rf (x2)), (3, va_rf (x3)), (4, .int x4), (5, va_rf (x5)), (6, .int x6)] [] w Q
def zL_X8_called_p64 (E : zE) (L : Nat) (Q : kx_Rs → wS → Prop) (x2 : Option Nat) (x3 : Option Nat) (x4 : Int32) (x5 : Option Nat) (w : wS) : Prop := kzE E L kt_M304 64 [(0, .ref (w_adr E.2.1 7 0)), (2, va_rf (x2)), (3, va_rf (x3)), (4, .int x4), (5, va_rf (x5))] [] w Q
def zb_X8_called_p151 (E : zE) (L : Nat) (Q : kx_Rs → wS → Prop) (x2 : Option Nat) (x3 : Option Nat) (x4 : Int32) (x5 : Option Nat) (w : wS) : Prop := (∃ p1, x3 = some p1 ∧ w_l w E.2.1 14 p1 ∧ (∃ p2, x5 = some p2 ∧ w_l w E.2.1 14 p2 ∧ zL_X8_called_p64 E L Q x2 (w_p w 14 p1 7) x4 (w_p w 14 p2 7) w))
theorem zt_X8_called_p151 {E : zE} {L : Nat} {Q : kx_Rs → wS → Prop} {x2 : Option Nat} {x3 : Option Nat} {x4 : Int32} {x5 : Option Nat} {w : wS} (hL : 27 ≤ L) (h : zb_X8_called_p151 E L Q x2 x3 x4 x5 w) : kzE E L kt_M304 151 [(0, .ref (w_adr E.2.1 7 0)), (2, va_rf (x2)), (3, va_rf (x3)), (4, .int x4), (5, va_rf (x5))] [] w Q := by
  unfold zb_X8_called_p151 at h
  refine kz_aload_nv (M := kt_M304) (x := x3) kX8_called_c8.2.2.2.2.2.2.2.1 rfl ?_
  obtain ⟨p1, hxp1, hlp1, h⟩ := h
  refine kz_nz0 (x := x3) hxp1 ?_
  refine kz_gfp (M := kt_M304) (c := 14) (o := p1) kX8_called_c9.1 wf_X8_67 (.inr (by exact hlp1)) ?_
  refine kz_stv_n (M := kt_M304) (x := w_p w 14 p1 7) [(0, .ref (w_adr E.2.1 7 0)), (2, va_rf (x2)), (4, .int x4), (5, va_rf (x5))] kX8_called_c9.2.1 (Nat.le_of_ble_eq_true rfl) ⟨⟨rfl, rfl, .inl rfl⟩, ⟨⟨rfl, rfl, .inr (w_cat (x2))⟩, ⟨⟨rfl, rfl, .inl rfl⟩, ⟨⟨rfl, rfl, .inl rfl⟩, trivial⟩⟩⟩⟩ rfl ?_
  refine kz_aloadv (M := kt_M304) (x := x5) kX8_called_c9.2.2.1 rfl ?_
  obtain ⟨p2, hxp2, hlp2, h⟩ := h
  refine kz_nz0 (x := x5) hxp2 ?_
  refine kz_gfp (M := kt_M304) (c := 14) (o := p2) kX8_called_c9.2.2.2.1 wf_X8_67 (.inr (by exact hlp2)) ?_
  refine kz_stv (M := kt_M304) (x := w_p w 14 p2 7) [(0, .ref (w_adr E.2.1 7 0)), (2, va_rf (x2)), (3, va_rf (w_p w 14 p1 7)), (4, .int x4)] kX8_called_c9.2.2.2.2.1 (Nat.le_of_ble_eq_true rfl) ⟨⟨rfl, rfl, .inl rfl⟩, ⟨⟨rfl, rfl, .inl rfl⟩, ⟨⟨rfl, rfl, .inl rfl⟩, ⟨⟨rfl, rfl, .inr rfl⟩, trivial⟩⟩⟩⟩ rfl ?_
  refine kz_goto (M := kt_M304) kX8_called_c9.2.2.2.2.2.1 (t := 64) rfl ?_
  exact kz_weak [(0, .ref (w_adr E.2.1 7 0)), (2, va_rf (x2)), (3, va_rf (w_p w 14 p1 7)), (4, .int x4), (5, va_rf (w_p w 14 p2 7))] ⟨rfl, ⟨rfl, ⟨rfl, ⟨rfl, ⟨rfl, trivial⟩⟩⟩⟩⟩ rfl h
def zb_X8_called_p141 (E : zE) (L : Nat) (Q : kx_Rs → wS → Prop) (x2 : Option Nat) (x3 : Option Nat) (x4 : Int32) (x5 : Option Nat) (x6 : Int32) (w : wS) : Prop := zL_X8_called_p105 E L Q x2 x3 x4 x5 (x6 + x6) w
theorem zt_X8_called_p141 {E : zE} {L : Nat} {Q : kx_Rs → wS → Prop} {x2 : Option Nat} {x3 : Option Nat} {x4 : Int32} {x5 : Option Nat} {x6 : Int32} {w : wS} (hL : 27 ≤ L) (h : zb_X8_called_p141 E L Q x2 x3 x4 x5 x6 w) : kzE E L kt_M304 141 [(0, .ref (w_adr E.2.1 7 0)), (2, va_rf (x2)), (3, va_rf (x3)), (4, .int x4), (5, va_rf (x5)), (6, .int x6)] [] w Q := by
  unfold zb_X8_called_p141 at h
  refine kz_iload (M := kt_M304) kX8_called_c8.2.2.1 rfl ?_
  refine kz_iload (M := kt_M304) kX8_called_c8.2.2.2.1 rfl ?_
  refine kz_iadd (M := kt_M304) kX8_called_c8.2.2.2.2.1 ?_
  refine kz_sti (M := kt_M304) [(0, .ref (w_adr E.2.1 7 0)), (2, va_rf (x2)), (3, va_rf (x3)), (4, .int x4), (5, va_rf (x5))] kX8_called_c8.2.2.2.2.2.1 (Nat.le_of_ble_eq_true rfl) ⟨⟨rfl, rfl, .inl rfl⟩, ⟨⟨rfl, rfl, .inl rfl⟩, ⟨⟨rfl, rfl, .inl rfl⟩, ⟨⟨rfl, rfl, .inl rfl⟩, ⟨⟨rfl, rfl, .inr (w_cat (x5))⟩, trivial⟩⟩⟩⟩⟩ rfl ?_
  refine kz_goto (M := kt_M304) kX8_called_c8.2.2.2.2.2.2.1 (t := 105) rfl ?_
  exact kz_weak [(0, .ref (w_adr E.2.1 7 0)), (2, va_rf (x2)), (3, va_rf (x3)), (4, .int x4), (5, va_rf (x5)), (6, .int (x6 + x6))] ⟨rfl, ⟨rfl, ⟨rfl, ⟨rfl, ⟨rfl, ⟨rfl, trivial⟩⟩⟩⟩⟩⟩ rfl h
def zb_X8_called_p105 (E : zE) (L : Nat) (Q : kx_Rs → wS → Prop) (x2 : Option Nat) (x3 : Option Nat) (x4 : Int32) (x5 : Option Nat) (x6 : Int32) (w : wS) : Prop := (if 16 ≤ x6 then zb_X8_called_p151 E L Q x2 x3 x4 x5 w else (∃ p1, x3 = some p1 ∧ w_l w E.2.1 14 p1 ∧ (∃ p2, w_p w 14 p1 16 = some p2 ∧ w_l w E.2.1 15 p2 ∧ (if ((w_i w 15 p2 30) &&& x6) = 0 then zb_X8_called_p141 E L Q x2 x3 x4 x5 x6 w else (∃ p3, x5 = some p3 ∧ w_l w E.2.1 14 p3 ∧ zw E (L - 27) kt_M319 [.ref (w_adr E.2.1 7 0), va_rf (w_p w 14 p3 16), va_rf (w_p w 14 p3 3), .int x6] w (wk0 (fun w4 => wle w w4 → zb_X8_called_p141 E L Q x2 x3 x4 x5 x6 w4) (fun e w => Q (.inr e) w)))))))
theorem zt_X8_called_p105 {E : zE} {L : Nat} {Q : kx_Rs → wS → Prop} {x2 : Option Nat} {x3 : Option Nat} {x4 : Int32} {x5 : Option Nat} {x6 : Int32} {w : wS} (hL : 27 ≤ L) (h : zb_X8_called_p105 E L Q x2 x3 x4 x5 x6 w) : kzE E L kt_M304 105 [(0, .ref (w_adr E.2.1 7 0)), (2, va_rf (x2)), (3, va_rf (x3)), (4, .int x4), (5, va_rf (x5)), (6, .int x6)] [] w Q := by
  unfold zb_X8_called_p105 at h
  refine kz_iload (M := kt_M304) kX8_called_c6.2.2.1 rfl ?_
  refine kz_bi (M := kt_M304) 16 kX8_called_c6.2.2.2.1 rfl ?_
  refine kz_icmp_ge (M := kt_M304) kX8_called_c6.2.2.2.2.1 (t := 151) rfl h (fun h => ?_) (fun h => ?_)
  · skip
    exact kz_weak [(0, .ref (w_adr E.2.1 7 0)), (2, va_rf (x2)), (3, va_rf (x3)), (4, .int x4), (5, va_rf (x5))] ⟨rfl, ⟨rfl, ⟨rfl, ⟨rfl, ⟨rfl, trivial⟩⟩⟩⟩⟩ rfl (zt_X8_called_p151 hL  h)
  · skip
    refine kz_aload_nv (M := kt_M304) (x := x3) kX8_called_c6.2.2.2.2.2.1 rfl ?_
    obtain ⟨p1, hxp1, hlp1, h⟩ := h
    refine kz_nz0 (x := x3) hxp1 ?_
    refine kz_gfp (M := kt_M304) (c := 14) (o := p1) kX8_called_c6.2.2.2.2.2.2.1 wf_X8_131 (.inr (by exact hlp1)) ?_
    obtain ⟨p2, hxp2, hlp2, h⟩ := h
    refine kz_nz0 (x := w_p w 14 p1 16) hxp2 ?_
    refine kz_gfi (M := kt_M304) (c := 15) (o := p2) kX8_called_c6.2.2.2.2.2.2.2.1 wf_X8_143 (.inr (by exact hlp2)) ?_
    refine kz_iload (M := kt_M304) kX8_called_c7.1 rfl ?_
    refine kz_iand (M := kt_M304) kX8_called_c7.2.1 ?_
    refine kz_if_eq (M := kt_M304) kX8_called_c7.2.2.1 (t := 141) rfl h (fun h => ?_) (fun h => ?_)
    · skip
      exact kz_weak [(0, .ref (w_adr E.2.1 7 0)), (2, va_rf (x2)), (3, va_rf (x3)), (4, .int x4), (5, va_rf (x5)), (6, .int x6)] ⟨rfl, ⟨rfl, ⟨rfl, ⟨rfl, ⟨rfl, ⟨rfl, trivial⟩⟩⟩⟩⟩⟩ rfl (zt_X8_called_p141 hL  h)
    · skip
      refine kz_aload_n (M := kt_M304) kX8_called_c7.2.2.2.1 rfl ?_
      refine kz_aloadv (M := kt_M304) (x := x5) kX8_called_c7.2.2.2.2.1 rfl ?_
      obtain ⟨p3, hxp3, hlp3, h⟩ := h
      refine kz_nz0 (x := x5) hxp3 ?_
      refine kz_gfp (M := kt_M304) (c := 14) (o := p3) kX8_called_c7.2.2.2.2.2.1 wf_X8_131 (.inr (by exact hlp3)) ?_
      refine kz_aloadv (M := kt_M304) (x := x5) kX8_called_c7.2.2.2.2.2.2.1 rfl ?_
      refine kz_nz0 (x := x5) hxp3 ?_
      refine kz_gfp (M := kt_M304) (c := 14) (o := p3) kX8_called_c7.2.2.2.2.2.2.2.1 wf_X8_58 (.inr (by exact hlp3)) ?_
      refine kz_iload (M := kt_M304) kX8_called_c8.1 rfl ?_
      refine kz_cv0 (M := kt_M304) (c := 7) (o := 0) (As := [va_rf (w_p w 14 p3 16), va_rf (w_p w 14 p3 3), .int x6]) (rest := []) kX8_called_c8.2.1 wl_X8_244 wMv_319 rfl (.inl rfl) rfl (Nat.le_trans (Nat.le_of_ble_eq_true rfl) hL) (by simp [lg_sl, w_cat, z_ci, z_cr, z_cl, z_cn, kt_M319]) (Nat.le_of_ble_eq_true rfl) h (fun w4 hle h => ?_) (fun _ _ _ h => kzx_no rfl h)
      have h := h hle
      have hlp1 := w_l_le hlp1 hle
      have hlp2 := w_l_le hlp2 hle
      have hlp3 := w_l_le hlp3 hle
      exact kz_weak [(0, .ref (w_adr E.2.1 7 0)), (2, va_rf (x2)), (3, va_rf (x3)), (4, .int x4), (5, va_rf (x5)), (6, .int x6)] ⟨rfl, ⟨rfl, ⟨rfl, ⟨rfl, ⟨rfl, ⟨rfl, trivial⟩⟩⟩⟩⟩⟩ rfl (zt_X8_called_p141 hL  h)
def zb_X8_called_p102 (E : zE) (L : Nat) (Q : kx_Rs → wS → Prop) (x2 : Option Nat) (x3 : Option Nat) (x4 : Int32) (x5 : Option Nat) (w : wS) : Prop := zL_X8_called_p105 E L Q x2 x3 x4 x5 1 w
theorem zt_X8_called_p102 {E : zE} {L : Nat} {Q : kx_Rs → wS → Prop} {x2 : Option Nat} {x3 : Option Nat} {x4 : Int32} {x5 : Option Nat} {w : wS} (hL : 27 ≤ L) (h : zb_X8_called_p102 E L Q x2 x3 x4 x5 w) : kzE E L kt_M304 102 [(0, .ref (w_adr E.2.1 7 0)), (2, va_rf (x2)), (3, va_rf (x3)), (4, .int x4), (5, va_rf (x5))] [] w Q := by
  unfold zb_X8_called_p102 at h
  refine kz_ic (M := kt_M304) 1 kX8_called_c6.1 rfl ?_
  refine kz_sti (M := kt_M304) [(0, .ref (w_adr E.2.1 7 0)), (2, va_rf (x2)), (3, va_rf (x3)), (4, .int x4), (5, va_rf (x5))] kX8_called_c6.2.1 (Nat.le_of_ble_eq_true rfl) ⟨⟨rfl, rfl, .inl rfl⟩, ⟨⟨rfl, rfl, .inl rfl⟩, ⟨⟨rfl, rfl, .inl rfl⟩, ⟨⟨rfl, rfl, .inl rfl⟩, ⟨⟨rfl, rfl, .inr (w_cat (x5))⟩, trivial⟩⟩⟩⟩⟩ rfl ?_
  exact kz_weak [(0, .ref (w_adr E.2.1 7 0)), (2, va_rf (x2)), (3, va_rf (x3)), (4, .int x4), (5, va_rf (x5)), (6, .int 1)] ⟨rfl, ⟨rfl, ⟨rfl, ⟨rfl, ⟨rfl, ⟨rfl, trivial⟩⟩⟩⟩⟩⟩ rfl h
def zb_X8_called_p64 (E : zE) (L : Nat) (Q : kx_Rs → wS → Prop) (x2 : Option Nat) (x3 : Option Nat) (x4 : Int32) (x5 : Option Nat) (w : wS) : Prop := (if x5 = none then zw E (L - 23) kt_M318 [.ref (w_adr E.2.1 7 0), va_rf (x2)] w (wk0 (fun w1 => wle w w1 → Q (.inl none) (ws_i w1 7 0 13 x4)) (fun e w => Q (.inr e) w)) else (∃ p3, x3 = some p3 ∧ w_l w E.2.1 14 p3 ∧ (if w_i w 14 p3 15 = 0 then (∃ p4, x5 = some p4 ∧ w_l w E.2.1 14 p4 ∧ (if (w_p w 14 p4 3) = none then zb_X8_called_p102 E L Q x2 x3 x4 x5 w else zw E (L - 22) kt_M308 [.ref (w_adr E.2.1 7 0), va_rf (w_p w 14 p4 3)] w (wk0 (fun w5 => wle w w5 → zb_X8_called_p102 E L Q x2 x3 x4 x5 w5) (fun e w => Q (.inr e) w)))) else zw E (L - 22) kt_M308 [.ref (w_adr E.2.1 7 0), va_rf (x5)] w (wk0 (fun w7 => wle w w7 → zb_X8_called_p151 E L Q x2 x3 x4 x5 w7) (fun e w => Q (.inr e) w)))))
theorem zt_X8_called_p64 {E : zE} {L : Nat} {Q : kx_Rs → wS → Prop} {x2 : Option Nat} {x3 : Option Nat} {x4 : Int32} {x5 : Option Nat} {w : wS} (hL : 27 ≤ L) (h : zb_X8_called_p64 E L Q x2 x3 x4 x5 w) : kzE E L kt_M304 64 [(0, .ref (w_adr E.2.1 7 0)), (2, va_rf (x2)), (3, va_rf (x3)), (4, .int x4), (5, va_rf (x5))] [] w Q := by
  unfold zb_X8_called_p64 at h
  refine kz_aloadv (M := kt_M304) (x := x5) kX8_called_c4.1 rfl ?_
  refine kz_ifnull (M := kt_M304) (x := x5) kX8_called_c4.2.1 (t := 166) rfl h (fun h => ?_) (fun h => ?_)
  · skip
    refine kz_aload_n (M := kt_M304) kX8_called_c9.2.2.2.2.2.2.1 rfl ?_
    refine kz_aload_nv (M := kt_M304) (x := x2) kX8_called_c9.2.2.2.2.2.2.2.1 rfl ?_
    refine kz_cv0 (M := kt_M304) (c := 7) (o := 0) (As := [va_rf (x2)]) (rest := []) kX8_called_c10.1 wl_X8_328 wMv_318 rfl (.inl rfl) rfl (Nat.le_trans (Nat.le_of_ble_eq_true rfl) hL) (by simp [lg_sl, w_cat, z_ci, z_cr, z_cl, z_cn, kt_M318]) (Nat.le_of_ble_eq_true rfl) h (fun w1 hle h => ?_) (fun _ _ _ h => kzx_no rfl h)
    have h := h hle
    refine kz_aload_n (M := kt_M304) kX8_called_c10.2.1 rfl ?_
    refine kz_iload (M := kt_M304) kX8_called_c10.2.2.1 rfl ?_
    refine kz_pfi (M := kt_M304) (c := 7) (o := 0) kX8_called_c10.2.2.2.1 wq_X8_116 (.inl rfl) ?_
    exact kz_ret (M := kt_M304) kX8_called_c10.2.2.2.2.1 rfl h
  · skip
    refine kz_aload_nv (M := kt_M304) (x := x3) kX8_called_c4.2.2.1 rfl ?_
    obtain ⟨p3, hxp3, hlp3, h⟩ := h
    refine kz_nz0 (x := x3) hxp3 ?_
    refine kz_gfi (M := kt_M304) (c := 14) (o := p3) kX8_called_c4.2.2.2.1 wf_X8_231 (.inr (by exact hlp3)) ?_
    refine kz_if_eq (M := kt_M304) kX8_called_c4.2.2.2.2.1 (t := 85) rfl h (fun h => ?_) (fun h => ?_)
    · skip
      refine kz_aloadv (M := kt_M304) (x := x5) kX8_called_c5.2.1 rfl ?_
      obtain ⟨p4, hxp4, hlp4, h⟩ := h
      refine kz_nz0 (x := x5) hxp4 ?_
      refine kz_gfp (M := kt_M304) (c := 14) (o := p4) kX8_called_c5.2.2.1 wf_X8_58 (.inr (by exact hlp4)) ?_
      refine kz_ifnull (M := kt_M304) (x := w_p w 14 p4 3) kX8_called_c5.2.2.2.1 (t := 102) rfl h (fun h => ?_) (fun h => ?_)
      · skip
        exact kz_weak [(0, .ref (w_adr E.2.1 7 0)), (2, va_rf (x2)), (3, va_rf (x3)), (4, .int x4), (5, va_rf (x5))] ⟨rfl, ⟨rfl, ⟨rfl, ⟨rfl, ⟨rfl, trivial⟩⟩⟩⟩⟩ rfl (zt_X8_called_p102 hL  h)
      · skip
        refine kz_aload_n (M := kt_M304) kX8_called_c5.2.2.2.2.1 rfl ?_
        refine kz_aloadv (M := kt_M304) (x := x5) kX8_called_c5.2.2.2.2.2.1 rfl ?_
        refine kz_nz0 (x := x5) hxp4 ?_
        refine kz_gfp (M := kt_M304) (c := 14) (o := p4) kX8_called_c5.2.2.2.2.2.2.1 wf_X8_58 (.inr (by exact hlp4)) ?_
        refine kz_cv0 (M := kt_M304) (c := 7) (o := 0) (As := [va_rf (w_p w 14 p4 3)]) (rest := []) kX8_called_c5.2.2.2.2.2.2.2.1 wl_X8_122 wMv_308 rfl (.inl rfl) rfl (Nat.le_trans (Nat.le_of_ble_eq_true rfl) hL) (by simp [lg_sl, w_cat, z_ci, z_cr, z_cl, z_cn, kt_M308]) (Nat.le_of_ble_eq_true rfl) h (fun w5 hle h => ?_) (fun _ _ _ h => kzx_no rfl h)
        have h := h hle
        have hlp3 := w_l_le hlp3 hle
        have hlp4 := w_l_le hlp4 hle
        exact kz_weak [(0, .ref (w_adr E.2.1 7 0)), (2, va_rf (x2)), (3, va_rf (x3)), (4, .int x4), (5, va_rf (x5))] ⟨rfl, ⟨rfl, ⟨rfl, ⟨rfl, ⟨rfl, trivial⟩⟩⟩⟩⟩ rfl (zt_X8_called_p102 hL  h)
    · skip
      refine kz_aload_n (M := kt_M304) kX8_called_c4.2.2.2.2.2.1 rfl ?_
      refine kz_aloadv (M := kt_M304) (x := x5) kX8_called_c4.2.2.2.2.2.2.1 rfl ?_
      refine kz_cv0 (M := kt_M304) (c := 7) (o := 0) (As := [va_rf (x5)]) (rest := []) kX8_called_c4.2.2.2.2.2.2.2.1 wl_X8_122 wMv_308 rfl (.inl rfl) rfl (Nat.le_trans (Nat.le_of_ble_eq_true rfl) hL) (by simp [lg_sl, w_cat, z_ci, z_cr, z_cl, z_cn, kt_M308]) (Nat.le_of_ble_eq_true rfl) h (fun w7 hle h => ?_) (fun _ _ _ h => kzx_no rfl h)
      have h := h hle
      have hlp3 := w_l_le hlp3 hle
      refine kz_goto (M := kt_M304) kX8_called_c5.1 (t := 151) rfl ?_
      exact kz_weak [(0, .ref (w_adr E.2.1 7 0)), (2, va_rf (x2)), (3, va_rf (x3)), (4, .int x4), (5, va_rf (x5))] ⟨rfl, ⟨rfl, ⟨rfl, ⟨rfl, ⟨rfl, trivial⟩⟩⟩⟩⟩ rfl (zt_X8_called_p151 hL  h)
def zb_X8_called_p58 (E : zE) (L : Nat) (Q : kx_Rs → wS → Prop) (x1 : Option Nat) (x2 : Option Nat) (x3 : Option Nat) (x4 : Int32) (w : wS) : Prop := (∃ p1, x1 = some p1 ∧ w_l w E.2.1 14 p1 ∧ zL_X8_called_p64 E L Q x2 x3 x4 (w_p w 14 p1 4) w)
theorem zt_X8_called_p58 {E : zE} {L : Nat} {Q : kx_Rs → wS → Prop} {x1 : Option Nat} {x2 : Option Nat} {x3 : Option Nat} {x4 : Int32} {w : wS} (hL : 27 ≤ L) (h : zb_X8_called_p58 E L Q x1 x2 x3 x4 w) : kzE E L kt_M304 58 [(0, .ref (w_adr E.2.1 7 0)), (1, va_rf (x1)), (2, va_rf (x2)), (3, va_rf (x3)), (4, .int x4)] [] w Q := by
  unfold zb_X8_called_p58 at h
  refine kz_aload_nv (M := kt_M304) (x := x1) kX8_called_c3.2.2.2.2.2.1 rfl ?_
  obtain ⟨p1, hxp1, hlp1, h⟩ := h
  refine kz_nz0 (x := x1) hxp1 ?_
  refine kz_gfp (M := kt_M304) (c := 14) (o := p1) kX8_called_c3.2.2.2.2.2.2.1 wf_X8_70 (.inr (by exact hlp1)) ?_
  refine kz_stv (M := kt_M304) (x := w_p w 14 p1 4) [(0, .ref (w_adr E.2.1 7 0)), (2, va_rf (x2)), (3, va_rf (x3)), (4, .int x4)] kX8_called_c3.2.2.2.2.2.2.2.1 (Nat.le_of_ble_eq_true rfl) ⟨⟨rfl, rfl, .inl rfl⟩, ⟨⟨rfl, rfl, .inl rfl⟩, ⟨⟨rfl, rfl, .inl rfl⟩, ⟨⟨rfl, rfl, .inr rfl⟩, trivial⟩⟩⟩⟩ rfl ?_
  exact kz_weak [(0, .ref (w_adr E.2.1 7 0)), (2, va_rf (x2)), (3, va_rf (x3)), (4, .int x4), (5, va_rf (w_p w 14 p1 4))] ⟨rfl, ⟨rfl, ⟨rfl, ⟨rfl, ⟨rfl, trivial⟩⟩⟩⟩⟩ rfl h
def zb_X8_called_p25 (E : zE) (L : Nat) (Q : kx_Rs → wS → Prop) (x1 : Option Nat) (x2 : Option Nat) (y0 : Int32) (w : wS) : Prop := ((y0 = 0 ∨ y0 = 1) ∧ (∃ p1, x2 = some p1 ∧ w_l (ws_i w 7 0 14 y0) E.2.1 15 p1 ∧ (∃ p2, w_p w 15 p1 19 = some p2 ∧ w_l (ws_i w 7 0 14 y0) E.2.1 14 p2 ∧ (if ¬ w_i w 7 0 13 = (-1) then zb_X8_called_p58 E L Q x1 x2 (w_p w 14 p2 3) (w_i w 7 0 13) (ws_i w 7 0 14 y0) else (∃ p3, x1 = some p3 ∧ w_l (ws_i w 7 0 14 y0) E.2.1 14 p3 ∧ zb_X8_called_p58 E L Q x1 x2 (w_p w 14 p2 3) (w_i w 7 0 13) (ws_i (ws_i w 7 0 14 y0) 7 0 13 (w_i w 14 p3 2)))))))
theorem zt_X8_called_p25 {E : zE} {L : Nat} {Q : kx_Rs → wS → Prop} {x1 : Option Nat} {x2 : Option Nat} {y0 : Int32} {w : wS} (hL : 27 ≤ L) (h : zb_X8_called_p25 E L Q x1 x2 y0 w) : kzE E L kt_M304 25 [(0, .ref (w_adr E.2.1 7 0)), (1, va_rf (x1)), (2, va_rf (x2))] [.int y0, .ref (w_adr E.2.1 7 0)] w Q := by
  unfold zb_X8_called_p25 at h
  obtain ⟨h0, h⟩ := h
  refine kz_pfz (M := kt_M304) (c := 7) (o := 0) kX8_called_c1.2.2.2.2.2.1 wq_X8_108 (.inl rfl) h0 ?_
  refine kz_aload_nv (M := kt_M304) (x := x2) kX8_called_c1.2.2.2.2.2.2.1 rfl ?_
  obtain ⟨p1, hxp1, hlp1, h⟩ := h
  refine kz_nz0 (x := x2) hxp1 ?_
  refine kz_gfpR (M := kt_M304) (c := 15) (o := p1) (w_p w 15 p1 19) kX8_called_c1.2.2.2.2.2.2.2.1 wf_X8_228 (.inr (by exact hlp1)) rd_p_i ?_
  obtain ⟨p2, hxp2, hlp2, h⟩ := h
  refine kz_nz0 (x := w_p w 15 p1 19) hxp2 ?_
  refine kz_gfpR (M := kt_M304) (c := 14) (o := p2) (w_p w 14 p2 3) kX8_called_c2.1 wf_X8_58 (.inr (by exact hlp2)) rd_p_i ?_
  refine kz_stv_n (M := kt_M304) (x := w_p w 14 p2 3) [(0, .ref (w_adr E.2.1 7 0)), (1, va_rf (x1)), (2, va_rf (x2))] kX8_called_c2.2.1 (Nat.le_of_ble_eq_true rfl) ⟨⟨rfl, rfl, .inl rfl⟩, ⟨⟨rfl, rfl, .inl rfl⟩, ⟨⟨rfl, rfl, .inr (w_cat (x2))⟩, trivial⟩⟩⟩ rfl ?_
  refine kz_aload_n (M := kt_M304) kX8_called_c2.2.2.1 rfl ?_
  refine kz_gfiR (M := kt_M304) (c := 7) (o := 0) (w_i w 7 0 13) kX8_called_c2.2.2.2.1 wf_X8_116 (.inl rfl) (rd_i_i rfl) ?_
  refine kz_sti (M := kt_M304) [(0, .ref (w_adr E.2.1 7 0)), (1, va_rf (x1)), (2, va_rf (x2)), (3, va_rf (w_p w 14 p2 3))] kX8_called_c2.2.2.2.2.1 (Nat.le_of_ble_eq_true rfl) ⟨⟨rfl, rfl, .inl rfl⟩, ⟨⟨rfl, rfl, .inl rfl⟩, ⟨⟨rfl, rfl, .inl rfl⟩, ⟨⟨rfl, rfl, .inr (w_cat (w_p w 14 p2 3))⟩, trivial⟩⟩⟩⟩ rfl ?_
  refine kz_aload_n (M := kt_M304) kX8_called_c2.2.2.2.2.2.1 rfl ?_
  refine kz_gfiR (M := kt_M304) (c := 7) (o := 0) (w_i w 7 0 13) kX8_called_c2.2.2.2.2.2.2.1 wf_X8_116 (.inl rfl) (rd_i_i rfl) ?_
  refine kz_ic (M := kt_M304) (-1) kX8_called_c2.2.2.2.2.2.2.2.1 rfl ?_
  refine kz_icmp_ne (M := kt_M304) kX8_called_c3.1 (t := 58) rfl h (fun h => ?_) (fun h => ?_)
  · skip
    exact kz_weak [(0, .ref (w_adr E.2.1 7 0)), (1, va_rf (x1)), (2, va_rf (x2)), (3, va_rf (w_p w 14 p2 3)), (4, .int (w_i w 7 0 13))] ⟨rfl, ⟨rfl, ⟨rfl, ⟨rfl, ⟨rfl, trivial⟩⟩⟩⟩⟩ rfl (zt_X8_called_p58 hL  h)
  · skip
    refine kz_aload_n (M := kt_M304) kX8_called_c3.2.1 rfl ?_
    refine kz_aload_nv (M := kt_M304) (x := x1) kX8_called_c3.2.2.1 rfl ?_
    obtain ⟨p3, hxp3, hlp3, h⟩ := h
    refine kz_nz0 (x := x1) hxp3 ?_
    refine kz_gfiR (M := kt_M304) (c := 14) (o := p3) (w_i w 14 p3 2) kX8_called_c3.2.2.2.1 wf_X8_195 (.inr (by exact hlp3)) (rd_i_i rfl) ?_
    refine kz_pfi (M := kt_M304) (c := 7) (o := 0) kX8_called_c3.2.2.2.2.1 wq_X8_116 (.inl rfl) ?_
    exact kz_weak [(0, .ref (w_adr E.2.1 7 0)), (1, va_rf (x1)), (2, va_rf (x2)), (3, va_rf (w_p w 14 p2 3)), (4, .int (w_i w 7 0 13))] ⟨rfl, ⟨rfl, ⟨rfl, ⟨rfl, ⟨rfl, trivial⟩⟩⟩⟩⟩ rfl (zt_X8_called_p58 hL  h)
def zb_X8_called_p20 (E : zE) (L : Nat) (Q : kx_Rs → wS → Prop) (x1 : Option Nat) (x2 : Option Nat) (w : wS) : Prop := zb_X8_called_p25 E L Q x1 x2 1 w
theorem zt_X8_called_p20 {E : zE} {L : Nat} {Q : kx_Rs → wS → Prop} {x1 : Option Nat} {x2 : Option Nat} {w : wS} (hL : 27 ≤ L) (h : zb_X8_called_p20 E L Q x1 x2 w) : kzE E L kt_M304 20 [(0, .ref (w_adr E.2.1 7 0)), (1, va_rf (x1)), (2, va_rf (x2))] [.ref (w_adr E.2.1 7 0)] w Q := by
  unfold zb_X8_called_p20 at h
  refine kz_ic (M := kt_M304) 1 kX8_called_c1.2.2.1 rfl ?_
  refine kz_goto (M := kt_M304) kX8_called_c1.2.2.2.1 (t := 25) rfl ?_
  exact kz_weak [(0, .ref (w_adr E.2.1 7 0)), (1, va_rf (x1)), (2, va_rf (x2))] ⟨rfl, ⟨rfl, ⟨rfl, trivial⟩⟩⟩ rfl (zt_X8_called_p25 hL  h)
def zb_X8_called_p0 (E : zE) (L : Nat) (Q : kx_Rs → wS → Prop) (x1 : Option Nat) (w : wS) : Prop := (∃ p1, x1 = some p1 ∧ w_l w E.2.1 14 p1 ∧ (if ¬ w_i w 7 0 14 = 0 then zb_X8_called_p20 E L Q x1 (w_p w 14 p1 16) w else (∃ p2, w_p w 14 p1 16 = some p2 ∧ w_l w E.2.1 15 p2 ∧ (if w_i w 15 p2 10 = 0 then zb_X8_called_p25 E L Q x1 (w_p w 14 p1 16) 0 w else zb_X8_called_p20 E L Q x1 (w_p w 14 p1 16) w))))
theorem zt_X8_called_p0 {E : zE} {L : Nat} {Q : kx_Rs → wS → Prop} {x1 : Option Nat} {w : wS} (hL : 27 ≤ L) (h : zb_X8_called_p0 E L Q x1 w) : kzE E L kt_M304 0 [(0, .ref (w_adr E.2.1 7 0)), (1, va_rf (x1))] [] w Q := by
  unfold zb_X8_called_p0 at h
  refine kz_aload_nv (M := kt_M304) (x := x1) kX8_called_c0.1 rfl ?_
  obtain ⟨p1, hxp1, hlp1, h⟩ := h
  refine kz_nz0 (x := x1) hxp1 ?_
  refine kz_gfp (M := kt_M304) (c := 14) (o := p1) kX8_called_c0.2.1 wf_X8_131 (.inr (by exact hlp1)) ?_
  refine kz_stv_n (M := kt_M304) (x := w_p w 14 p1 16) [(0, .ref (w_adr E.2.1 7 0)), (1, va_rf (x1))] kX8_called_c0.2.2.1 (Nat.le_of_ble_eq_true rfl) ⟨⟨rfl, rfl, .inl rfl⟩, ⟨⟨rfl, rfl, .inr (w_cat (x1))⟩, trivial⟩⟩ rfl ?_
  refine kz_aload_n (M := kt_M304) kX8_called_c0.2.2.2.1 rfl ?_
  refine kz_aload_n (M := kt_M304) kX8_called_c0.2.2.2.2.1 rfl ?_
  refine kz_gfi (M := kt_M304) (c := 7) (o := 0) kX8_called_c0.2.2.2.2.2.1 wf_X8_108 (.inl rfl) ?_
  refine kz_if_ne (M := kt_M304) kX8_called_c0.2.2.2.2.2.2.1 (t := 20) rfl h (fun h => ?_) (fun h => ?_)
  · skip
    exact kz_weak [(0, .ref (w_adr E.2.1 7 0)), (1, va_rf (x1)), (2, va_rf (w_p w 14 p1 16))] ⟨rfl, ⟨rfl, ⟨rfl, trivial⟩⟩⟩ rfl (zt_X8_called_p20 hL  h)
  · skip
    refine kz_aload_nv (M := kt_M304) (x := w_p w 14 p1 16) kX8_called_c0.2.2.2.2.2.2.2.1 rfl ?_
    obtain ⟨p2, hxp2, hlp2, h⟩ := h
    refine kz_nz0 (x := w_p w 14 p1 16) hxp2 ?_
    refine kz_gfi (M := kt_M304) (c := 15) (o := p2) kX8_called_c1.1 wf_X8_135 (.inr (by exact hlp2)) ?_
    refine kz_if_eq (M := kt_M304) kX8_called_c1.2.1 (t := 24) rfl h (fun h => ?_) (fun h => ?_)
    · skip
      refine kz_ic (M := kt_M304) 0 kX8_called_c1.2.2.2.2.1 rfl ?_
      exact kz_weak [(0, .ref (w_adr E.2.1 7 0)), (1, va_rf (x1)), (2, va_rf (w_p w 14 p1 16))] ⟨rfl, ⟨rfl, ⟨rfl, trivial⟩⟩⟩ rfl (zt_X8_called_p25 hL  h)
    · skip
      exact kz_weak [(0, .ref (w_adr E.2.1 7 0)), (1, va_rf (x1)), (2, va_rf (w_p w 14 p1 16))] ⟨rfl, ⟨rfl, ⟨rfl, trivial⟩⟩⟩ rfl (zt_X8_called_p20 hL  h)
def zb_X8_replicator_p0 (E : zE) (L : Nat) (Q : kx_Rs → wS → Prop) (x1 : Option Nat) (w : wS) : Prop := (if ¬ x1 = none then (∃ p1, x1 = some p1 ∧ w_l w E.2.1 14 p1 ∧ zw E (L - 22) kt_M308 [.ref (w_adr E.2.1 7 0), va_rf (w_p w 14 p1 3)] w (wk0 (fun w2 => wle w w2 → zw E (L - 22) kt_M308 [.ref (w_adr E.2.1 7 0), va_rf (w_p w2 14 p1 4)] w2 (wk0 (fun w4 => wle w2 w4 → Q (.inl none) w4) (fun e w => Q (.inr e) w))) (fun e w => Q (.inr e) w))) else Q (.inl none) w)
theorem zt_X8_replicator_p0 {E : zE} {L : Nat} {Q : kx_Rs → wS → Prop} {x1 : Option Nat} {w : wS} (hL : 22 ≤ L) (h : zb_X8_replicator_p0 E L Q x1 w) : kzE E L kt_M323 0 [(0, .ref (w_adr E.2.1 7 0)), (1, va_rf (x1))] [] w Q := by
  unfold zb_X8_replicator_p0 at h
  refine kz_aload_nv (M := kt_M323) (x := x1) kX8_replicator_c0.1 rfl ?_
  refine kz_ifnonnull (M := kt_M323) (x := x1) kX8_replicator_c0.2.1 (t := 5) rfl h (fun h => ?_) (fun h => ?_)
  · skip
    refine kz_aload_n (M := kt_M323) kX8_replicator_c0.2.2.2.1 rfl ?_
    refine kz_aload_nv (M := kt_M323) (x := x1) kX8_replicator_c0.2.2.2.2.1 rfl ?_
    obtain ⟨p1, hxp1, hlp1, h⟩ := h
    refine kz_nz0 (x := x1) hxp1 ?_
    refine kz_gfp (M := kt_M323) (c := 14) (o := p1) kX8_replicator_c0.2.2.2.2.2.1 wf_X8_58 (.inr (by exact hlp1)) ?_
    refine kz_cv0 (M := kt_M323) (c := 7) (o := 0) (As := [va_rf (w_p w 14 p1 3)]) (rest := []) kX8_replicator_c0.2.2.2.2.2.2.1 wl_X8_122 wMv_308 rfl (.inl rfl) rfl (Nat.le_trans (Nat.le_of_ble_eq_true rfl) hL) (by simp [lg_sl, w_cat, z_ci, z_cr, z_cl, z_cn, kt_M308]) (Nat.le_of_ble_eq_true rfl) h (fun w2 hle h => ?_) (fun _ _ _ h => kzx_no rfl h)
    have h := h hle
    have hlp1 := w_l_le hlp1 hle
    refine kz_aload_n (M := kt_M323) kX8_replicator_c0.2.2.2.2.2.2.2.1 rfl ?_
    refine kz_aload_nv (M := kt_M323) (x := x1) kX8_replicator_c1.1 rfl ?_
    refine kz_nz0 (x := x1) hxp1 ?_
    refine kz_gfp (M := kt_M323) (c := 14) (o := p1) kX8_replicator_c1.2.1 wf_X8_70 (.inr (by exact hlp1)) ?_
    refine kz_cv0 (M := kt_M323) (c := 7) (o := 0) (As := [va_rf (w_p w2 14 p1 4)]) (rest := []) kX8_replicator_c1.2.2.1 wl_X8_122 wMv_308 rfl (.inl rfl) rfl (Nat.le_trans (Nat.le_of_ble_eq_true rfl) hL) (by simp [lg_sl, w_cat, z_ci, z_cr, z_cl, z_cn, kt_M308]) (Nat.le_of_ble_eq_true rfl) h (fun w4 hle h => ?_) (fun _ _ _ h => kzx_no rfl h)
    have h := h hle
    have hlp1 := w_l_le hlp1 hle
    exact kz_ret (M := kt_M323) kX8_replicator_c1.2.2.2.1 rfl h
  · skip
    exact kz_ret (M := kt_M323) kX8_replicator_c0.2.2.1 rfl h
def zb_X8_add_p56 (E : zE) (L : Nat) (Q : kx_Rs → wS → Prop) (x1 : Option Nat) (x2 : Int32) (w : wS) : Prop := (∃ p1, x1 = some p1 ∧ w_l w E.2.1 15 p1 ∧ (kx_inb (w_i w 7 0 4) (w_n w 7 0 2) = true ∧ (kx_inb (w_i w 7 0 4) (w_n w 7 0 3) = true ∧ Q (.inl none) (ws_a (ws_i (ws_r w 7 0 2 (w_i w 7 0 4).toNatClampNeg (some p1)) 7 0 4 ((w_i w 7 0 4) + 1)) 7 0 3 (w_i w 7 0 4).toNatClampNeg x2))))
theorem zt_X8_add_p56 {E : zE} {L : Nat} {Q : kx_Rs → wS → Prop} {x1 : Option Nat} {x2 : Int32} {w : wS} (hL : 60 ≤ L) (h : zb_X8_add_p56 E L Q x1 x2 w) : kzE E L kt_M297 56 [(0, .ref (w_adr E.2.1 7 0)), (1, va_rf (x1)), (2, .int x2)] [] w Q := by
  unfold zb_X8_add_p56 at h
  refine kz_aload_n (M := kt_M297) kX8_add_c3.2.2.2.2.2.2.1 rfl ?_
  refine kz_gfa (M := kt_M297) (c := 7) (o := 0) kX8_add_c3.2.2.2.2.2.2.2.1 wf_X8_11 (.inl rfl) ?_
  refine kz_aload_n (M := kt_M297) kX8_add_c4.1 rfl ?_
  refine kz_gfi (M := kt_M297) (c := 7) (o := 0) kX8_add_c4.2.1 wf_X8_41 (.inl rfl) ?_
  refine kz_aload_nv (M := kt_M297) (x := x1) kX8_add_c4.2.2.1 rfl ?_
  obtain ⟨p1, hxp1, hlp1, h⟩ := h
  refine kz_nz0 (x := x1) hxp1 ?_
  refine kz_aasto (M := kt_M297) (C1 := "") (τ := 2) (ci := 15) (c := 7) (o := 0) (k := 2) (a := (w_d w 7 0 2)) (v := p1) kX8_add_c4.2.2.2.1 ow_7_0_2 oa_7_0_2 rfl rfl rfl (by exact hlp1) h (fun h => ?_)
  refine kz_aload_n (M := kt_M297) kX8_add_c4.2.2.2.2.1 rfl ?_
  refine kz_gfa (M := kt_M297) (c := 7) (o := 0) kX8_add_c4.2.2.2.2.2.1 wf_X8_17 (.inl rfl) ?_
  refine kz_aload_n (M := kt_M297) kX8_add_c4.2.2.2.2.2.2.1 rfl ?_
  refine kz_dup (M := kt_M297) kX8_add_c4.2.2.2.2.2.2.2.1 rfl ?_
  refine kz_gfiR (M := kt_M297) (c := 7) (o := 0) (w_i w 7 0 4) kX8_add_c5.1 wf_X8_41 (.inl rfl) rd_i_r ?_
  refine kz_dup_x1 (M := kt_M297) kX8_add_c5.2.1 ⟨rfl, rfl⟩ ?_
  refine kz_ic (M := kt_M297) 1 kX8_add_c5.2.2.1 rfl ?_
  refine kz_iadd (M := kt_M297) kX8_add_c5.2.2.2.1 ?_
  refine kz_pfi (M := kt_M297) (c := 7) (o := 0) kX8_add_c5.2.2.2.2.1 wq_X8_41 (.inl rfl) ?_
  refine kz_iload_n (M := kt_M297) kX8_add_c5.2.2.2.2.2.1 rfl ?_
  refine kz_iastR (M := kt_M297) (n := w_n w 7 0 3) (c := 7) (o := 0) (k := 3) (a := (w_d (ws_r w 7 0 2 (w_i w 7 0 4).toNatClampNeg (some p1)) 7 0 3)) kX8_add_c5.2.2.2.2.2.2.1 ow_7_0_3 rfl ot_0 (rd_n_i.trans rd_n_r) h (fun h => ?_)
  exact kz_ret (M := kt_M297) kX8_add_c5.2.2.2.2.2.2.2.1 rfl h
def zb_X8_add_p0 (E : zE) (L : Nat) (Q : kx_Rs → wS → Prop) (x1 : Option Nat) (x2 : Int32) (w : wS) : Prop := (if ¬ w_i w 7 0 4 = (Int32.ofNat (w_n w 7 0 3)) then zb_X8_add_p56 E L Q x1 x2 w else ((¬ ((2 * (w_i w 7 0 4))) < 0 ∧ ((2 * (w_i w 7 0 4))).toNatClampNeg * 4 ≤ 536870912 ∧ 1 ≤ w_C w ∧ ((2 * (w_i w 7 0 4))).toNatClampNeg ≤ w_S w) ∧ ((w_o (ws_new w 6 ((2 * (w_i w 7 0 4))).toNatClampNeg) (w_z w) = some (99, (w_z w), 0) ∧ w_t (ws_new w 6 ((2 * (w_i w 7 0 4))).toNatClampNeg) (w_z w) = 6) ∧ (((¬ (0 : Int32) < 0 ∧ ¬ (0 : Int32) < 0 ∧ ¬ (w_i (ws_new w 6 ((2 * (w_i w 7 0 4))).toNatClampNeg) 7 0 4) < 0) ∧ (0 : Int32).toNatClampNeg + (w_i (ws_new w 6 ((2 * (w_i w 7 0 4))).toNatClampNeg) 7 0 4).toNatClampNeg ≤ w_n (ws_new w 6 ((2 * (w_i w 7 0 4))).toNatClampNeg) 7 0 2 ∧ (0 : Int32).toNatClampNeg + (w_i (ws_new w 6 ((2 * (w_i w 7 0 4))).toNatClampNeg) 7 0 4).toNatClampNeg ≤ w_n (ws_new w 6 ((2 * (w_i w 7 0 4))).toNatClampNeg) 99 (w_z w) 0 ∧ ∀ i, i < (w_i (ws_new w 6 ((2 * (w_i w 7 0 4))).toNatClampNeg) 7 0 4).toNatClampNeg → ∀ y, w_r (ws_new w 6 ((2 * (w_i w 7 0 4))).toNatClampNeg) 7 0 2 ((0 : Int32).toNatClampNeg + i) = some y → w_l (ws_new w 6 ((2 * (w_i w 7 0 4))).toNatClampNeg) E.2.1 15 y) ∧ ((w_o (ws_R (ws_new w 6 ((2 * (w_i w 7 0 4))).toNatClampNeg) 99 (w_z w) 0 (va_cpy (w_r (ws_new w 6 ((2 * (w_i w 7 0 4))).toNatClampNeg) 7 0 2) (w_r (ws_new w 6 ((2 * (w_i w 7 0 4))).toNatClampNeg) 99 (w_z w) 0) (0 : Int32).toNatClampNeg (0 : Int32).toNatClampNeg (w_i (ws_new w 6 ((2 * (w_i w 7 0 4))).toNatClampNeg) 7 0 4).toNatClampNeg)) (w_z w) = some (99, (w_z w), 0) ∧ w_t (ws_R (ws_new w 6 ((2 * (w_i w 7 0 4))).toNatClampNeg) 99 (w_z w) 0 (va_cpy (w_r (ws_new w 6 ((2 * (w_i w 7 0 4))).toNatClampNeg) 7 0 2) (w_r (ws_new w 6 ((2 * (w_i w 7 0 4))).toNatClampNeg) 99 (w_z w) 0) (0 : Int32).toNatClampNeg (0 : Int32).toNatClampNeg (w_i (ws_new w 6 ((2 * (w_i w 7 0 4))).toNatClampNeg) 7 0 4).toNatClampNeg)) (w_z w) = 6) ∧ zw E (L - 22) kt_M313 [.ref (w_d (ws_put (ws_R (ws_new w 6 ((2 * (w_i w 7 0 4))).toNatClampNeg) 99 (w_z w) 0 (va_cpy (w_r (ws_new w 6 ((2 * (w_i w 7 0 4))).toNatClampNeg) 7 0 2) (w_r (ws_new w 6 ((2 * (w_i w 7 0 4))).toNatClampNeg) 99 (w_z w) 0) (0 : Int32).toNatClampNeg (0 : Int32).toNatClampNeg (w_i (ws_new w 6 ((2 * (w_i w 7 0 4))).toNatClampNeg) 7 0 4).toNatClampNeg)) 7 0 2 (w_z w)) 7 0 3), .int (w_i (ws_put (ws_R (ws_new w 6 ((2 * (w_i w 7 0 4))).toNatClampNeg) 99 (w_z w) 0 (va_cpy (w_r (ws_new w 6 ((2 * (w_i w 7 0 4))).toNatClampNeg) 7 0 2) (w_r (ws_new w 6 ((2 * (w_i w 7 0 4))).toNatClampNeg) 99 (w_z w) 0) (0 : Int32).toNatClampNeg (0 : Int32).toNatClampNeg (w_i (ws_new w 6 ((2 * (w_i w 7 0 4))).toNatClampNeg) 7 0 4).toNatClampNeg)) 7 0 2 (w_z w)) 7 0 4)] (ws_put (ws_R (ws_new w 6 ((2 * (w_i w 7 0 4))).toNatClampNeg) 99 (w_z w) 0 (va_cpy (w_r (ws_new w 6 ((2 * (w_i w 7 0 4))).toNatClampNeg) 7 0 2) (w_r (ws_new w 6 ((2 * (w_i w 7 0 4))).toNatClampNeg) 99 (w_z w) 0) (0 : Int32).toNatClampNeg (0 : Int32).toNatClampNeg (w_i (ws_new w 6 ((2 * (w_i w 7 0 4))).toNatClampNeg) 7 0 4).toNatClampNeg)) 7 0 2 (w_z w)) (wkr (fun v2 w1 => wle (ws_put (ws_R (ws_new w 6 ((2 * (w_i w 7 0 4))).toNatClampNeg) 99 (w_z w) 0 (va_cpy (w_r (ws_new w 6 ((2 * (w_i w 7 0 4))).toNatClampNeg) 7 0 2) (w_r (ws_new w 6 ((2 * (w_i w 7 0 4))).toNatClampNeg) 99 (w_z w) 0) (0 : Int32).toNatClampNeg (0 : Int32).toNatClampNeg (w_i (ws_new w 6 ((2 * (w_i w 7 0 4))).toNatClampNeg) 7 0 4).toNatClampNeg)) 7 0 2 (w_z w)) w1 → (∃ a3, v2 = some a3 ∧ (w_o w1 a3 = some (99, a3, 0) ∧ w_t w1 a3 = 0) ∧ zb_X8_add_p56 E L Q x1 x2 (ws_put w1 7 0 3 a3))) (fun e w => Q (.inr e) w)))))))
theorem zt_X8_add_p0 {E : zE} {L : Nat} {Q : kx_Rs → wS → Prop} {x1 : Option Nat} {x2 : Int32} {w : wS} (hL : 60 ≤ L) (h : zb_X8_add_p0 E L Q x1 x2 w) : kzE E L kt_M297 0 [(0, .ref (w_adr E.2.1 7 0)), (1, va_rf (x1)), (2, .int x2)] [] w Q := by
  unfold zb_X8_add_p0 at h
  refine kz_aload_n (M := kt_M297) kX8_add_c0.1 rfl ?_
  refine kz_gfi (M := kt_M297) (c := 7) (o := 0) kX8_add_c0.2.1 wf_X8_41 (.inl rfl) ?_
  refine kz_aload_n (M := kt_M297) kX8_add_c0.2.2.1 rfl ?_
  refine kz_gfa (M := kt_M297) (c := 7) (o := 0) kX8_add_c0.2.2.2.1 wf_X8_17 (.inl rfl) ?_
  refine kz_alen (M := kt_M297) (c := 7) (o := 0) (k := 3) (a := (w_d w 7 0 3)) (τ := 0) kX8_add_c0.2.2.2.2.1 ow_7_0_3 oa_7_0_3 (Nat.le_of_ble_eq_true rfl) ?_
  refine kz_icmp_ne (M := kt_M297) kX8_add_c0.2.2.2.2.2.1 (t := 56) rfl h (fun h => ?_) (fun h => ?_)
  · skip
    exact kz_weak [(0, .ref (w_adr E.2.1 7 0)), (1, va_rf (x1)), (2, .int x2)] ⟨rfl, ⟨rfl, ⟨rfl, trivial⟩⟩⟩ rfl (zt_X8_add_p56 hL  h)
  · skip
    refine kz_ic (M := kt_M297) 2 kX8_add_c0.2.2.2.2.2.2.1 rfl ?_
    refine kz_aload_n (M := kt_M297) kX8_add_c0.2.2.2.2.2.2.2.1 rfl ?_
    refine kz_gfi (M := kt_M297) (c := 7) (o := 0) kX8_add_c1.1 wf_X8_41 (.inl rfl) ?_
    refine kz_imul (M := kt_M297) kX8_add_c1.2.1 ?_
    refine kz_newr (M := kt_M297) (τ := 2) (C := "MeetingHouse$Symbol") kX8_add_c1.2.2.1 zkl_X8_9 zft_6 ot_6 zao_6 h (fun h => ?_)
    refine kz_sta_n (M := kt_M297) [(0, .ref (w_adr E.2.1 7 0)), (1, va_rf (x1)), (2, .int x2)] kX8_add_c1.2.2.2.1 (Nat.le_of_ble_eq_true rfl) ⟨⟨rfl, rfl, .inl rfl⟩, ⟨⟨rfl, rfl, .inl rfl⟩, ⟨⟨rfl, rfl, .inr rfl⟩, trivial⟩⟩⟩ rfl ?_
    refine kz_aload_n (M := kt_M297) kX8_add_c1.2.2.2.2.1 rfl ?_
    refine kz_gfa (M := kt_M297) (c := 7) (o := 0) kX8_add_c1.2.2.2.2.2.1 wf_X8_11 (.inl rfl) ?_
    refine kz_ic (M := kt_M297) 0 kX8_add_c1.2.2.2.2.2.2.1 rfl ?_
    refine kz_aload_n (M := kt_M297) kX8_add_c1.2.2.2.2.2.2.2.1 rfl ?_
    refine kz_ic (M := kt_M297) 0 kX8_add_c2.1 rfl ?_
    refine kz_aload_n (M := kt_M297) kX8_add_c2.2.1 rfl ?_
    refine kz_gfi (M := kt_M297) (c := 7) (o := 0) kX8_add_c2.2.2.1 wf_X8_41 (.inl rfl) ?_
    obtain ⟨h0, h⟩ := h
    refine kz_cpyr (M := kt_M297) (τ := 2) (ci := 15) (c0 := 7) (o0 := 0) (k0 := 2) (c := 99) (o := (w_z w)) (k := 0) (a0 := (w_d (ws_new w 6 ((2 * (w_i w 7 0 4))).toNatClampNeg) 7 0 2)) (a := (w_z w)) kX8_add_c2.2.2.2.1 (zac_X8_161) rfl rfl rfl rfl rfl ow_7_0_2 oa_7_0_2 (.inl ⟨rfl, rfl, h0.1, h0.2⟩) rfl (Nat.le_trans (by simp [kx_cat, w_cat, zac_w, z_ci, z_cr, z_cl, z_cn]) hL) h (fun h => ?_)
    refine kz_aload_n (M := kt_M297) kX8_add_c2.2.2.2.2.1 rfl ?_
    refine kz_aload_n (M := kt_M297) kX8_add_c2.2.2.2.2.2.1 rfl ?_
    refine kz_pfa (M := kt_M297) (c := 7) (o := 0) (τ := 6) kX8_add_c2.2.2.2.2.2.2.1 wq_X8_11 (.inl rfl) rfl h (fun h => ?_)
    refine kz_aload_n (M := kt_M297) kX8_add_c2.2.2.2.2.2.2.2.1 rfl ?_
    refine kz_aload_n (M := kt_M297) kX8_add_c3.1 rfl ?_
    refine kz_gfa (M := kt_M297) (c := 7) (o := 0) kX8_add_c3.2.1 wf_X8_17 (.inl rfl) ?_
    refine kz_aload_n (M := kt_M297) kX8_add_c3.2.2.1 rfl ?_
    refine kz_gfi (M := kt_M297) (c := 7) (o := 0) kX8_add_c3.2.2.2.1 wf_X8_41 (.inl rfl) ?_
    refine kz_csr (M := kt_M297) (As := [.ref (w_d (ws_put (ws_R (ws_new w 6 ((2 * (w_i w 7 0 4))).toNatClampNeg) 99 (w_z w) 0 (va_cpy (w_r (ws_new w 6 ((2 * (w_i w 7 0 4))).toNatClampNeg) 7 0 2) (w_r (ws_new w 6 ((2 * (w_i w 7 0 4))).toNatClampNeg) 99 (w_z w) 0) (0 : Int32).toNatClampNeg (0 : Int32).toNatClampNeg (w_i (ws_new w 6 ((2 * (w_i w 7 0 4))).toNatClampNeg) 7 0 4).toNatClampNeg)) 7 0 2 (w_z w)) 7 0 3), .int (w_i (ws_put (ws_R (ws_new w 6 ((2 * (w_i w 7 0 4))).toNatClampNeg) 99 (w_z w) 0 (va_cpy (w_r (ws_new w 6 ((2 * (w_i w 7 0 4))).toNatClampNeg) 7 0 2) (w_r (ws_new w 6 ((2 * (w_i w 7 0 4))).toNatClampNeg) 99 (w_z w) 0) (0 : Int32).toNatClampNeg (0 : Int32).toNatClampNeg (w_i (ws_new w 6 ((2 * (w_i w 7 0 4))).toNatClampNeg) 7 0 4).toNatClampNeg)) 7 0 2 (w_z w)) 7 0 4)]) (rest := [.ref (w_adr E.2.1 7 0)]) kX8_add_c3.2.2.2.2.1 wl_X8_167 wMs_313 rfl (Nat.le_trans (Nat.le_of_ble_eq_true rfl) hL) (Nat.le_of_ble_eq_true rfl) (Nat.le_of_ble_eq_true rfl) h (fun v2 w1 hle h => ?_) (fun _ _ _ h => kzx_no rfl h)
    have h := h hle
    obtain ⟨a3, hx, h⟩ := h
    refine kz_nz0 (M := kt_M297) (x := v2) hx ?_
    refine kz_pfa (M := kt_M297) (c := 7) (o := 0) (τ := 0) kX8_add_c3.2.2.2.2.2.1 wq_X8_17 (.inl rfl) rfl h (fun h => ?_)
    exact kz_weak [(0, .ref (w_adr E.2.1 7 0)), (1, va_rf (x1)), (2, .int x2)] ⟨rfl, ⟨rfl, ⟨rfl, trivial⟩⟩⟩ rfl (zt_X8_add_p56 hL  h)
def zL_X8_release_p0 (E : zE) (L : Nat) (Q : kx_Rs → wS → Prop) (w : wS) : Prop := kzE E L kt_M322 0 [(0, .ref (w_adr E.2.1 7 0))] [] w Q
def zb_X8_release_p0 (E : zE) (L : Nat) (Q : kx_Rs → wS → Prop) (w : wS) : Prop := (if w_i w 7 0 10 ≤ 0 then Q (.inl none) (ws_i (ws_i w 7 0 7 0) 7 0 8 0) else (kx_inb ((w_i w 7 0 10) - 1) (w_n w 7 0 9) = true ∧ (∃ p1, w_r w 7 0 9 (((w_i w 7 0 10) - 1)).toNatClampNeg = some p1 ∧ w_l (ws_i w 7 0 10 ((w_i w 7 0 10) - 1)) E.2.1 15 p1 ∧ zL_X8_release_p0 E L Q (ws_i (ws_i w 7 0 10 ((w_i w 7 0 10) - 1)) 15 p1 29 (-1)))))
theorem zt_X8_release_p0 {E : zE} {L : Nat} {Q : kx_Rs → wS → Prop} {w : wS} (hL : 19 ≤ L) (h : zb_X8_release_p0 E L Q  w) : kzE E L kt_M322 0 [(0, .ref (w_adr E.2.1 7 0))] [] w Q := by
  unfold zb_X8_release_p0 at h
  refine kz_aload_n (M := kt_M322) kX8_release_c0.1 rfl ?_
  refine kz_gfi (M := kt_M322) (c := 7) (o := 0) kX8_release_c0.2.1 wf_X8_51 (.inl rfl) ?_
  refine kz_if_le (M := kt_M322) kX8_release_c0.2.2.1 (t := 30) rfl h (fun h => ?_) (fun h => ?_)
  · skip
    refine kz_aload_n (M := kt_M322) kX8_release_c2.1 rfl ?_
    refine kz_ic (M := kt_M322) 0 kX8_release_c2.2.1 rfl ?_
    refine kz_pfi (M := kt_M322) (c := 7) (o := 0) kX8_release_c2.2.2.1 wq_X8_45 (.inl rfl) ?_
    refine kz_aload_n (M := kt_M322) kX8_release_c2.2.2.2.1 rfl ?_
    refine kz_ic (M := kt_M322) 0 kX8_release_c2.2.2.2.2.1 rfl ?_
    refine kz_pfi (M := kt_M322) (c := 7) (o := 0) kX8_release_c2.2.2.2.2.2.1 wq_X8_48 (.inl rfl) ?_
    exact kz_ret (M := kt_M322) kX8_release_c2.2.2.2.2.2.2.1 rfl h
  · skip
    refine kz_aload_n (M := kt_M322) kX8_release_c0.2.2.2.1 rfl ?_
    refine kz_gfa (M := kt_M322) (c := 7) (o := 0) kX8_release_c0.2.2.2.2.1 wf_X8_27 (.inl rfl) ?_
    refine kz_aload_n (M := kt_M322) kX8_release_c0.2.2.2.2.2.1 rfl ?_
    refine kz_dup (M := kt_M322) kX8_release_c0.2.2.2.2.2.2.1 rfl ?_
    refine kz_gfi (M := kt_M322) (c := 7) (o := 0) kX8_release_c0.2.2.2.2.2.2.2.1 wf_X8_51 (.inl rfl) ?_
    refine kz_ic (M := kt_M322) 1 kX8_release_c1.1 rfl ?_
    refine kz_isub (M := kt_M322) kX8_release_c1.2.1 ?_
    refine kz_dup_x1 (M := kt_M322) kX8_release_c1.2.2.1 ⟨rfl, rfl⟩ ?_
    refine kz_pfi (M := kt_M322) (c := 7) (o := 0) kX8_release_c1.2.2.2.1 wq_X8_51 (.inl rfl) ?_
    refine kz_aaldR (M := kt_M322) (τ := 2) (n := w_n w 7 0 9) (c := 7) (o := 0) (k := 9) (a := (w_d w 7 0 9)) (w_r w 7 0 9 (((w_i w 7 0 10) - 1)).toNatClampNeg) kX8_release_c1.2.2.2.2.1 ow_7_0_9 rfl ot_6 rfl rd_n_i rd_r_i h (fun h => ?_)
    refine kz_ic (M := kt_M322) (-1) kX8_release_c1.2.2.2.2.2.1 rfl ?_
    obtain ⟨p1, hxp1, hlp1, h⟩ := h
    refine kz_nz1 (x := w_r w 7 0 9 (((w_i w 7 0 10) - 1)).toNatClampNeg) hxp1 ?_
    refine kz_pfi (M := kt_M322) (c := 15) (o := p1) kX8_release_c1.2.2.2.2.2.2.1 wq_X8_141 (.inr (by exact hlp1)) ?_
    refine kz_goto (M := kt_M322) kX8_release_c1.2.2.2.2.2.2.2.1 (t := 0) rfl ?_
    exact kz_weak [(0, .ref (w_adr E.2.1 7 0))] ⟨rfl, trivial⟩ rfl h
def zL_X8_act_p272 (E : zE) (L : Nat) (Q : kx_Rs → wS → Prop) (x1 : Option Nat) (x2 : Int32) (x4 : Option Nat) (w : wS) : Prop := kzE E L kt_M294 272 [(0, .ref (w_adr E.2.1 7 0)), (1, va_rf (x1)), (2, .int x2), (4, va_rf (x4))] [] w Q
def zL_X8_act_p170 (E : zE) (L : Nat) (Q : kx_Rs → wS → Prop) (x1 : Option Nat) (x2 : Int32) (x4 : Option Nat) (w : wS) : Prop := kzE E L kt_M294 170 [(0, .ref (w_adr E.2.1 7 0)), (1, va_rf (x1)), (2, .int x2), (4, va_rf (x4))] [] w Q
def zb_X8_act_p324 (E : zE) (L : Nat) (Q : kx_Rs → wS → Prop) (x1 : Option Nat) (x2 : Int32) (w : wS) : Prop := zw E (L - 24) kt_M332 [.ref (w_adr E.2.1 7 0), va_rf (x1), .int x2] w (wk0 (fun w1 => wle w w1 → Q (.inl none) w1) (fun e w => Q (.inr e) w))
theorem zt_X8_act_p324 {E : zE} {L : Nat} {Q : kx_Rs → wS → Prop} {x1 : Option Nat} {x2 : Int32} {w : wS} (hL : 25 ≤ L) (h : zb_X8_act_p324 E L Q x1 x2 w) : kzE E L kt_M294 324 [(0, .ref (w_adr E.2.1 7 0)), (1, va_rf (x1)), (2, .int x2)] [] w Q := by
  unfold zb_X8_act_p324 at h
  refine kz_aload_n (M := kt_M294) kX8_act_c14.2.2.1 rfl ?_
  refine kz_aload_nv (M := kt_M294) (x := x1) kX8_act_c14.2.2.2.1 rfl ?_
  refine kz_iload_n (M := kt_M294) kX8_act_c14.2.2.2.2.1 rfl ?_
  refine kz_cv0 (M := kt_M294) (c := 7) (o := 0) (As := [va_rf (x1), .int x2]) (rest := []) kX8_act_c14.2.2.2.2.2.1 wl_X8_225 wMv_332 rfl (.inl rfl) rfl (Nat.le_trans (Nat.le_of_ble_eq_true rfl) hL) (by simp [lg_sl, w_cat, z_ci, z_cr, z_cl, z_cn, kt_M332]) (Nat.le_of_ble_eq_true rfl) h (fun w1 hle h => ?_) (fun _ _ _ h => kzx_no rfl h)
  have h := h hle
  exact kz_ret (M := kt_M294) kX8_act_c14.2.2.2.2.2.2.1 rfl h
def zb_X8_act_p311 (E : zE) (L : Nat) (Q : kx_Rs → wS → Prop) (x1 : Option Nat) (x2 : Int32) (x4 : Option Nat) (w : wS) : Prop := (∃ p1, x4 = some p1 ∧ w_l w E.2.1 14 p1 ∧ zL_X8_act_p272 E L Q x1 x2 (w_p w 14 p1 7) w)
theorem zt_X8_act_p311 {E : zE} {L : Nat} {Q : kx_Rs → wS → Prop} {x1 : Option Nat} {x2 : Int32} {x4 : Option Nat} {w : wS} (hL : 25 ≤ L) (h : zb_X8_act_p311 E L Q x1 x2 x4 w) : kzE E L kt_M294 311 [(0, .ref (w_adr E.2.1 7 0)), (1, va_rf (x1)), (2, .int x2), (4, va_rf (x4))] [] w Q := by
  unfold zb_X8_act_p311 at h
  refine kz_aloadv (M := kt_M294) (x := x4) kX8_act_c13.2.2.2.2.2.1 rfl ?_
  obtain ⟨p1, hxp1, hlp1, h⟩ := h
  refine kz_nz0 (x := x4) hxp1 ?_
  refine kz_gfp (M := kt_M294) (c := 14) (o := p1) kX8_act_c13.2.2.2.2.2.2.1 wf_X8_67 (.inr (by exact hlp1)) ?_
  refine kz_stv (M := kt_M294) (x := w_p w 14 p1 7) [(0, .ref (w_adr E.2.1 7 0)), (1, va_rf (x1)), (2, .int x2)] kX8_act_c13.2.2.2.2.2.2.2.1 (Nat.le_of_ble_eq_true rfl) ⟨⟨rfl, rfl, .inl rfl⟩, ⟨⟨rfl, rfl, .inl rfl⟩, ⟨⟨rfl, rfl, .inl rfl⟩, trivial⟩⟩⟩ rfl ?_
  refine kz_goto (M := kt_M294) kX8_act_c14.1 (t := 272) rfl ?_
  exact kz_weak [(0, .ref (w_adr E.2.1 7 0)), (1, va_rf (x1)), (2, .int x2), (4, va_rf (w_p w 14 p1 7))] ⟨rfl, ⟨rfl, ⟨rfl, ⟨rfl, trivial⟩⟩⟩⟩ rfl h
def zb_X8_act_p295 (E : zE) (L : Nat) (Q : kx_Rs → wS → Prop) (x1 : Option Nat) (x2 : Int32) (x4 : Option Nat) (w : wS) : Prop := (∃ p1, x4 = some p1 ∧ w_l w E.2.1 14 p1 ∧ (w_p w 7 0 1 = some (w_adr E.2.1 5 0) ∧ zw E (L - 22) kt_M320 [.ref (w_adr E.2.1 7 0), va_rf (w_p w 14 p1 3), va_rf (w_p w 5 0 5)] w (wk0 (fun w3 => wle w w3 → zb_X8_act_p311 E L Q x1 x2 x4 w3) (fun e w => Q (.inr e) w))))
theorem zt_X8_act_p295 {E : zE} {L : Nat} {Q : kx_Rs → wS → Prop} {x1 : Option Nat} {x2 : Int32} {x4 : Option Nat} {w : wS} (hL : 25 ≤ L) (h : zb_X8_act_p295 E L Q x1 x2 x4 w) : kzE E L kt_M294 295 [(0, .ref (w_adr E.2.1 7 0)), (1, va_rf (x1)), (2, .int x2), (4, va_rf (x4))] [] w Q := by
  unfold zb_X8_act_p295 at h
  refine kz_aload_n (M := kt_M294) kX8_act_c12.2.2.2.2.2.2.1 rfl ?_
  refine kz_aloadv (M := kt_M294) (x := x4) kX8_act_c12.2.2.2.2.2.2.2.1 rfl ?_
  obtain ⟨p1, hxp1, hlp1, h⟩ := h
  refine kz_nz0 (x := x4) hxp1 ?_
  refine kz_gfp (M := kt_M294) (c := 14) (o := p1) kX8_act_c13.1 wf_X8_58 (.inr (by exact hlp1)) ?_
  refine kz_aload_n (M := kt_M294) kX8_act_c13.2.1 rfl ?_
  refine kz_gfp (M := kt_M294) (c := 7) (o := 0) kX8_act_c13.2.2.1 wf_X8_37 (.inl rfl) ?_
  obtain ⟨hf2, h⟩ := h
  refine kz_nz0 (x := w_p w 7 0 1) hf2 ?_
  refine kz_gfp (M := kt_M294) (c := 5) (o := 0) kX8_act_c13.2.2.2.1 wf_X8_210 (.inl rfl) ?_
  refine kz_cv0 (M := kt_M294) (c := 7) (o := 0) (As := [va_rf (w_p w 14 p1 3), va_rf (w_p w 5 0 5)]) (rest := []) kX8_act_c13.2.2.2.2.1 wl_X8_215 wMv_320 rfl (.inl rfl) rfl (Nat.le_trans (Nat.le_of_ble_eq_true rfl) hL) (by simp [lg_sl, w_cat, z_ci, z_cr, z_cl, z_cn, kt_M320]) (Nat.le_of_ble_eq_true rfl) h (fun w3 hle h => ?_) (fun _ _ _ h => kzx_no rfl h)
  have h := h hle
  have hlp1 := w_l_le hlp1 hle
  exact kz_weak [(0, .ref (w_adr E.2.1 7 0)), (1, va_rf (x1)), (2, .int x2), (4, va_rf (x4))] ⟨rfl, ⟨rfl, ⟨rfl, ⟨rfl, trivial⟩⟩⟩⟩ rfl (zt_X8_act_p311 hL  h)
def zb_X8_act_p272 (E : zE) (L : Nat) (Q : kx_Rs → wS → Prop) (x1 : Option Nat) (x2 : Int32) (x4 : Option Nat) (w : wS) : Prop := (if x4 = none then zb_X8_act_p324 E L Q x1 x2 w else (∃ p1, x4 = some p1 ∧ w_l w E.2.1 14 p1 ∧ (if w_i w 14 p1 10 = 1 then zb_X8_act_p295 E L Q x1 x2 x4 w else (if ¬ w_i w 14 p1 10 = 3 then zb_X8_act_p311 E L Q x1 x2 x4 w else zb_X8_act_p295 E L Q x1 x2 x4 w))))
theorem zt_X8_act_p272 {E : zE} {L : Nat} {Q : kx_Rs → wS → Prop} {x1 : Option Nat} {x2 : Int32} {x4 : Option Nat} {w : wS} (hL : 25 ≤ L) (h : zb_X8_act_p272 E L Q x1 x2 x4 w) : kzE E L kt_M294 272 [(0, .ref (w_adr E.2.1 7 0)), (1, va_rf (x1)), (2, .int x2), (4, va_rf (x4))] [] w Q := by
  unfold zb_X8_act_p272 at h
  refine kz_aloadv (M := kt_M294) (x := x4) kX8_act_c11.2.2.2.2.1 rfl ?_
  refine kz_ifnull (M := kt_M294) (x := x4) kX8_act_c11.2.2.2.2.2.1 (t := 321) rfl h (fun h => ?_) (fun h => ?_)
  · skip
    refine kz_goto (M := kt_M294) kX8_act_c14.2.1 (t := 324) rfl ?_
    exact kz_weak [(0, .ref (w_adr E.2.1 7 0)), (1, va_rf (x1)), (2, .int x2)] ⟨rfl, ⟨rfl, ⟨rfl, trivial⟩⟩⟩ rfl (zt_X8_act_p324 hL  h)
  · skip
    refine kz_aloadv (M := kt_M294) (x := x4) kX8_act_c11.2.2.2.2.2.2.1 rfl ?_
    obtain ⟨p1, hxp1, hlp1, h⟩ := h
    refine kz_nz0 (x := x4) hxp1 ?_
    refine kz_gfi (M := kt_M294) (c := 14) (o := p1) kX8_act_c11.2.2.2.2.2.2.2.1 wf_X8_88 (.inr (by exact hlp1)) ?_
    refine kz_ic (M := kt_M294) 1 kX8_act_c12.1 rfl ?_
    refine kz_icmp_eq (M := kt_M294) kX8_act_c12.2.1 (t := 295) rfl h (fun h => ?_) (fun h => ?_)
    · skip
      exact kz_weak [(0, .ref (w_adr E.2.1 7 0)), (1, va_rf (x1)), (2, .int x2), (4, va_rf (x4))] ⟨rfl, ⟨rfl, ⟨rfl, ⟨rfl, trivial⟩⟩⟩⟩ rfl (zt_X8_act_p295 hL  h)
    · skip
      refine kz_aloadv (M := kt_M294) (x := x4) kX8_act_c12.2.2.1 rfl ?_
      refine kz_nz0 (x := x4) hxp1 ?_
      refine kz_gfi (M := kt_M294) (c := 14) (o := p1) kX8_act_c12.2.2.2.1 wf_X8_88 (.inr (by exact hlp1)) ?_
      refine kz_ic (M := kt_M294) 3 kX8_act_c12.2.2.2.2.1 rfl ?_
      refine kz_icmp_ne (M := kt_M294) kX8_act_c12.2.2.2.2.2.1 (t := 311) rfl h (fun h => ?_) (fun h => ?_)
      · skip
        exact kz_weak [(0, .ref (w_adr E.2.1 7 0)), (1, va_rf (x1)), (2, .int x2), (4, va_rf (x4))] ⟨rfl, ⟨rfl, ⟨rfl, ⟨rfl, trivial⟩⟩⟩⟩ rfl (zt_X8_act_p311 hL  h)
      · skip
        exact kz_weak [(0, .ref (w_adr E.2.1 7 0)), (1, va_rf (x1)), (2, .int x2), (4, va_rf (x4))] ⟨rfl, ⟨rfl, ⟨rfl, ⟨rfl, trivial⟩⟩⟩⟩ rfl (zt_X8_act_p295 hL  h)
def zb_X8_act_p218 (E : zE) (L : Nat) (Q : kx_Rs → wS → Prop) (x1 : Option Nat) (x2 : Int32) (w : wS) : Prop := zb_X8_act_p324 E L Q x1 x2 w
theorem zt_X8_act_p218 {E : zE} {L : Nat} {Q : kx_Rs → wS → Prop} {x1 : Option Nat} {x2 : Int32} {w : wS} (hL : 25 ≤ L) (h : zb_X8_act_p218 E L Q x1 x2 w) : kzE E L kt_M294 218 [(0, .ref (w_adr E.2.1 7 0)), (1, va_rf (x1)), (2, .int x2)] [] w Q := by
  unfold zb_X8_act_p218 at h
  refine kz_goto (M := kt_M294) kX8_act_c8.2.2.2.1 (t := 324) rfl ?_
  exact kz_weak [(0, .ref (w_adr E.2.1 7 0)), (1, va_rf (x1)), (2, .int x2)] ⟨rfl, ⟨rfl, ⟨rfl, trivial⟩⟩⟩ rfl (zt_X8_act_p324 hL  h)
def zb_X8_act_p208 (E : zE) (L : Nat) (Q : kx_Rs → wS → Prop) (x1 : Option Nat) (x2 : Int32) (x4 : Option Nat) (w : wS) : Prop := (∃ p1, x4 = some p1 ∧ w_l w E.2.1 14 p1 ∧ zL_X8_act_p170 E L Q x1 x2 (w_p w 14 p1 7) w)
theorem zt_X8_act_p208 {E : zE} {L : Nat} {Q : kx_Rs → wS → Prop} {x1 : Option Nat} {x2 : Int32} {x4 : Option Nat} {w : wS} (hL : 25 ≤ L) (h : zb_X8_act_p208 E L Q x1 x2 x4 w) : kzE E L kt_M294 208 [(0, .ref (w_adr E.2.1 7 0)), (1, va_rf (x1)), (2, .int x2), (4, va_rf (x4))] [] w Q := by
  unfold zb_X8_act_p208 at h
  refine kz_aloadv (M := kt_M294) (x := x4) kX8_act_c7.2.2.2.2.2.2.2.1 rfl ?_
  obtain ⟨p1, hxp1, hlp1, h⟩ := h
  refine kz_nz0 (x := x4) hxp1 ?_
  refine kz_gfp (M := kt_M294) (c := 14) (o := p1) kX8_act_c8.1 wf_X8_67 (.inr (by exact hlp1)) ?_
  refine kz_stv (M := kt_M294) (x := w_p w 14 p1 7) [(0, .ref (w_adr E.2.1 7 0)), (1, va_rf (x1)), (2, .int x2)] kX8_act_c8.2.1 (Nat.le_of_ble_eq_true rfl) ⟨⟨rfl, rfl, .inl rfl⟩, ⟨⟨rfl, rfl, .inl rfl⟩, ⟨⟨rfl, rfl, .inl rfl⟩, trivial⟩⟩⟩ rfl ?_
  refine kz_goto (M := kt_M294) kX8_act_c8.2.2.1 (t := 170) rfl ?_
  exact kz_weak [(0, .ref (w_adr E.2.1 7 0)), (1, va_rf (x1)), (2, .int x2), (4, va_rf (w_p w 14 p1 7))] ⟨rfl, ⟨rfl, ⟨rfl, ⟨rfl, trivial⟩⟩⟩⟩ rfl h
def zb_X8_act_p170 (E : zE) (L : Nat) (Q : kx_Rs → wS → Prop) (x1 : Option Nat) (x2 : Int32) (x4 : Option Nat) (w : wS) : Prop := (if x4 = none then zb_X8_act_p218 E L Q x1 x2 w else (if x2 = (-1) then zb_X8_act_p218 E L Q x1 x2 w else (∃ p1, x4 = some p1 ∧ w_l w E.2.1 14 p1 ∧ zw E (L - 21) kt_M299 [va_rf (w_p w 14 p1 16)] w (wkr (fun v3 w2 => wle w w2 → (∃ p4, v3 = some p4 ∧ w_l w2 E.2.1 15 p4 ∧ (if x2 ≤ w_i w2 15 p4 3 then zb_X8_act_p208 E L Q x1 x2 x4 w2 else (∃ p5, x1 = some p5 ∧ w_l w2 E.2.1 14 p5 ∧ zw E (L - 22) kt_M56 [.ref (w_adr E.2.1 2 0), .int 11, .int (w_i w2 14 p5 2)] w2 (wk0 (fun w6 => wle w2 w6 → zb_X8_act_p208 E L Q x1 x2 x4 w6) (fun e w => Q (.inr e) w)))))) (fun e w => Q (.inr e) w)))))
theorem zt_X8_act_p170 {E : zE} {L : Nat} {Q : kx_Rs → wS → Prop} {x1 : Option Nat} {x2 : Int32} {x4 : Option Nat} {w : wS} (hL : 25 ≤ L) (h : zb_X8_act_p170 E L Q x1 x2 x4 w) : kzE E L kt_M294 170 [(0, .ref (w_adr E.2.1 7 0)), (1, va_rf (x1)), (2, .int x2), (4, va_rf (x4))] [] w Q := by
  unfold zb_X8_act_p170 at h
  refine kz_aloadv (M := kt_M294) (x := x4) kX8_act_c5.2.2.2.2.2.2.1 rfl ?_
  refine kz_ifnull (M := kt_M294) (x := x4) kX8_act_c5.2.2.2.2.2.2.2.1 (t := 218) rfl h (fun h => ?_) (fun h => ?_)
  · skip
    exact kz_weak [(0, .ref (w_adr E.2.1 7 0)), (1, va_rf (x1)), (2, .int x2)] ⟨rfl, ⟨rfl, ⟨rfl, trivial⟩⟩⟩ rfl (zt_X8_act_p218 hL  h)
  · skip
    refine kz_iload_n (M := kt_M294) kX8_act_c6.1 rfl ?_
    refine kz_ic (M := kt_M294) (-1) kX8_act_c6.2.1 rfl ?_
    refine kz_icmp_eq (M := kt_M294) kX8_act_c6.2.2.1 (t := 218) rfl h (fun h => ?_) (fun h => ?_)
    · skip
      exact kz_weak [(0, .ref (w_adr E.2.1 7 0)), (1, va_rf (x1)), (2, .int x2)] ⟨rfl, ⟨rfl, ⟨rfl, trivial⟩⟩⟩ rfl (zt_X8_act_p218 hL  h)
    · skip
      refine kz_aloadv (M := kt_M294) (x := x4) kX8_act_c6.2.2.2.1 rfl ?_
      obtain ⟨p1, hxp1, hlp1, h⟩ := h
      refine kz_nz0 (x := x4) hxp1 ?_
      refine kz_gfp (M := kt_M294) (c := 14) (o := p1) kX8_act_c6.2.2.2.2.1 wf_X8_131 (.inr (by exact hlp1)) ?_
      refine kz_csr (M := kt_M294) (As := [va_rf (w_p w 14 p1 16)]) (rest := []) kX8_act_c6.2.2.2.2.2.1 wl_X8_206 wMs_299 rfl (Nat.le_trans (Nat.le_of_ble_eq_true rfl) hL) (by simp [lg_sl, w_cat, z_ci, z_cr, z_cl, z_cn, kt_M299]) (Nat.le_of_ble_eq_true rfl) h (fun v3 w2 hle h => ?_) (fun _ _ _ h => kzx_no rfl h)
      have h := h hle
      have hlp1 := w_l_le hlp1 hle
      obtain ⟨p4, hxp4, hlp4, h⟩ := h
      refine kz_nz0 (x := v3) hxp4 ?_
      refine kz_gfi (M := kt_M294) (c := 15) (o := p4) kX8_act_c6.2.2.2.2.2.2.1 wf_X8_148 (.inr (by exact hlp4)) ?_
      refine kz_iload_n (M := kt_M294) kX8_act_c6.2.2.2.2.2.2.2.1 rfl ?_
      refine kz_icmp_ge (M := kt_M294) kX8_act_c7.1 (t := 208) rfl h (fun h => ?_) (fun h => ?_)
      · skip
        exact kz_weak [(0, .ref (w_adr E.2.1 7 0)), (1, va_rf (x1)), (2, .int x2), (4, va_rf (x4))] ⟨rfl, ⟨rfl, ⟨rfl, ⟨rfl, trivial⟩⟩⟩⟩ rfl (zt_X8_act_p208 hL  h)
      · skip
        refine kz_aload_n (M := kt_M294) kX8_act_c7.2.1 rfl ?_
        refine kz_gfc (M := kt_M294) (x := 8) (c := 7) (o := 0) kX8_act_c7.2.2.1 wf_X8_33 (.inl rfl) ?_
        refine kz_bi (M := kt_M294) 11 kX8_act_c7.2.2.2.1 rfl ?_
        refine kz_aload_nv (M := kt_M294) (x := x1) kX8_act_c7.2.2.2.2.1 rfl ?_
        obtain ⟨p5, hxp5, hlp5, h⟩ := h
        refine kz_nz0 (x := x1) hxp5 ?_
        refine kz_gfi (M := kt_M294) (c := 14) (o := p5) kX8_act_c7.2.2.2.2.2.1 wf_X8_195 (.inr (by exact hlp5)) ?_
        refine kz_cv0 (M := kt_M294) (c := 2) (o := 0) (As := [.int 11, .int (w_i w2 14 p5 2)]) (rest := []) kX8_act_c7.2.2.2.2.2.2.1 wl_X8_196 wMv_56 rfl (.inl rfl) rfl (Nat.le_trans (Nat.le_of_ble_eq_true rfl) hL) (Nat.le_of_ble_eq_true rfl) (Nat.le_of_ble_eq_true rfl) h (fun w6 hle h => ?_) (fun _ _ _ h => kzx_no rfl h)
        have h := h hle
        have hlp1 := w_l_le hlp1 hle
        have hlp4 := w_l_le hlp4 hle
        have hlp5 := w_l_le hlp5 hle
        exact kz_weak [(0, .ref (w_adr E.2.1 7 0)), (1, va_rf (x1)), (2, .int x2), (4, va_rf (x4))] ⟨rfl, ⟨rfl, ⟨rfl, ⟨rfl, trivial⟩⟩⟩⟩ rfl (zt_X8_act_p208 hL  h)
def zb_X8_act_p88 (E : zE) (L : Nat) (Q : kx_Rs → wS → Prop) (x1 : Option Nat) (x2 : Int32) (w : wS) : Prop := (∃ p1, x1 = some p1 ∧ w_l w E.2.1 14 p1 ∧ (∃ i2, zO E "MeetingHouse$Kind" (w_p w 14 p1 0) i2 ∧ (if (kw_on i2) = 16 then zL_X8_act_p170 E L Q x1 x2 (w_p w 14 p1 3) w else (if (kw_on i2) = 17 then (w_p w 7 0 1 = some (w_adr E.2.1 5 0) ∧ zw E (L - 22) kt_M320 [.ref (w_adr E.2.1 7 0), va_rf (w_p w 14 p1 3), va_rf (w_p w 5 0 5)] w (wk0 (fun w4 => wle w w4 → zb_X8_act_p324 E L Q x1 x2 w4) (fun e w => Q (.inr e) w))) else (if (kw_on i2) = 18 then (w_p w 7 0 1 = some (w_adr E.2.1 5 0) ∧ zw E (L - 22) kt_M320 [.ref (w_adr E.2.1 7 0), va_rf (w_p w 14 p1 3), va_rf (w_p w 5 0 6)] w (wk0 (fun w7 => wle w w7 → zb_X8_act_p324 E L Q x1 x2 w7) (fun e w => Q (.inr e) w))) else (if (kw_on i2) = 20 then (w_p w 7 0 1 = some (w_adr E.2.1 5 0) ∧ zw E (L - 22) kt_M320 [.ref (w_adr E.2.1 7 0), va_rf (w_p w 14 p1 3), va_rf (w_p w 5 0 5)] w (wk0 (fun w10 => wle w w10 → zb_X8_act_p324 E L Q x1 x2 w10) (fun e w => Q (.inr e) w))) else (if (kw_on i2) = 21 then zw E (L - 25) kt_M303 [.ref (w_adr E.2.1 7 0), va_rf (x1), .int x2] w (wk0 (fun w12 => wle w w12 → zb_X8_act_p324 E L Q x1 x2 w12) (fun e w => Q (.inr e) w)) else (if (kw_on i2) = 29 then zL_X8_act_p272 E L Q x1 x2 (w_p w 14 p1 4) w else zb_X8_act_p324 E L Q x1 x2 w))))))))
theorem zt_X8_act_p88 {E : zE} {L : Nat} {Q : kx_Rs → wS → Prop} {x1 : Option Nat} {x2 : Int32} {w : wS} (hL : 25 ≤ L) (h : zb_X8_act_p88 E L Q x1 x2 w) : kzE E L kt_M294 88 [(0, .ref (w_adr E.2.1 7 0)), (1, va_rf (x1)), (2, .int x2)] [] w Q := by
  unfold zb_X8_act_p88 at h
  refine kz_aload_nv (M := kt_M294) (x := x1) kX8_act_c4.2.2.2.2.2.2.2.1 rfl ?_
  obtain ⟨p1, hxp1, hlp1, h⟩ := h
  refine kz_nz0 (x := x1) hxp1 ?_
  refine kz_gfp (M := kt_M294) (c := 14) (o := p1) kX8_act_c5.1 wf_X8_76 (.inr (by exact hlp1)) ?_
  obtain ⟨i2, ho, h⟩ := h
  refine kz_ord (M := kt_M294) (x := w_p w 14 p1 0) (i := i2) (C := "MeetingHouse$Kind") kX8_act_c5.2.1 zo_l_X8 zo_m_X8 zo_s_Kind zo_u_X8 (Nat.le_trans (Nat.le_of_ble_eq_true rfl) hL) (Nat.le_of_ble_eq_true rfl) ho ?_
  refine kz_tsw (M := kt_M294) [(16, 164), (17, 221), (18, 239), (20, 221), (21, 257), (29, 266)] [_, _, _, _, _, _] 324 dX8_act_p95 (by decide +kernel) h ⟨fun h => ?_, fun h => ?_, fun h => ?_, fun h => ?_, fun h => ?_, fun h => ?_, trivial⟩ (fun h => ?_)
  · skip
    refine kz_aload_nv (M := kt_M294) (x := x1) kX8_act_c5.2.2.2.1 rfl ?_
    refine kz_nz0 (x := x1) hxp1 ?_
    refine kz_gfp (M := kt_M294) (c := 14) (o := p1) kX8_act_c5.2.2.2.2.1 wf_X8_58 (.inr (by exact hlp1)) ?_
    refine kz_stv (M := kt_M294) (x := w_p w 14 p1 3) [(0, .ref (w_adr E.2.1 7 0)), (1, va_rf (x1)), (2, .int x2)] kX8_act_c5.2.2.2.2.2.1 (Nat.le_of_ble_eq_true rfl) ⟨⟨rfl, rfl, .inl rfl⟩, ⟨⟨rfl, rfl, .inl rfl⟩, ⟨⟨rfl, rfl, .inl rfl⟩, trivial⟩⟩⟩ rfl ?_
    exact kz_weak [(0, .ref (w_adr E.2.1 7 0)), (1, va_rf (x1)), (2, .int x2), (4, va_rf (w_p w 14 p1 3))] ⟨rfl, ⟨rfl, ⟨rfl, ⟨rfl, trivial⟩⟩⟩⟩ rfl h
  · skip
    refine kz_aload_n (M := kt_M294) kX8_act_c8.2.2.2.2.1 rfl ?_
    refine kz_aload_nv (M := kt_M294) (x := x1) kX8_act_c8.2.2.2.2.2.1 rfl ?_
    refine kz_nz0 (x := x1) hxp1 ?_
    refine kz_gfp (M := kt_M294) (c := 14) (o := p1) kX8_act_c8.2.2.2.2.2.2.1 wf_X8_58 (.inr (by exact hlp1)) ?_
    refine kz_aload_n (M := kt_M294) kX8_act_c8.2.2.2.2.2.2.2.1 rfl ?_
    refine kz_gfp (M := kt_M294) (c := 7) (o := 0) kX8_act_c9.1 wf_X8_37 (.inl rfl) ?_
    obtain ⟨hf3, h⟩ := h
    refine kz_nz0 (x := w_p w 7 0 1) hf3 ?_
    refine kz_gfp (M := kt_M294) (c := 5) (o := 0) kX8_act_c9.2.1 wf_X8_210 (.inl rfl) ?_
    refine kz_cv0 (M := kt_M294) (c := 7) (o := 0) (As := [va_rf (w_p w 14 p1 3), va_rf (w_p w 5 0 5)]) (rest := []) kX8_act_c9.2.2.1 wl_X8_215 wMv_320 rfl (.inl rfl) rfl (Nat.le_trans (Nat.le_of_ble_eq_true rfl) hL) (by simp [lg_sl, w_cat, z_ci, z_cr, z_cl, z_cn, kt_M320]) (Nat.le_of_ble_eq_true rfl) h (fun w4 hle h => ?_) (fun _ _ _ h => kzx_no rfl h)
    have h := h hle
    have hlp1 := w_l_le hlp1 hle
    refine kz_goto (M := kt_M294) kX8_act_c9.2.2.2.1 (t := 324) rfl ?_
    exact kz_weak [(0, .ref (w_adr E.2.1 7 0)), (1, va_rf (x1)), (2, .int x2)] ⟨rfl, ⟨rfl, ⟨rfl, trivial⟩⟩⟩ rfl (zt_X8_act_p324 hL  h)
  · skip
    refine kz_aload_n (M := kt_M294) kX8_act_c9.2.2.2.2.1 rfl ?_
    refine kz_aload_nv (M := kt_M294) (x := x1) kX8_act_c9.2.2.2.2.2.1 rfl ?_
    refine kz_nz0 (x := x1) hxp1 ?_
    refine kz_gfp (M := kt_M294) (c := 14) (o := p1) kX8_act_c9.2.2.2.2.2.2.1 wf_X8_58 (.inr (by exact hlp1)) ?_
    refine kz_aload_n (M := kt_M294) kX8_act_c9.2.2.2.2.2.2.2.1 rfl ?_
    refine kz_gfp (M := kt_M294) (c := 7) (o := 0) kX8_act_c10.1 wf_X8_37 (.inl rfl) ?_
    obtain ⟨hf6, h⟩ := h
    refine kz_nz0 (x := w_p w 7 0 1) hf6 ?_
    refine kz_gfp (M := kt_M294) (c := 5) (o := 0) kX8_act_c10.2.1 wf_X8_219 (.inl rfl) ?_
    refine kz_cv0 (M := kt_M294) (c := 7) (o := 0) (As := [va_rf (w_p w 14 p1 3), va_rf (w_p w 5 0 6)]) (rest := []) kX8_act_c10.2.2.1 wl_X8_215 wMv_320 rfl (.inl rfl) rfl (Nat.le_trans (Nat.le_of_ble_eq_true rfl) hL) (by simp [lg_sl, w_cat, z_ci, z_cr, z_cl, z_cn, kt_M320]) (Nat.le_of_ble_eq_true rfl) h (fun w7 hle h => ?_) (fun _ _ _ h => kzx_no rfl h)
    have h := h hle
    have hlp1 := w_l_le hlp1 hle
    refine kz_goto (M := kt_M294) kX8_act_c10.2.2.2.1 (t := 324) rfl ?_
    exact kz_weak [(0, .ref (w_adr E.2.1 7 0)), (1, va_rf (x1)), (2, .int x2)] ⟨rfl, ⟨rfl, ⟨rfl, trivial⟩⟩⟩ rfl (zt_X8_act_p324 hL  h)
  · skip
    refine kz_aload_n (M := kt_M294) kX8_act_c8.2.2.2.2.1 rfl ?_
    refine kz_aload_nv (M := kt_M294) (x := x1) kX8_act_c8.2.2.2.2.2.1 rfl ?_
    refine kz_nz0 (x := x1) hxp1 ?_
    refine kz_gfp (M := kt_M294) (c := 14) (o := p1) kX8_act_c8.2.2.2.2.2.2.1 wf_X8_58 (.inr (by exact hlp1)) ?_
    refine kz_aload_n (M := kt_M294) kX8_act_c8.2.2.2.2.2.2.2.1 rfl ?_
    refine kz_gfp (M := kt_M294) (c := 7) (o := 0) kX8_act_c9.1 wf_X8_37 (.inl rfl) ?_
    obtain ⟨hf9, h⟩ := h
    refine kz_nz0 (x := w_p w 7 0 1) hf9 ?_
    refine kz_gfp (M := kt_M294) (c := 5) (o := 0) kX8_act_c9.2.1 wf_X8_210 (.inl rfl) ?_
    refine kz_cv0 (M := kt_M294) (c := 7) (o := 0) (As := [va_rf (w_p w 14 p1 3), va_rf (w_p w 5 0 5)]) (rest := []) kX8_act_c9.2.2.1 wl_X8_215 wMv_320 rfl (.inl rfl) rfl (Nat.le_trans (Nat.le_of_ble_eq_true rfl) hL) (by simp [lg_sl, w_cat, z_ci, z_cr, z_cl, z_cn, kt_M320]) (Nat.le_of_ble_eq_true rfl) h (fun w10 hle h => ?_) (fun _ _ _ h => kzx_no rfl h)
    have h := h hle
    have hlp1 := w_l_le hlp1 hle
    refine kz_goto (M := kt_M294) kX8_act_c9.2.2.2.1 (t := 324) rfl ?_
    exact kz_weak [(0, .ref (w_adr E.2.1 7 0)), (1, va_rf (x1)), (2, .int x2)] ⟨rfl, ⟨rfl, ⟨rfl, trivial⟩⟩⟩ rfl (zt_X8_act_p324 hL  h)
  · skip
    refine kz_aload_n (M := kt_M294) kX8_act_c10.2.2.2.2.1 rfl ?_
    refine kz_aload_nv (M := kt_M294) (x := x1) kX8_act_c10.2.2.2.2.2.1 rfl ?_
    refine kz_iload_n (M := kt_M294) kX8_act_c10.2.2.2.2.2.2.1 rfl ?_
    refine kz_cv0 (M := kt_M294) (c := 7) (o := 0) (As := [va_rf (x1), .int x2]) (rest := []) kX8_act_c10.2.2.2.2.2.2.2.1 wl_X8_222 wMv_303 rfl (.inl rfl) rfl (Nat.le_trans (Nat.le_of_ble_eq_true rfl) hL) (by simp [lg_sl, w_cat, z_ci, z_cr, z_cl, z_cn, kt_M303]) (Nat.le_of_ble_eq_true rfl) h (fun w12 hle h => ?_) (fun _ _ _ h => kzx_no rfl h)
    have h := h hle
    have hlp1 := w_l_le hlp1 hle
    refine kz_goto (M := kt_M294) kX8_act_c11.1 (t := 324) rfl ?_
    exact kz_weak [(0, .ref (w_adr E.2.1 7 0)), (1, va_rf (x1)), (2, .int x2)] ⟨rfl, ⟨rfl, ⟨rfl, trivial⟩⟩⟩ rfl (zt_X8_act_p324 hL  h)
  · skip
    refine kz_aload_nv (M := kt_M294) (x := x1) kX8_act_c11.2.1 rfl ?_
    refine kz_nz0 (x := x1) hxp1 ?_
    refine kz_gfp (M := kt_M294) (c := 14) (o := p1) kX8_act_c11.2.2.1 wf_X8_70 (.inr (by exact hlp1)) ?_
    refine kz_stv (M := kt_M294) (x := w_p w 14 p1 4) [(0, .ref (w_adr E.2.1 7 0)), (1, va_rf (x1)), (2, .int x2)] kX8_act_c11.2.2.2.1 (Nat.le_of_ble_eq_true rfl) ⟨⟨rfl, rfl, .inl rfl⟩, ⟨⟨rfl, rfl, .inl rfl⟩, ⟨⟨rfl, rfl, .inl rfl⟩, trivial⟩⟩⟩ rfl ?_
    exact kz_weak [(0, .ref (w_adr E.2.1 7 0)), (1, va_rf (x1)), (2, .int x2), (4, va_rf (w_p w 14 p1 4))] ⟨rfl, ⟨rfl, ⟨rfl, ⟨rfl, trivial⟩⟩⟩⟩ rfl h
  · skip
    exact kz_weak [(0, .ref (w_adr E.2.1 7 0)), (1, va_rf (x1)), (2, .int x2)] ⟨rfl, ⟨rfl, ⟨rfl, trivial⟩⟩⟩ rfl (zt_X8_act_p324 hL  h)
def zb_X8_act_p65 (E : zE) (L : Nat) (Q : kx_Rs → wS → Prop) (x1 : Option Nat) (x2 : Int32) (y0 : Int32) (w : wS) : Prop := (if y0 = 0 then zb_X8_act_p88 E L Q x1 x2 w else (if x2 = (-1) then zb_X8_act_p88 E L Q x1 x2 w else (∃ p1, x1 = some p1 ∧ w_l w E.2.1 14 p1 ∧ zw E (L - 22) kt_M56 [.ref (w_adr E.2.1 2 0), .int 11, .int (w_i w 14 p1 2)] w (wk0 (fun w2 => wle w w2 → zb_X8_act_p88 E L Q x1 x2 w2) (fun e w => Q (.inr e) w)))))
theorem zt_X8_act_p65 {E : zE} {L : Nat} {Q : kx_Rs → wS → Prop} {x1 : Option Nat} {x2 : Int32} {y0 : Int32} {w : wS} (hL : 25 ≤ L) (h : zb_X8_act_p65 E L Q x1 x2 y0 w) : kzE E L kt_M294 65 [(0, .ref (w_adr E.2.1 7 0)), (1, va_rf (x1)), (2, .int x2)] [.int y0] w Q := by
  unfold zb_X8_act_p65 at h
  refine kz_sti_n (M := kt_M294) [(0, .ref (w_adr E.2.1 7 0)), (1, va_rf (x1)), (2, .int x2)] kX8_act_c3.2.2.2.1 (Nat.le_of_ble_eq_true rfl) ⟨⟨rfl, rfl, .inl rfl⟩, ⟨⟨rfl, rfl, .inl rfl⟩, ⟨⟨rfl, rfl, .inr rfl⟩, trivial⟩⟩⟩ rfl ?_
  refine kz_iload_n (M := kt_M294) kX8_act_c3.2.2.2.2.1 rfl ?_
  refine kz_if_eq (M := kt_M294) kX8_act_c3.2.2.2.2.2.1 (t := 88) rfl h (fun h => ?_) (fun h => ?_)
  · skip
    exact kz_weak [(0, .ref (w_adr E.2.1 7 0)), (1, va_rf (x1)), (2, .int x2)] ⟨rfl, ⟨rfl, ⟨rfl, trivial⟩⟩⟩ rfl (zt_X8_act_p88 hL  h)
  · skip
    refine kz_iload_n (M := kt_M294) kX8_act_c3.2.2.2.2.2.2.1 rfl ?_
    refine kz_ic (M := kt_M294) (-1) kX8_act_c3.2.2.2.2.2.2.2.1 rfl ?_
    refine kz_icmp_eq (M := kt_M294) kX8_act_c4.1 (t := 88) rfl h (fun h => ?_) (fun h => ?_)
    · skip
      exact kz_weak [(0, .ref (w_adr E.2.1 7 0)), (1, va_rf (x1)), (2, .int x2)] ⟨rfl, ⟨rfl, ⟨rfl, trivial⟩⟩⟩ rfl (zt_X8_act_p88 hL  h)
    · skip
      refine kz_aload_n (M := kt_M294) kX8_act_c4.2.1 rfl ?_
      refine kz_gfc (M := kt_M294) (x := 8) (c := 7) (o := 0) kX8_act_c4.2.2.1 wf_X8_33 (.inl rfl) ?_
      refine kz_bi (M := kt_M294) 11 kX8_act_c4.2.2.2.1 rfl ?_
      refine kz_aload_nv (M := kt_M294) (x := x1) kX8_act_c4.2.2.2.2.1 rfl ?_
      obtain ⟨p1, hxp1, hlp1, h⟩ := h
      refine kz_nz0 (x := x1) hxp1 ?_
      refine kz_gfi (M := kt_M294) (c := 14) (o := p1) kX8_act_c4.2.2.2.2.2.1 wf_X8_195 (.inr (by exact hlp1)) ?_
      refine kz_cv0 (M := kt_M294) (c := 2) (o := 0) (As := [.int 11, .int (w_i w 14 p1 2)]) (rest := []) kX8_act_c4.2.2.2.2.2.2.1 wl_X8_196 wMv_56 rfl (.inl rfl) rfl (Nat.le_trans (Nat.le_of_ble_eq_true rfl) hL) (Nat.le_of_ble_eq_true rfl) (Nat.le_of_ble_eq_true rfl) h (fun w2 hle h => ?_) (fun _ _ _ h => kzx_no rfl h)
      have h := h hle
      have hlp1 := w_l_le hlp1 hle
      exact kz_weak [(0, .ref (w_adr E.2.1 7 0)), (1, va_rf (x1)), (2, .int x2)] ⟨rfl, ⟨rfl, ⟨rfl, trivial⟩⟩⟩ rfl (zt_X8_act_p88 hL  h)
def zb_X8_act_p60 (E : zE) (L : Nat) (Q : kx_Rs → wS → Prop) (x1 : Option Nat) (x2 : Int32) (w : wS) : Prop := zb_X8_act_p65 E L Q x1 x2 1 w
theorem zt_X8_act_p60 {E : zE} {L : Nat} {Q : kx_Rs → wS → Prop} {x1 : Option Nat} {x2 : Int32} {w : wS} (hL : 25 ≤ L) (h : zb_X8_act_p60 E L Q x1 x2 w) : kzE E L kt_M294 60 [(0, .ref (w_adr E.2.1 7 0)), (1, va_rf (x1)), (2, .int x2)] [] w Q := by
  unfold zb_X8_act_p60 at h
  refine kz_ic (M := kt_M294) 1 kX8_act_c3.1 rfl ?_
  refine kz_goto (M := kt_M294) kX8_act_c3.2.1 (t := 65) rfl ?_
  exact kz_weak [(0, .ref (w_adr E.2.1 7 0)), (1, va_rf (x1)), (2, .int x2)] ⟨rfl, ⟨rfl, ⟨rfl, trivial⟩⟩⟩ rfl (zt_X8_act_p65 hL  h)
def zb_X8_act_p0 (E : zE) (L : Nat) (Q : kx_Rs → wS → Prop) (x1 : Option Nat) (x2 : Int32) (w : wS) : Prop := (∃ p1, x1 = some p1 ∧ w_l w E.2.1 14 p1 ∧ (if w_p w 14 p1 0 = some (E.1.1 40) then zb_X8_act_p60 E L Q x1 x2 w else (if w_p w 14 p1 0 = some (E.1.1 37) then zb_X8_act_p60 E L Q x1 x2 w else (if w_p w 14 p1 0 = some (E.1.1 38) then zb_X8_act_p60 E L Q x1 x2 w else (if w_p w 14 p1 0 = some (E.1.1 39) then zb_X8_act_p60 E L Q x1 x2 w else (if w_p w 14 p1 0 = some (E.1.1 51) then zb_X8_act_p60 E L Q x1 x2 w else (if ¬ w_p w 14 p1 0 = some (E.1.1 44) then zb_X8_act_p65 E L Q x1 x2 0 w else zb_X8_act_p60 E L Q x1 x2 w)))))))
theorem zt_X8_act_p0 {E : zE} {L : Nat} {Q : kx_Rs → wS → Prop} {x1 : Option Nat} {x2 : Int32} {w : wS} (hL : 25 ≤ L) (h : zb_X8_act_p0 E L Q x1 x2 w) : kzE E L kt_M294 0 [(0, .ref (w_adr E.2.1 7 0)), (1, va_rf (x1)), (2, .int x2)] [] w Q := by
  unfold zb_X8_act_p0 at h
  refine kz_aload_nv (M := kt_M294) (x := x1) kX8_act_c0.1 rfl ?_
  obtain ⟨p1, hxp1, hlp1, h⟩ := h
  refine kz_nz0 (x := x1) hxp1 ?_
  refine kz_gfp (M := kt_M294) (c := 14) (o := p1) kX8_act_c0.2.1 wf_X8_76 (.inr (by exact hlp1)) ?_
  refine kz_getsE (M := kt_M294) (v := va_rf (some (E.1.1 40))) kX8_act_c0.2.2.1 zs_X8_177 ?_
  refine kz_acmp_eq (M := kt_M294) (x := w_p w 14 p1 0) (y := some (E.1.1 40)) kX8_act_c0.2.2.2.1 (t := 60) rfl h (fun h => ?_) (fun h => ?_)
  · skip
    exact kz_weak [(0, .ref (w_adr E.2.1 7 0)), (1, va_rf (x1)), (2, .int x2)] ⟨rfl, ⟨rfl, ⟨rfl, trivial⟩⟩⟩ rfl (zt_X8_act_p60 hL  h)
  · skip
    refine kz_aload_nv (M := kt_M294) (x := x1) kX8_act_c0.2.2.2.2.1 rfl ?_
    refine kz_nz0 (x := x1) hxp1 ?_
    refine kz_gfp (M := kt_M294) (c := 14) (o := p1) kX8_act_c0.2.2.2.2.2.1 wf_X8_76 (.inr (by exact hlp1)) ?_
    refine kz_getsE (M := kt_M294) (v := va_rf (some (E.1.1 37))) kX8_act_c0.2.2.2.2.2.2.1 zs_X8_180 ?_
    refine kz_acmp_eq (M := kt_M294) (x := w_p w 14 p1 0) (y := some (E.1.1 37)) kX8_act_c0.2.2.2.2.2.2.2.1 (t := 60) rfl h (fun h => ?_) (fun h => ?_)
    · skip
      exact kz_weak [(0, .ref (w_adr E.2.1 7 0)), (1, va_rf (x1)), (2, .int x2)] ⟨rfl, ⟨rfl, ⟨rfl, trivial⟩⟩⟩ rfl (zt_X8_act_p60 hL  h)
    · skip
      refine kz_aload_nv (M := kt_M294) (x := x1) kX8_act_c1.1 rfl ?_
      refine kz_nz0 (x := x1) hxp1 ?_
      refine kz_gfp (M := kt_M294) (c := 14) (o := p1) kX8_act_c1.2.1 wf_X8_76 (.inr (by exact hlp1)) ?_
      refine kz_getsE (M := kt_M294) (v := va_rf (some (E.1.1 38))) kX8_act_c1.2.2.1 zs_X8_183 ?_
      refine kz_acmp_eq (M := kt_M294) (x := w_p w 14 p1 0) (y := some (E.1.1 38)) kX8_act_c1.2.2.2.1 (t := 60) rfl h (fun h => ?_) (fun h => ?_)
      · skip
        exact kz_weak [(0, .ref (w_adr E.2.1 7 0)), (1, va_rf (x1)), (2, .int x2)] ⟨rfl, ⟨rfl, ⟨rfl, trivial⟩⟩⟩ rfl (zt_X8_act_p60 hL  h)
      · skip
        refine kz_aload_nv (M := kt_M294) (x := x1) kX8_act_c1.2.2.2.2.1 rfl ?_
        refine kz_nz0 (x := x1) hxp1 ?_
        refine kz_gfp (M := kt_M294) (c := 14) (o := p1) kX8_act_c1.2.2.2.2.2.1 wf_X8_76 (.inr (by exact hlp1)) ?_
        refine kz_getsE (M := kt_M294) (v := va_rf (some (E.1.1 39))) kX8_act_c1.2.2.2.2.2.2.1 zs_X8_186 ?_
        refine kz_acmp_eq (M := kt_M294) (x := w_p w 14 p1 0) (y := some (E.1.1 39)) kX8_act_c1.2.2.2.2.2.2.2.1 (t := 60) rfl h (fun h => ?_) (fun h => ?_)
        · skip
          exact kz_weak [(0, .ref (w_adr E.2.1 7 0)), (1, va_rf (x1)), (2, .int x2)] ⟨rfl, ⟨rfl, ⟨rfl, trivial⟩⟩⟩ rfl (zt_X8_act_p60 hL  h)
        · skip
          refine kz_aload_nv (M := kt_M294) (x := x1) kX8_act_c2.1 rfl ?_
          refine kz_nz0 (x := x1) hxp1 ?_
          refine kz_gfp (M := kt_M294) (c := 14) (o := p1) kX8_act_c2.2.1 wf_X8_76 (.inr (by exact hlp1)) ?_
          refine kz_getsE (M := kt_M294) (v := va_rf (some (E.1.1 51))) kX8_act_c2.2.2.1 zs_X8_189 ?_
          refine kz_acmp_eq (M := kt_M294) (x := w_p w 14 p1 0) (y := some (E.1.1 51)) kX8_act_c2.2.2.2.1 (t := 60) rfl h (fun h => ?_) (fun h => ?_)
          · skip
            exact kz_weak [(0, .ref (w_adr E.2.1 7 0)), (1, va_rf (x1)), (2, .int x2)] ⟨rfl, ⟨rfl, ⟨rfl, trivial⟩⟩⟩ rfl (zt_X8_act_p60 hL  h)
          · skip
            refine kz_aload_nv (M := kt_M294) (x := x1) kX8_act_c2.2.2.2.2.1 rfl ?_
            refine kz_nz0 (x := x1) hxp1 ?_
            refine kz_gfp (M := kt_M294) (c := 14) (o := p1) kX8_act_c2.2.2.2.2.2.1 wf_X8_76 (.inr (by exact hlp1)) ?_
            refine kz_getsE (M := kt_M294) (v := va_rf (some (E.1.1 44))) kX8_act_c2.2.2.2.2.2.2.1 zs_X8_192 ?_
            refine kz_acmp_ne (M := kt_M294) (x := w_p w 14 p1 0) (y := some (E.1.1 44)) kX8_act_c2.2.2.2.2.2.2.2.1 (t := 64) rfl h (fun h => ?_) (fun h => ?_)
            · skip
              refine kz_ic (M := kt_M294) 0 kX8_act_c3.2.2.1 rfl ?_
              exact kz_weak [(0, .ref (w_adr E.2.1 7 0)), (1, va_rf (x1)), (2, .int x2)] ⟨rfl, ⟨rfl, ⟨rfl, trivial⟩⟩⟩ rfl (zt_X8_act_p65 hL  h)
            · skip
              exact kz_weak [(0, .ref (w_adr E.2.1 7 0)), (1, va_rf (x1)), (2, .int x2)] ⟨rfl, ⟨rfl, ⟨rfl, trivial⟩⟩⟩ rfl (zt_X8_act_p60 hL  h)
def zL_X8_base_p2 (E : zE) (L : Nat) (Q : kx_Rs → wS → Prop) (x1 : Option Nat) (w : wS) : Prop := kzE E L kt_M299 2 [(1, va_rf (x1))] [] w Q
def zb_X8_base_p2 (E : zE) (L : Nat) (Q : kx_Rs → wS → Prop) (x1 : Option Nat) (w : wS) : Prop := (∃ p1, x1 = some p1 ∧ w_l w E.2.1 15 p1 ∧ (if w_i w 15 p1 14 = 0 then Q (.inl (some (va_rf (x1)))) w else (∃ p2, w_p w 15 p1 18 = some p2 ∧ w_l w E.2.1 14 p2 ∧ zL_X8_base_p2 E L Q (w_p w 14 p2 16) w)))
theorem zt_X8_base_p2 {E : zE} {L : Nat} {Q : kx_Rs → wS → Prop} {x1 : Option Nat} {w : wS} (hL : 19 ≤ L) (h : zb_X8_base_p2 E L Q x1 w) : kzE E L kt_M299 2 [(1, va_rf (x1))] [] w Q := by
  unfold zb_X8_base_p2 at h
  refine kz_aload_nv (M := kt_M299) (x := x1) kX8_base_c0.2.2.1 rfl ?_
  obtain ⟨p1, hxp1, hlp1, h⟩ := h
  refine kz_nz0 (x := x1) hxp1 ?_
  refine kz_gfi (M := kt_M299) (c := 15) (o := p1) kX8_base_c0.2.2.2.1 wf_X8_171 (.inr (by exact hlp1)) ?_
  refine kz_if_eq (M := kt_M299) kX8_base_c0.2.2.2.2.1 (t := 20) rfl h (fun h => ?_) (fun h => ?_)
  · skip
    refine kz_aload_nv (M := kt_M299) (x := x1) kX8_base_c1.2.2.1 rfl ?_
    exact kz_areto (x := x1) (M := kt_M299) kX8_base_c1.2.2.2.1 rfl h
  · skip
    refine kz_aload_nv (M := kt_M299) (x := x1) kX8_base_c0.2.2.2.2.2.1 rfl ?_
    refine kz_nz0 (x := x1) hxp1 ?_
    refine kz_gfp (M := kt_M299) (c := 15) (o := p1) kX8_base_c0.2.2.2.2.2.2.1 wf_X8_174 (.inr (by exact hlp1)) ?_
    obtain ⟨p2, hxp2, hlp2, h⟩ := h
    refine kz_nz0 (x := w_p w 15 p1 18) hxp2 ?_
    refine kz_gfp (M := kt_M299) (c := 14) (o := p2) kX8_base_c0.2.2.2.2.2.2.2.1 wf_X8_131 (.inr (by exact hlp2)) ?_
    refine kz_stv_n (M := kt_M299) (x := w_p w 14 p2 16) [] kX8_base_c1.1 (Nat.le_of_ble_eq_true rfl) trivial rfl ?_
    refine kz_goto (M := kt_M299) kX8_base_c1.2.1 (t := 2) rfl ?_
    exact kz_weak [(1, va_rf (w_p w 14 p2 16))] ⟨rfl, trivial⟩ rfl h
def zb_X8_base_p0 (E : zE) (L : Nat) (Q : kx_Rs → wS → Prop) (x0 : Option Nat) (w : wS) : Prop := zL_X8_base_p2 E L Q x0 w
theorem zt_X8_base_p0 {E : zE} {L : Nat} {Q : kx_Rs → wS → Prop} {x0 : Option Nat} {w : wS} (hL : 19 ≤ L) (h : zb_X8_base_p0 E L Q x0 w) : kzE E L kt_M299 0 [(0, va_rf (x0))] [] w Q := by
  unfold zb_X8_base_p0 at h
  refine kz_aload_nv (M := kt_M299) (x := x0) kX8_base_c0.1 rfl ?_
  refine kz_stv_n (M := kt_M299) (x := x0) [] kX8_base_c0.2.1 (Nat.le_of_ble_eq_true rfl) trivial rfl ?_
  exact kz_weak [(1, va_rf (x0))] ⟨rfl, trivial⟩ rfl h
def zb_X8_predefined_p24 (E : zE) (L : Nat) (Q : kx_Rs → wS → Prop) (w : wS) : Prop := Q (.inl none) w
theorem zt_X8_predefined_p24 {E : zE} {L : Nat} {Q : kx_Rs → wS → Prop} {w : wS} (hL : 22 ≤ L) (h : zb_X8_predefined_p24 E L Q  w) : kzE E L kt_M320 24 [(0, .ref (w_adr E.2.1 7 0))] [] w Q := by
  unfold zb_X8_predefined_p24 at h
  exact kz_ret (M := kt_M320) kX8_predefined_c1.2.2.2.1 rfl h
def zb_X8_predefined_p0 (E : zE) (L : Nat) (Q : kx_Rs → wS → Prop) (x1 : Option Nat) (x2 : Option Nat) (w : wS) : Prop := (∃ p1, x1 = some p1 ∧ w_l w E.2.1 14 p1 ∧ zw E (L - 21) kt_M299 [va_rf (w_p w 14 p1 16)] w (wkr (fun v3 w2 => wle w w2 → (if ¬ v3 = x2 then zb_X8_predefined_p24 E L Q w2 else zw E (L - 22) kt_M56 [.ref (w_adr E.2.1 2 0), .int 11, .int (w_i w2 14 p1 2)] w2 (wk0 (fun w4 => wle w2 w4 → zb_X8_predefined_p24 E L Q w4) (fun e w => Q (.inr e) w)))) (fun e w => Q (.inr e) w)))
theorem zt_X8_predefined_p0 {E : zE} {L : Nat} {Q : kx_Rs → wS → Prop} {x1 : Option Nat} {x2 : Option Nat} {w : wS} (hL : 22 ≤ L) (h : zb_X8_predefined_p0 E L Q x1 x2 w) : kzE E L kt_M320 0 [(0, .ref (w_adr E.2.1 7 0)), (1, va_rf (x1)), (2, va_rf (x2))] [] w Q := by
  unfold zb_X8_predefined_p0 at h
  refine kz_aload_nv (M := kt_M320) (x := x1) kX8_predefined_c0.1 rfl ?_
  obtain ⟨p1, hxp1, hlp1, h⟩ := h
  refine kz_nz0 (x := x1) hxp1 ?_
  refine kz_gfp (M := kt_M320) (c := 14) (o := p1) kX8_predefined_c0.2.1 wf_X8_131 (.inr (by exact hlp1)) ?_
  refine kz_csr (M := kt_M320) (As := [va_rf (w_p w 14 p1 16)]) (rest := []) kX8_predefined_c0.2.2.1 wl_X8_206 wMs_299 rfl (Nat.le_trans (Nat.le_of_ble_eq_true rfl) hL) (by simp [lg_sl, w_cat, z_ci, z_cr, z_cl, z_cn, kt_M299]) (Nat.le_of_ble_eq_true rfl) h (fun v3 w2 hle h => ?_) (fun _ _ _ h => kzx_no rfl h)
  have h := h hle
  have hlp1 := w_l_le hlp1 hle
  refine kz_aload_nv (M := kt_M320) (x := x2) kX8_predefined_c0.2.2.2.1 rfl ?_
  refine kz_acmp_ne (M := kt_M320) (x := v3) (y := x2) kX8_predefined_c0.2.2.2.2.1 (t := 24) rfl h (fun h => ?_) (fun h => ?_)
  · skip
    exact kz_weak [(0, .ref (w_adr E.2.1 7 0))] ⟨rfl, trivial⟩ rfl (zt_X8_predefined_p24 hL  h)
  · skip
    refine kz_aload_n (M := kt_M320) kX8_predefined_c0.2.2.2.2.2.1 rfl ?_
    refine kz_gfc (M := kt_M320) (x := 8) (c := 7) (o := 0) kX8_predefined_c0.2.2.2.2.2.2.1 wf_X8_33 (.inl rfl) ?_
    refine kz_bi (M := kt_M320) 11 kX8_predefined_c0.2.2.2.2.2.2.2.1 rfl ?_
    refine kz_aload_nv (M := kt_M320) (x := x1) kX8_predefined_c1.1 rfl ?_
    refine kz_nz0 (x := x1) hxp1 ?_
    refine kz_gfi (M := kt_M320) (c := 14) (o := p1) kX8_predefined_c1.2.1 wf_X8_195 (.inr (by exact hlp1)) ?_
    refine kz_cv0 (M := kt_M320) (c := 2) (o := 0) (As := [.int 11, .int (w_i w2 14 p1 2)]) (rest := []) kX8_predefined_c1.2.2.1 wl_X8_196 wMv_56 rfl (.inl rfl) rfl (Nat.le_trans (Nat.le_of_ble_eq_true rfl) hL) (Nat.le_of_ble_eq_true rfl) (Nat.le_of_ble_eq_true rfl) h (fun w4 hle h => ?_) (fun _ _ _ h => kzx_no rfl h)
    have h := h hle
    have hlp1 := w_l_le hlp1 hle
    exact kz_weak [(0, .ref (w_adr E.2.1 7 0))] ⟨rfl, trivial⟩ rfl (zt_X8_predefined_p24 hL  h)
def zL_X8_call_p117 (E : zE) (L : Nat) (Q : kx_Rs → wS → Prop) (x1 : Option Nat) (x2 : Int32) (x3 : Option Nat) (x4 : Option Nat) (x5 : Option Nat) (w : wS) : Prop := kzE E L kt_M303 117 [(0, .ref (w_adr E.2.1 7 0)), (1, va_rf (x1)), (2, .int x2), (3, va_rf (x3)), (4, va_rf (x4)), (5, va_rf (x5))] [] w Q
def zL_X8_call_p47 (E : zE) (L : Nat) (Q : kx_Rs → wS → Prop) (x1 : Option Nat) (x2 : Int32) (x3 : Option Nat) (x4 : Int32) (w : wS) : Prop := kzE E L kt_M303 47 [(0, .ref (w_adr E.2.1 7 0)), (1, va_rf (x1)), (2, .int x2), (3, va_rf (x3)), (4, .int x4)] [] w Q
def zb_X8_call_p144 (E : zE) (L : Nat) (Q : kx_Rs → wS → Prop) (x1 : Option Nat) (x2 : Int32) (x3 : Option Nat) (x4 : Option Nat) (x5 : Option Nat) (w : wS) : Prop := (∃ p1, x4 = some p1 ∧ w_l w E.2.1 14 p1 ∧ (∃ p2, x5 = some p2 ∧ w_l w E.2.1 14 p2 ∧ zL_X8_call_p117 E L Q x1 x2 x3 (w_p w 14 p1 7) (w_p w 14 p2 7) w))
theorem zt_X8_call_p144 {E : zE} {L : Nat} {Q : kx_Rs → wS → Prop} {x1 : Option Nat} {x2 : Int32} {x3 : Option Nat} {x4 : Option Nat} {x5 : Option Nat} {w : wS} (hL : 28 ≤ L) (h : zb_X8_call_p144 E L Q x1 x2 x3 x4 x5 w) : kzE E L kt_M303 144 [(0, .ref (w_adr E.2.1 7 0)), (1, va_rf (x1)), (2, .int x2), (3, va_rf (x3)), (4, va_rf (x4)), (5, va_rf (x5))] [] w Q := by
  unfold zb_X8_call_p144 at h
  refine kz_aloadv (M := kt_M303) (x := x4) kX8_call_c8.2.2.2.2.2.2.1 rfl ?_
  obtain ⟨p1, hxp1, hlp1, h⟩ := h
  refine kz_nz0 (x := x4) hxp1 ?_
  refine kz_gfp (M := kt_M303) (c := 14) (o := p1) kX8_call_c8.2.2.2.2.2.2.2.1 wf_X8_67 (.inr (by exact hlp1)) ?_
  refine kz_stv (M := kt_M303) (x := w_p w 14 p1 7) [(0, .ref (w_adr E.2.1 7 0)), (1, va_rf (x1)), (2, .int x2), (3, va_rf (x3)), (5, va_rf (x5))] kX8_call_c9.1 (Nat.le_of_ble_eq_true rfl) ⟨⟨rfl, rfl, .inl rfl⟩, ⟨⟨rfl, rfl, .inl rfl⟩, ⟨⟨rfl, rfl, .inl rfl⟩, ⟨⟨rfl, rfl, .inr (w_cat (x3))⟩, ⟨⟨rfl, rfl, .inl rfl⟩, trivial⟩⟩⟩⟩⟩ rfl ?_
  refine kz_aloadv (M := kt_M303) (x := x5) kX8_call_c9.2.1 rfl ?_
  obtain ⟨p2, hxp2, hlp2, h⟩ := h
  refine kz_nz0 (x := x5) hxp2 ?_
  refine kz_gfp (M := kt_M303) (c := 14) (o := p2) kX8_call_c9.2.2.1 wf_X8_67 (.inr (by exact hlp2)) ?_
  refine kz_stv (M := kt_M303) (x := w_p w 14 p2 7) [(0, .ref (w_adr E.2.1 7 0)), (1, va_rf (x1)), (2, .int x2), (3, va_rf (x3)), (4, va_rf (w_p w 14 p1 7))] kX8_call_c9.2.2.2.1 (Nat.le_of_ble_eq_true rfl) ⟨⟨rfl, rfl, .inl rfl⟩, ⟨⟨rfl, rfl, .inl rfl⟩, ⟨⟨rfl, rfl, .inl rfl⟩, ⟨⟨rfl, rfl, .inl rfl⟩, ⟨⟨rfl, rfl, .inr (w_cat (w_p w 14 p1 7))⟩, trivial⟩⟩⟩⟩⟩ rfl ?_
  refine kz_goto (M := kt_M303) kX8_call_c9.2.2.2.2.1 (t := 117) rfl ?_
  exact kz_weak [(0, .ref (w_adr E.2.1 7 0)), (1, va_rf (x1)), (2, .int x2), (3, va_rf (x3)), (4, va_rf (w_p w 14 p1 7)), (5, va_rf (w_p w 14 p2 7))] ⟨rfl, ⟨rfl, ⟨rfl, ⟨rfl, ⟨rfl, ⟨rfl, trivial⟩⟩⟩⟩⟩⟩ rfl h
def zb_X8_call_p117 (E : zE) (L : Nat) (Q : kx_Rs → wS → Prop) (x1 : Option Nat) (x2 : Int32) (x3 : Option Nat) (x4 : Option Nat) (x5 : Option Nat) (w : wS) : Prop := (if x5 = none then zw E (L - 20) kt_M322 [.ref (w_adr E.2.1 7 0)] w (wk0 (fun w1 => wle w w1 → Q (.inl none) w1) (fun e w => Q (.inr e) w)) else (∃ p3, x4 = some p3 ∧ w_l w E.2.1 14 p3 ∧ (if ¬ w_i w 14 p3 15 = 0 then zb_X8_call_p144 E L Q x1 x2 x3 x4 x5 w else zw E (L - 28) kt_M312 [.ref (w_adr E.2.1 7 0), va_rf (x1), va_rf (x3), va_rf (x5), va_rf (w_p w 14 p3 16), .int x2] w (wk0 (fun w4 => wle w w4 → zb_X8_call_p144 E L Q x1 x2 x3 x4 x5 w4) (fun e w => Q (.inr e) w)))))
theorem zt_X8_call_p117 {E : zE} {L : Nat} {Q : kx_Rs → wS → Prop} {x1 : Option Nat} {x2 : Int32} {x3 : Option Nat} {x4 : Option Nat} {x5 : Option Nat} {w : wS} (hL : 28 ≤ L) (h : zb_X8_call_p117 E L Q x1 x2 x3 x4 x5 w) : kzE E L kt_M303 117 [(0, .ref (w_adr E.2.1 7 0)), (1, va_rf (x1)), (2, .int x2), (3, va_rf (x3)), (4, va_rf (x4)), (5, va_rf (x5))] [] w Q := by
  unfold zb_X8_call_p117 at h
  refine kz_aloadv (M := kt_M303) (x := x5) kX8_call_c7.2.1 rfl ?_
  refine kz_ifnull (M := kt_M303) (x := x5) kX8_call_c7.2.2.1 (t := 161) rfl h (fun h => ?_) (fun h => ?_)
  · skip
    refine kz_aload_n (M := kt_M303) kX8_call_c9.2.2.2.2.2.1 rfl ?_
    refine kz_cv0 (M := kt_M303) (c := 7) (o := 0) (As := []) (rest := []) kX8_call_c9.2.2.2.2.2.2.1 wl_X8_158 wMv_322 rfl (.inl rfl) rfl (Nat.le_trans (Nat.le_of_ble_eq_true rfl) hL) (Nat.le_of_ble_eq_true rfl) (Nat.le_of_ble_eq_true rfl) h (fun w1 hle h => ?_) (fun _ _ _ h => kzx_no rfl h)
    have h := h hle
    exact kz_ret (M := kt_M303) kX8_call_c9.2.2.2.2.2.2.2.1 rfl h
  · skip
    refine kz_aloadv (M := kt_M303) (x := x4) kX8_call_c7.2.2.2.1 rfl ?_
    obtain ⟨p3, hxp3, hlp3, h⟩ := h
    refine kz_nz0 (x := x4) hxp3 ?_
    refine kz_gfi (M := kt_M303) (c := 14) (o := p3) kX8_call_c7.2.2.2.2.1 wf_X8_231 (.inr (by exact hlp3)) ?_
    refine kz_if_ne (M := kt_M303) kX8_call_c7.2.2.2.2.2.1 (t := 144) rfl h (fun h => ?_) (fun h => ?_)
    · skip
      exact kz_weak [(0, .ref (w_adr E.2.1 7 0)), (1, va_rf (x1)), (2, .int x2), (3, va_rf (x3)), (4, va_rf (x4)), (5, va_rf (x5))] ⟨rfl, ⟨rfl, ⟨rfl, ⟨rfl, ⟨rfl, ⟨rfl, trivial⟩⟩⟩⟩⟩⟩ rfl (zt_X8_call_p144 hL  h)
    · skip
      refine kz_aload_n (M := kt_M303) kX8_call_c7.2.2.2.2.2.2.1 rfl ?_
      refine kz_aload_nv (M := kt_M303) (x := x1) kX8_call_c7.2.2.2.2.2.2.2.1 rfl ?_
      refine kz_aload_nv (M := kt_M303) (x := x3) kX8_call_c8.1 rfl ?_
      refine kz_aloadv (M := kt_M303) (x := x5) kX8_call_c8.2.1 rfl ?_
      refine kz_aloadv (M := kt_M303) (x := x4) kX8_call_c8.2.2.1 rfl ?_
      refine kz_nz0 (x := x4) hxp3 ?_
      refine kz_gfp (M := kt_M303) (c := 14) (o := p3) kX8_call_c8.2.2.2.1 wf_X8_131 (.inr (by exact hlp3)) ?_
      refine kz_iload_n (M := kt_M303) kX8_call_c8.2.2.2.2.1 rfl ?_
      refine kz_cv0 (M := kt_M303) (c := 7) (o := 0) (As := [va_rf (x1), va_rf (x3), va_rf (x5), va_rf (w_p w 14 p3 16), .int x2]) (rest := []) kX8_call_c8.2.2.2.2.2.1 wl_X8_234 wMv_312 rfl (.inl rfl) rfl (Nat.le_trans (Nat.le_of_ble_eq_true rfl) hL) (by simp [lg_sl, w_cat, z_ci, z_cr, z_cl, z_cn, kt_M312]) (Nat.le_of_ble_eq_true rfl) h (fun w4 hle h => ?_) (fun _ _ _ h => kzx_no rfl h)
      have h := h hle
      have hlp3 := w_l_le hlp3 hle
      exact kz_weak [(0, .ref (w_adr E.2.1 7 0)), (1, va_rf (x1)), (2, .int x2), (3, va_rf (x3)), (4, va_rf (x4)), (5, va_rf (x5))] ⟨rfl, ⟨rfl, ⟨rfl, ⟨rfl, ⟨rfl, ⟨rfl, trivial⟩⟩⟩⟩⟩⟩ rfl (zt_X8_call_p144 hL  h)
def zb_X8_call_p102 (E : zE) (L : Nat) (Q : kx_Rs → wS → Prop) (x1 : Option Nat) (x2 : Int32) (x3 : Option Nat) (w : wS) : Prop := (∃ p1, x3 = some p1 ∧ w_l w E.2.1 15 p1 ∧ (∃ p2, w_p w 15 p1 19 = some p2 ∧ w_l w E.2.1 14 p2 ∧ (∃ p3, x1 = some p3 ∧ w_l w E.2.1 14 p3 ∧ zL_X8_call_p117 E L Q x1 x2 x3 (w_p w 14 p2 3) (w_p w 14 p3 4) w)))
theorem zt_X8_call_p102 {E : zE} {L : Nat} {Q : kx_Rs → wS → Prop} {x1 : Option Nat} {x2 : Int32} {x3 : Option Nat} {w : wS} (hL : 28 ≤ L) (h : zb_X8_call_p102 E L Q x1 x2 x3 w) : kzE E L kt_M303 102 [(0, .ref (w_adr E.2.1 7 0)), (1, va_rf (x1)), (2, .int x2), (3, va_rf (x3))] [] w Q := by
  unfold zb_X8_call_p102 at h
  refine kz_aload_nv (M := kt_M303) (x := x3) kX8_call_c6.2.2.1 rfl ?_
  obtain ⟨p1, hxp1, hlp1, h⟩ := h
  refine kz_nz0 (x := x3) hxp1 ?_
  refine kz_gfp (M := kt_M303) (c := 15) (o := p1) kX8_call_c6.2.2.2.1 wf_X8_228 (.inr (by exact hlp1)) ?_
  obtain ⟨p2, hxp2, hlp2, h⟩ := h
  refine kz_nz0 (x := w_p w 15 p1 19) hxp2 ?_
  refine kz_gfp (M := kt_M303) (c := 14) (o := p2) kX8_call_c6.2.2.2.2.1 wf_X8_58 (.inr (by exact hlp2)) ?_
  refine kz_stv (M := kt_M303) (x := w_p w 14 p2 3) [(0, .ref (w_adr E.2.1 7 0)), (1, va_rf (x1)), (2, .int x2), (3, va_rf (x3))] kX8_call_c6.2.2.2.2.2.1 (Nat.le_of_ble_eq_true rfl) ⟨⟨rfl, rfl, .inl rfl⟩, ⟨⟨rfl, rfl, .inl rfl⟩, ⟨⟨rfl, rfl, .inl rfl⟩, ⟨⟨rfl, rfl, .inr (w_cat (x3))⟩, trivial⟩⟩⟩⟩ rfl ?_
  refine kz_aload_nv (M := kt_M303) (x := x1) kX8_call_c6.2.2.2.2.2.2.1 rfl ?_
  obtain ⟨p3, hxp3, hlp3, h⟩ := h
  refine kz_nz0 (x := x1) hxp3 ?_
  refine kz_gfp (M := kt_M303) (c := 14) (o := p3) kX8_call_c6.2.2.2.2.2.2.2.1 wf_X8_70 (.inr (by exact hlp3)) ?_
  refine kz_stv (M := kt_M303) (x := w_p w 14 p3 4) [(0, .ref (w_adr E.2.1 7 0)), (1, va_rf (x1)), (2, .int x2), (3, va_rf (x3)), (4, va_rf (w_p w 14 p2 3))] kX8_call_c7.1 (Nat.le_of_ble_eq_true rfl) ⟨⟨rfl, rfl, .inl rfl⟩, ⟨⟨rfl, rfl, .inl rfl⟩, ⟨⟨rfl, rfl, .inl rfl⟩, ⟨⟨rfl, rfl, .inl rfl⟩, ⟨⟨rfl, rfl, .inr (w_cat (w_p w 14 p2 3))⟩, trivial⟩⟩⟩⟩⟩ rfl ?_
  exact kz_weak [(0, .ref (w_adr E.2.1 7 0)), (1, va_rf (x1)), (2, .int x2), (3, va_rf (x3)), (4, va_rf (w_p w 14 p2 3)), (5, va_rf (w_p w 14 p3 4))] ⟨rfl, ⟨rfl, ⟨rfl, ⟨rfl, ⟨rfl, ⟨rfl, trivial⟩⟩⟩⟩⟩⟩ rfl h
def zb_X8_call_p96 (E : zE) (L : Nat) (Q : kx_Rs → wS → Prop) (x1 : Option Nat) (x2 : Int32) (x3 : Option Nat) (x4 : Int32) (w : wS) : Prop := zL_X8_call_p47 E L Q x1 x2 x3 (x4 + 1) w
theorem zt_X8_call_p96 {E : zE} {L : Nat} {Q : kx_Rs → wS → Prop} {x1 : Option Nat} {x2 : Int32} {x3 : Option Nat} {x4 : Int32} {w : wS} (hL : 28 ≤ L) (h : zb_X8_call_p96 E L Q x1 x2 x3 x4 w) : kzE E L kt_M303 96 [(0, .ref (w_adr E.2.1 7 0)), (1, va_rf (x1)), (2, .int x2), (3, va_rf (x3)), (4, .int x4)] [] w Q := by
  unfold zb_X8_call_p96 at h
  refine kz_inc (M := kt_M303) [(0, .ref (w_adr E.2.1 7 0)), (1, va_rf (x1)), (2, .int x2), (3, va_rf (x3))] kX8_call_c6.1 rfl (Nat.le_of_ble_eq_true rfl) ⟨⟨rfl, rfl, .inl rfl⟩, ⟨⟨rfl, rfl, .inl rfl⟩, ⟨⟨rfl, rfl, .inl rfl⟩, ⟨⟨rfl, rfl, .inr (w_cat (x3))⟩, trivial⟩⟩⟩⟩ rfl ?_
  refine kz_goto (M := kt_M303) kX8_call_c6.2.1 (t := 47) rfl ?_
  exact kz_weak [(0, .ref (w_adr E.2.1 7 0)), (1, va_rf (x1)), (2, .int x2), (3, va_rf (x3)), (4, .int (x4 + 1))] ⟨rfl, ⟨rfl, ⟨rfl, ⟨rfl, ⟨rfl, trivial⟩⟩⟩⟩⟩ rfl h
def zb_X8_call_p47 (E : zE) (L : Nat) (Q : kx_Rs → wS → Prop) (x1 : Option Nat) (x2 : Int32) (x3 : Option Nat) (x4 : Int32) (w : wS) : Prop := (∃ p1, x3 = some p1 ∧ w_l w E.2.1 15 p1 ∧ (if w_i w 15 p1 28 ≤ x4 then zb_X8_call_p102 E L Q x1 x2 x3 w else (kx_inb x4 (w_n w 7 0 2) = true ∧ (∃ p2, w_r w 7 0 2 (x4).toNatClampNeg = some p2 ∧ w_l w E.2.1 15 p2 ∧ (if x2 ≤ w_i w 15 p2 3 then zb_X8_call_p96 E L Q x1 x2 x3 x4 w else (kx_inb x4 (w_n w 7 0 3) = true ∧ (if ((w_a w 7 0 3 (x4).toNatClampNeg) &&& 14) = 0 then zb_X8_call_p96 E L Q x1 x2 x3 x4 w else (∃ p3, x1 = some p3 ∧ w_l w E.2.1 14 p3 ∧ zw E (L - 22) kt_M56 [.ref (w_adr E.2.1 2 0), .int 11, .int (w_i w 14 p3 2)] w (wk0 (fun w4 => wle w w4 → zb_X8_call_p96 E L Q x1 x2 x3 x4 w4) (fun e w => Q (.inr e) w))))))))))
theorem zt_X8_call_p47 {E : zE} {L : Nat} {Q : kx_Rs → wS → Prop} {x1 : Option Nat} {x2 : Int32} {x3 : Option Nat} {x4 : Int32} {w : wS} (hL : 28 ≤ L) (h : zb_X8_call_p47 E L Q x1 x2 x3 x4 w) : kzE E L kt_M303 47 [(0, .ref (w_adr E.2.1 7 0)), (1, va_rf (x1)), (2, .int x2), (3, va_rf (x3)), (4, .int x4)] [] w Q := by
  unfold zb_X8_call_p47 at h
  refine kz_iload (M := kt_M303) kX8_call_c3.1 rfl ?_
  refine kz_aload_nv (M := kt_M303) (x := x3) kX8_call_c3.2.1 rfl ?_
  obtain ⟨p1, hxp1, hlp1, h⟩ := h
  refine kz_nz0 (x := x3) hxp1 ?_
  refine kz_gfi (M := kt_M303) (c := 15) (o := p1) kX8_call_c3.2.2.1 wf_X8_155 (.inr (by exact hlp1)) ?_
  refine kz_icmp_ge (M := kt_M303) kX8_call_c3.2.2.2.1 (t := 102) rfl h (fun h => ?_) (fun h => ?_)
  · skip
    exact kz_weak [(0, .ref (w_adr E.2.1 7 0)), (1, va_rf (x1)), (2, .int x2), (3, va_rf (x3))] ⟨rfl, ⟨rfl, ⟨rfl, ⟨rfl, trivial⟩⟩⟩⟩ rfl (zt_X8_call_p102 hL  h)
  · skip
    refine kz_aload_n (M := kt_M303) kX8_call_c3.2.2.2.2.1 rfl ?_
    refine kz_gfa (M := kt_M303) (c := 7) (o := 0) kX8_call_c3.2.2.2.2.2.1 wf_X8_11 (.inl rfl) ?_
    refine kz_iload (M := kt_M303) kX8_call_c3.2.2.2.2.2.2.1 rfl ?_
    refine kz_aald (M := kt_M303) (τ := 2) (c := 7) (o := 0) (k := 2) (a := (w_d w 7 0 2)) kX8_call_c3.2.2.2.2.2.2.2.1 ow_7_0_2 oa_7_0_2 ot_6 rfl h (fun h => ?_)
    obtain ⟨p2, hxp2, hlp2, h⟩ := h
    refine kz_nz0 (x := w_r w 7 0 2 (x4).toNatClampNeg) hxp2 ?_
    refine kz_gfi (M := kt_M303) (c := 15) (o := p2) kX8_call_c4.1 wf_X8_148 (.inr (by exact hlp2)) ?_
    refine kz_iload_n (M := kt_M303) kX8_call_c4.2.1 rfl ?_
    refine kz_icmp_ge (M := kt_M303) kX8_call_c4.2.2.1 (t := 96) rfl h (fun h => ?_) (fun h => ?_)
    · skip
      exact kz_weak [(0, .ref (w_adr E.2.1 7 0)), (1, va_rf (x1)), (2, .int x2), (3, va_rf (x3)), (4, .int x4)] ⟨rfl, ⟨rfl, ⟨rfl, ⟨rfl, ⟨rfl, trivial⟩⟩⟩⟩⟩ rfl (zt_X8_call_p96 hL  h)
    · skip
      refine kz_aload_n (M := kt_M303) kX8_call_c4.2.2.2.1 rfl ?_
      refine kz_gfa (M := kt_M303) (c := 7) (o := 0) kX8_call_c4.2.2.2.2.1 wf_X8_17 (.inl rfl) ?_
      refine kz_iload (M := kt_M303) kX8_call_c4.2.2.2.2.2.1 rfl ?_
      refine kz_iald (M := kt_M303) (c := 7) (o := 0) (k := 3) (a := (w_d w 7 0 3)) kX8_call_c4.2.2.2.2.2.2.1 ow_7_0_3 oa_7_0_3 ot_0 h (fun h => ?_)
      refine kz_bi (M := kt_M303) 14 kX8_call_c4.2.2.2.2.2.2.2.1 rfl ?_
      refine kz_iand (M := kt_M303) kX8_call_c5.1 ?_
      refine kz_if_eq (M := kt_M303) kX8_call_c5.2.1 (t := 96) rfl h (fun h => ?_) (fun h => ?_)
      · skip
        exact kz_weak [(0, .ref (w_adr E.2.1 7 0)), (1, va_rf (x1)), (2, .int x2), (3, va_rf (x3)), (4, .int x4)] ⟨rfl, ⟨rfl, ⟨rfl, ⟨rfl, ⟨rfl, trivial⟩⟩⟩⟩⟩ rfl (zt_X8_call_p96 hL  h)
      · skip
        refine kz_aload_n (M := kt_M303) kX8_call_c5.2.2.1 rfl ?_
        refine kz_gfc (M := kt_M303) (x := 8) (c := 7) (o := 0) kX8_call_c5.2.2.2.1 wf_X8_33 (.inl rfl) ?_
        refine kz_bi (M := kt_M303) 11 kX8_call_c5.2.2.2.2.1 rfl ?_
        refine kz_aload_nv (M := kt_M303) (x := x1) kX8_call_c5.2.2.2.2.2.1 rfl ?_
        obtain ⟨p3, hxp3, hlp3, h⟩ := h
        refine kz_nz0 (x := x1) hxp3 ?_
        refine kz_gfi (M := kt_M303) (c := 14) (o := p3) kX8_call_c5.2.2.2.2.2.2.1 wf_X8_195 (.inr (by exact hlp3)) ?_
        refine kz_cv0 (M := kt_M303) (c := 2) (o := 0) (As := [.int 11, .int (w_i w 14 p3 2)]) (rest := []) kX8_call_c5.2.2.2.2.2.2.2.1 wl_X8_196 wMv_56 rfl (.inl rfl) rfl (Nat.le_trans (Nat.le_of_ble_eq_true rfl) hL) (Nat.le_of_ble_eq_true rfl) (Nat.le_of_ble_eq_true rfl) h (fun w4 hle h => ?_) (fun _ _ _ h => kzx_no rfl h)
        have h := h hle
        have hlp1 := w_l_le hlp1 hle
        have hlp2 := w_l_le hlp2 hle
        have hlp3 := w_l_le hlp3 hle
        exact kz_weak [(0, .ref (w_adr E.2.1 7 0)), (1, va_rf (x1)), (2, .int x2), (3, va_rf (x3)), (4, .int x4)] ⟨rfl, ⟨rfl, ⟨rfl, ⟨rfl, ⟨rfl, trivial⟩⟩⟩⟩⟩ rfl (zt_X8_call_p96 hL  h)
def zb_X8_call_p41 (E : zE) (L : Nat) (Q : kx_Rs → wS → Prop) (x1 : Option Nat) (x2 : Int32) (x3 : Option Nat) (w : wS) : Prop := (∃ p1, x3 = some p1 ∧ w_l w E.2.1 15 p1 ∧ zL_X8_call_p47 E L Q x1 x2 x3 (w_i w 15 p1 27) w)
theorem zt_X8_call_p41 {E : zE} {L : Nat} {Q : kx_Rs → wS → Prop} {x1 : Option Nat} {x2 : Int32} {x3 : Option Nat} {w : wS} (hL : 28 ≤ L) (h : zb_X8_call_p41 E L Q x1 x2 x3 w) : kzE E L kt_M303 41 [(0, .ref (w_adr E.2.1 7 0)), (1, va_rf (x1)), (2, .int x2), (3, va_rf (x3))] [] w Q := by
  unfold zb_X8_call_p41 at h
  refine kz_aload_nv (M := kt_M303) (x := x3) kX8_call_c2.2.2.2.2.2.1 rfl ?_
  obtain ⟨p1, hxp1, hlp1, h⟩ := h
  refine kz_nz0 (x := x3) hxp1 ?_
  refine kz_gfi (M := kt_M303) (c := 15) (o := p1) kX8_call_c2.2.2.2.2.2.2.1 wf_X8_138 (.inr (by exact hlp1)) ?_
  refine kz_sti (M := kt_M303) [(0, .ref (w_adr E.2.1 7 0)), (1, va_rf (x1)), (2, .int x2), (3, va_rf (x3))] kX8_call_c2.2.2.2.2.2.2.2.1 (Nat.le_of_ble_eq_true rfl) ⟨⟨rfl, rfl, .inl rfl⟩, ⟨⟨rfl, rfl, .inl rfl⟩, ⟨⟨rfl, rfl, .inl rfl⟩, ⟨⟨rfl, rfl, .inr (w_cat (x3))⟩, trivial⟩⟩⟩⟩ rfl ?_
  exact kz_weak [(0, .ref (w_adr E.2.1 7 0)), (1, va_rf (x1)), (2, .int x2), (3, va_rf (x3)), (4, .int (w_i w 15 p1 27))] ⟨rfl, ⟨rfl, ⟨rfl, ⟨rfl, ⟨rfl, trivial⟩⟩⟩⟩⟩ rfl h
def zb_X8_call_p0 (E : zE) (L : Nat) (Q : kx_Rs → wS → Prop) (x1 : Option Nat) (x2 : Int32) (w : wS) : Prop := (∃ p1, x1 = some p1 ∧ w_l w E.2.1 14 p1 ∧ (if x2 = (-1) then zb_X8_call_p102 E L Q x1 x2 (w_p w 14 p1 16) (ws_i (ws_i w 7 0 11 0) 7 0 12 2147483647) else (∃ p2, w_p w 14 p1 16 = some p2 ∧ w_l (ws_i (ws_i w 7 0 11 0) 7 0 12 2147483647) E.2.1 15 p2 ∧ (if w_i w 15 p2 10 = 0 then zb_X8_call_p41 E L Q x1 x2 (w_p w 14 p1 16) (ws_i (ws_i w 7 0 11 0) 7 0 12 2147483647) else zw E (L - 22) kt_M56 [.ref (w_adr E.2.1 2 0), .int 11, .int (w_i w 14 p1 2)] (ws_i (ws_i w 7 0 11 0) 7 0 12 2147483647) (wk0 (fun w3 => wle (ws_i (ws_i w 7 0 11 0) 7 0 12 2147483647) w3 → zb_X8_call_p41 E L Q x1 x2 (w_p w 14 p1 16) w3) (fun e w => Q (.inr e) w))))))
theorem zt_X8_call_p0 {E : zE} {L : Nat} {Q : kx_Rs → wS → Prop} {x1 : Option Nat} {x2 : Int32} {w : wS} (hL : 28 ≤ L) (h : zb_X8_call_p0 E L Q x1 x2 w) : kzE E L kt_M303 0 [(0, .ref (w_adr E.2.1 7 0)), (1, va_rf (x1)), (2, .int x2)] [] w Q := by
  unfold zb_X8_call_p0 at h
  refine kz_aload_nv (M := kt_M303) (x := x1) kX8_call_c0.1 rfl ?_
  obtain ⟨p1, hxp1, hlp1, h⟩ := h
  refine kz_nz0 (x := x1) hxp1 ?_
  refine kz_gfp (M := kt_M303) (c := 14) (o := p1) kX8_call_c0.2.1 wf_X8_131 (.inr (by exact hlp1)) ?_
  refine kz_stv_n (M := kt_M303) (x := w_p w 14 p1 16) [(0, .ref (w_adr E.2.1 7 0)), (1, va_rf (x1)), (2, .int x2)] kX8_call_c0.2.2.1 (Nat.le_of_ble_eq_true rfl) ⟨⟨rfl, rfl, .inl rfl⟩, ⟨⟨rfl, rfl, .inl rfl⟩, ⟨⟨rfl, rfl, .inr rfl⟩, trivial⟩⟩⟩ rfl ?_
  refine kz_aload_n (M := kt_M303) kX8_call_c0.2.2.2.1 rfl ?_
  refine kz_ic (M := kt_M303) 0 kX8_call_c0.2.2.2.2.1 rfl ?_
  refine kz_pfz (M := kt_M303) (c := 7) (o := 0) kX8_call_c0.2.2.2.2.2.1 wq_X8_102 (.inl rfl) (by decide) ?_
  refine kz_aload_n (M := kt_M303) kX8_call_c0.2.2.2.2.2.2.1 rfl ?_
  refine kz_ldcI (M := kt_M303) (x := 2147483647) kX8_call_c0.2.2.2.2.2.2.2.1 (zc_X8_112) ?_
  refine kz_pfi (M := kt_M303) (c := 7) (o := 0) kX8_call_c1.1 wq_X8_113 (.inl rfl) ?_
  refine kz_iload_n (M := kt_M303) kX8_call_c1.2.1 rfl ?_
  refine kz_ic (M := kt_M303) (-1) kX8_call_c1.2.2.1 rfl ?_
  refine kz_icmp_eq (M := kt_M303) kX8_call_c1.2.2.2.1 (t := 102) rfl h (fun h => ?_) (fun h => ?_)
  · skip
    exact kz_weak [(0, .ref (w_adr E.2.1 7 0)), (1, va_rf (x1)), (2, .int x2), (3, va_rf (w_p w 14 p1 16))] ⟨rfl, ⟨rfl, ⟨rfl, ⟨rfl, trivial⟩⟩⟩⟩ rfl (zt_X8_call_p102 hL  h)
  · skip
    refine kz_aload_nv (M := kt_M303) (x := w_p w 14 p1 16) kX8_call_c1.2.2.2.2.1 rfl ?_
    obtain ⟨p2, hxp2, hlp2, h⟩ := h
    refine kz_nz0 (x := w_p w 14 p1 16) hxp2 ?_
    refine kz_gfiR (M := kt_M303) (c := 15) (o := p2) (w_i w 15 p2 10) kX8_call_c1.2.2.2.2.2.1 wf_X8_135 (.inr (by exact hlp2)) ((rd_i_i rfl).trans (rd_i_i rfl)) ?_
    refine kz_if_eq (M := kt_M303) kX8_call_c1.2.2.2.2.2.2.1 (t := 41) rfl h (fun h => ?_) (fun h => ?_)
    · skip
      exact kz_weak [(0, .ref (w_adr E.2.1 7 0)), (1, va_rf (x1)), (2, .int x2), (3, va_rf (w_p w 14 p1 16))] ⟨rfl, ⟨rfl, ⟨rfl, ⟨rfl, trivial⟩⟩⟩⟩ rfl (zt_X8_call_p41 hL  h)
    · skip
      refine kz_aload_n (M := kt_M303) kX8_call_c1.2.2.2.2.2.2.2.1 rfl ?_
      refine kz_gfc (M := kt_M303) (x := 8) (c := 7) (o := 0) kX8_call_c2.1 wf_X8_33 (.inl rfl) ?_
      refine kz_bi (M := kt_M303) 11 kX8_call_c2.2.1 rfl ?_
      refine kz_aload_nv (M := kt_M303) (x := x1) kX8_call_c2.2.2.1 rfl ?_
      refine kz_nz0 (x := x1) hxp1 ?_
      refine kz_gfiR (M := kt_M303) (c := 14) (o := p1) (w_i w 14 p1 2) kX8_call_c2.2.2.2.1 wf_X8_195 (.inr (by exact hlp1)) ((rd_i_i rfl).trans (rd_i_i rfl)) ?_
      refine kz_cv0 (M := kt_M303) (c := 2) (o := 0) (As := [.int 11, .int (w_i w 14 p1 2)]) (rest := []) kX8_call_c2.2.2.2.2.1 wl_X8_196 wMv_56 rfl (.inl rfl) rfl (Nat.le_trans (Nat.le_of_ble_eq_true rfl) hL) (Nat.le_of_ble_eq_true rfl) (Nat.le_of_ble_eq_true rfl) h (fun w3 hle h => ?_) (fun _ _ _ h => kzx_no rfl h)
      have h := h hle
      have hlp1 := w_l_le hlp1 hle
      have hlp2 := w_l_le hlp2 hle
      exact kz_weak [(0, .ref (w_adr E.2.1 7 0)), (1, va_rf (x1)), (2, .int x2), (3, va_rf (w_p w 14 p1 16))] ⟨rfl, ⟨rfl, ⟨rfl, ⟨rfl, trivial⟩⟩⟩⟩ rfl (zt_X8_call_p41 hL  h)
def zL_X8_given_p161 (E : zE) (L : Nat) (Q : kx_Rs → wS → Prop) (x1 : Option Nat) (x2 : Option Nat) (x4 : Option Nat) (x6 : Option Nat) (x8 : Int32) (w : wS) : Prop := kzE E L kt_M312 161 [(0, .ref (w_adr E.2.1 7 0)), (1, va_rf (x1)), (2, va_rf (x2)), (4, va_rf (x4)), (6, va_rf (x6)), (8, .int x8)] [] w Q
def zL_X8_given_p90 (E : zE) (L : Nat) (Q : kx_Rs → wS → Prop) (x1 : Option Nat) (x2 : Option Nat) (x4 : Option Nat) (x6 : Option Nat) (x8 : Int32) (w : wS) : Prop := kzE E L kt_M312 90 [(0, .ref (w_adr E.2.1 7 0)), (1, va_rf (x1)), (2, va_rf (x2)), (4, va_rf (x4)), (6, va_rf (x6)), (8, .int x8)] [] w Q
def zb_X8_given_p237 (E : zE) (L : Nat) (Q : kx_Rs → wS → Prop) (w : wS) : Prop := Q (.inl none) w
theorem zt_X8_given_p237 {E : zE} {L : Nat} {Q : kx_Rs → wS → Prop} {w : wS} (hL : 27 ≤ L) (h : zb_X8_given_p237 E L Q  w) : kzE E L kt_M312 237 [(0, .ref (w_adr E.2.1 7 0))] [] w Q := by
  unfold zb_X8_given_p237 at h
  exact kz_ret (M := kt_M312) kX8_given_c14.2.2.2.1 rfl h
def zb_X8_given_p231 (E : zE) (L : Nat) (Q : kx_Rs → wS → Prop) (x1 : Option Nat) (x2 : Option Nat) (x4 : Option Nat) (x6 : Option Nat) (x8 : Int32) (w : wS) : Prop := zL_X8_given_p161 E L Q x1 x2 x4 x6 (x8 + 1) w
theorem zt_X8_given_p231 {E : zE} {L : Nat} {Q : kx_Rs → wS → Prop} {x1 : Option Nat} {x2 : Option Nat} {x4 : Option Nat} {x6 : Option Nat} {x8 : Int32} {w : wS} (hL : 27 ≤ L) (h : zb_X8_given_p231 E L Q x1 x2 x4 x6 x8 w) : kzE E L kt_M312 231 [(0, .ref (w_adr E.2.1 7 0)), (1, va_rf (x1)), (2, va_rf (x2)), (4, va_rf (x4)), (6, va_rf (x6)), (8, .int x8)] [] w Q := by
  unfold zb_X8_given_p231 at h
  refine kz_inc (M := kt_M312) [(0, .ref (w_adr E.2.1 7 0)), (1, va_rf (x1)), (2, va_rf (x2)), (4, va_rf (x4)), (6, va_rf (x6))] kX8_given_c14.2.1 rfl (Nat.le_of_ble_eq_true rfl) ⟨⟨rfl, rfl, .inl rfl⟩, ⟨⟨rfl, rfl, .inl rfl⟩, ⟨⟨rfl, rfl, .inl rfl⟩, ⟨⟨rfl, rfl, .inl rfl⟩, ⟨⟨rfl, rfl, .inl rfl⟩, trivial⟩⟩⟩⟩⟩ rfl ?_
  refine kz_goto (M := kt_M312) kX8_given_c14.2.2.1 (t := 161) rfl ?_
  exact kz_weak [(0, .ref (w_adr E.2.1 7 0)), (1, va_rf (x1)), (2, va_rf (x2)), (4, va_rf (x4)), (6, va_rf (x6)), (8, .int (x8 + 1))] ⟨rfl, ⟨rfl, ⟨rfl, ⟨rfl, ⟨rfl, ⟨rfl, trivial⟩⟩⟩⟩⟩⟩ rfl h
def zb_X8_given_p218 (E : zE) (L : Nat) (Q : kx_Rs → wS → Prop) (x1 : Option Nat) (x2 : Option Nat) (x4 : Option Nat) (x6 : Option Nat) (x8 : Int32) (w : wS) : Prop := (∃ p1, x1 = some p1 ∧ w_l w E.2.1 14 p1 ∧ zw E (L - 22) kt_M56 [.ref (w_adr E.2.1 2 0), .int 12, .int (w_i w 14 p1 2)] w (wk0 (fun w2 => wle w w2 → zb_X8_given_p231 E L Q x1 x2 x4 x6 x8 w2) (fun e w => Q (.inr e) w)))
theorem zt_X8_given_p218 {E : zE} {L : Nat} {Q : kx_Rs → wS → Prop} {x1 : Option Nat} {x2 : Option Nat} {x4 : Option Nat} {x6 : Option Nat} {x8 : Int32} {w : wS} (hL : 27 ≤ L) (h : zb_X8_given_p218 E L Q x1 x2 x4 x6 x8 w) : kzE E L kt_M312 218 [(0, .ref (w_adr E.2.1 7 0)), (1, va_rf (x1)), (2, va_rf (x2)), (4, va_rf (x4)), (6, va_rf (x6)), (8, .int x8)] [] w Q := by
  unfold zb_X8_given_p218 at h
  refine kz_aload_n (M := kt_M312) kX8_given_c13.2.2.2.1 rfl ?_
  refine kz_gfc (M := kt_M312) (x := 8) (c := 7) (o := 0) kX8_given_c13.2.2.2.2.1 wf_X8_33 (.inl rfl) ?_
  refine kz_bi (M := kt_M312) 12 kX8_given_c13.2.2.2.2.2.1 rfl ?_
  refine kz_aload_nv (M := kt_M312) (x := x1) kX8_given_c13.2.2.2.2.2.2.1 rfl ?_
  obtain ⟨p1, hxp1, hlp1, h⟩ := h
  refine kz_nz0 (x := x1) hxp1 ?_
  refine kz_gfi (M := kt_M312) (c := 14) (o := p1) kX8_given_c13.2.2.2.2.2.2.2.1 wf_X8_195 (.inr (by exact hlp1)) ?_
  refine kz_cv0 (M := kt_M312) (c := 2) (o := 0) (As := [.int 12, .int (w_i w 14 p1 2)]) (rest := []) kX8_given_c14.1 wl_X8_196 wMv_56 rfl (.inl rfl) rfl (Nat.le_trans (Nat.le_of_ble_eq_true rfl) hL) (Nat.le_of_ble_eq_true rfl) (Nat.le_of_ble_eq_true rfl) h (fun w2 hle h => ?_) (fun _ _ _ h => kzx_no rfl h)
  have h := h hle
  have hlp1 := w_l_le hlp1 hle
  exact kz_weak [(0, .ref (w_adr E.2.1 7 0)), (1, va_rf (x1)), (2, va_rf (x2)), (4, va_rf (x4)), (6, va_rf (x6)), (8, .int x8)] ⟨rfl, ⟨rfl, ⟨rfl, ⟨rfl, ⟨rfl, ⟨rfl, trivial⟩⟩⟩⟩⟩⟩ rfl (zt_X8_given_p231 hL  h)
def zb_X8_given_p161 (E : zE) (L : Nat) (Q : kx_Rs → wS → Prop) (x1 : Option Nat) (x2 : Option Nat) (x4 : Option Nat) (x6 : Option Nat) (x8 : Int32) (w : wS) : Prop := (if w_i w 7 0 20 = 0 then zb_X8_given_p237 E L Q w else (∃ p1, x2 = some p1 ∧ w_l w E.2.1 15 p1 ∧ (if w_i w 15 p1 28 ≤ x8 then zb_X8_given_p237 E L Q w else (kx_inb x8 (w_n w 7 0 2) = true ∧ (if ¬ w_r w 7 0 2 (x8).toNatClampNeg = x6 then zb_X8_given_p231 E L Q x1 x2 x4 x6 x8 w else (∃ p2, x6 = some p2 ∧ w_l w E.2.1 15 p2 ∧ (if w_p w 15 p2 0 = some (E.1.1 53) then zb_X8_given_p218 E L Q x1 x2 x4 x6 x8 w else (∃ p3, x4 = some p3 ∧ w_l w E.2.1 15 p3 ∧ (kx_inb x8 (w_n w 7 0 3) = true ∧ (if (((w_i w 15 p3 30) ||| (w_a w 7 0 3 (x8).toNatClampNeg)) &&& 2) = 0 then zb_X8_given_p231 E L Q x1 x2 x4 x6 x8 w else zb_X8_given_p218 E L Q x1 x2 x4 x6 x8 w))))))))))
theorem zt_X8_given_p161 {E : zE} {L : Nat} {Q : kx_Rs → wS → Prop} {x1 : Option Nat} {x2 : Option Nat} {x4 : Option Nat} {x6 : Option Nat} {x8 : Int32} {w : wS} (hL : 27 ≤ L) (h : zb_X8_given_p161 E L Q x1 x2 x4 x6 x8 w) : kzE E L kt_M312 161 [(0, .ref (w_adr E.2.1 7 0)), (1, va_rf (x1)), (2, va_rf (x2)), (4, va_rf (x4)), (6, va_rf (x6)), (8, .int x8)] [] w Q := by
  unfold zb_X8_given_p161 at h
  refine kz_aload_n (M := kt_M312) kX8_given_c10.1 rfl ?_
  refine kz_gfi (M := kt_M312) (c := 7) (o := 0) kX8_given_c10.2.1 wf_X8_241 (.inl rfl) ?_
  refine kz_if_eq (M := kt_M312) kX8_given_c10.2.2.1 (t := 237) rfl h (fun h => ?_) (fun h => ?_)
  · skip
    exact kz_weak [(0, .ref (w_adr E.2.1 7 0))] ⟨rfl, trivial⟩ rfl (zt_X8_given_p237 hL  h)
  · skip
    refine kz_iload (M := kt_M312) kX8_given_c10.2.2.2.1 rfl ?_
    refine kz_aload_nv (M := kt_M312) (x := x2) kX8_given_c10.2.2.2.2.1 rfl ?_
    obtain ⟨p1, hxp1, hlp1, h⟩ := h
    refine kz_nz0 (x := x2) hxp1 ?_
    refine kz_gfi (M := kt_M312) (c := 15) (o := p1) kX8_given_c10.2.2.2.2.2.1 wf_X8_155 (.inr (by exact hlp1)) ?_
    refine kz_icmp_ge (M := kt_M312) kX8_given_c10.2.2.2.2.2.2.1 (t := 237) rfl h (fun h => ?_) (fun h => ?_)
    · skip
      exact kz_weak [(0, .ref (w_adr E.2.1 7 0))] ⟨rfl, trivial⟩ rfl (zt_X8_given_p237 hL  h)
    · skip
      refine kz_aload_n (M := kt_M312) kX8_given_c10.2.2.2.2.2.2.2.1 rfl ?_
      refine kz_gfa (M := kt_M312) (c := 7) (o := 0) kX8_given_c11.1 wf_X8_11 (.inl rfl) ?_
      refine kz_iload (M := kt_M312) kX8_given_c11.2.1 rfl ?_
      refine kz_aald (M := kt_M312) (τ := 2) (c := 7) (o := 0) (k := 2) (a := (w_d w 7 0 2)) kX8_given_c11.2.2.1 ow_7_0_2 oa_7_0_2 ot_6 rfl h (fun h => ?_)
      refine kz_aloadv (M := kt_M312) (x := x6) kX8_given_c11.2.2.2.1 rfl ?_
      refine kz_acmp_ne (M := kt_M312) (x := w_r w 7 0 2 (x8).toNatClampNeg) (y := x6) kX8_given_c11.2.2.2.2.1 (t := 231) rfl h (fun h => ?_) (fun h => ?_)
      · skip
        exact kz_weak [(0, .ref (w_adr E.2.1 7 0)), (1, va_rf (x1)), (2, va_rf (x2)), (4, va_rf (x4)), (6, va_rf (x6)), (8, .int x8)] ⟨rfl, ⟨rfl, ⟨rfl, ⟨rfl, ⟨rfl, ⟨rfl, trivial⟩⟩⟩⟩⟩⟩ rfl (zt_X8_given_p231 hL  h)
      · skip
        refine kz_aloadv (M := kt_M312) (x := x6) kX8_given_c11.2.2.2.2.2.1 rfl ?_
        obtain ⟨p2, hxp2, hlp2, h⟩ := h
        refine kz_nz0 (x := x6) hxp2 ?_
        refine kz_gfp (M := kt_M312) (c := 15) (o := p2) kX8_given_c11.2.2.2.2.2.2.1 wf_X8_248 (.inr (by exact hlp2)) ?_
        refine kz_getsE (M := kt_M312) (v := va_rf (some (E.1.1 53))) kX8_given_c11.2.2.2.2.2.2.2.1 zs_X8_252 ?_
        refine kz_acmp_eq (M := kt_M312) (x := w_p w 15 p2 0) (y := some (E.1.1 53)) kX8_given_c12.1 (t := 218) rfl h (fun h => ?_) (fun h => ?_)
        · skip
          exact kz_weak [(0, .ref (w_adr E.2.1 7 0)), (1, va_rf (x1)), (2, va_rf (x2)), (4, va_rf (x4)), (6, va_rf (x6)), (8, .int x8)] ⟨rfl, ⟨rfl, ⟨rfl, ⟨rfl, ⟨rfl, ⟨rfl, trivial⟩⟩⟩⟩⟩⟩ rfl (zt_X8_given_p218 hL  h)
        · skip
          refine kz_aloadv (M := kt_M312) (x := x4) kX8_given_c12.2.1 rfl ?_
          obtain ⟨p3, hxp3, hlp3, h⟩ := h
          refine kz_nz0 (x := x4) hxp3 ?_
          refine kz_gfi (M := kt_M312) (c := 15) (o := p3) kX8_given_c12.2.2.1 wf_X8_143 (.inr (by exact hlp3)) ?_
          refine kz_aload_n (M := kt_M312) kX8_given_c12.2.2.2.1 rfl ?_
          refine kz_gfa (M := kt_M312) (c := 7) (o := 0) kX8_given_c12.2.2.2.2.1 wf_X8_17 (.inl rfl) ?_
          refine kz_iload (M := kt_M312) kX8_given_c12.2.2.2.2.2.1 rfl ?_
          refine kz_iald (M := kt_M312) (c := 7) (o := 0) (k := 3) (a := (w_d w 7 0 3)) kX8_given_c12.2.2.2.2.2.2.1 ow_7_0_3 oa_7_0_3 ot_0 h (fun h => ?_)
          refine kz_ior (M := kt_M312) kX8_given_c12.2.2.2.2.2.2.2.1 ?_
          refine kz_ic (M := kt_M312) 2 kX8_given_c13.1 rfl ?_
          refine kz_iand (M := kt_M312) kX8_given_c13.2.1 ?_
          refine kz_if_eq (M := kt_M312) kX8_given_c13.2.2.1 (t := 231) rfl h (fun h => ?_) (fun h => ?_)
          · skip
            exact kz_weak [(0, .ref (w_adr E.2.1 7 0)), (1, va_rf (x1)), (2, va_rf (x2)), (4, va_rf (x4)), (6, va_rf (x6)), (8, .int x8)] ⟨rfl, ⟨rfl, ⟨rfl, ⟨rfl, ⟨rfl, ⟨rfl, trivial⟩⟩⟩⟩⟩⟩ rfl (zt_X8_given_p231 hL  h)
          · skip
            exact kz_weak [(0, .ref (w_adr E.2.1 7 0)), (1, va_rf (x1)), (2, va_rf (x2)), (4, va_rf (x4)), (6, va_rf (x6)), (8, .int x8)] ⟨rfl, ⟨rfl, ⟨rfl, ⟨rfl, ⟨rfl, ⟨rfl, trivial⟩⟩⟩⟩⟩⟩ rfl (zt_X8_given_p218 hL  h)
def zb_X8_given_p155 (E : zE) (L : Nat) (Q : kx_Rs → wS → Prop) (x1 : Option Nat) (x2 : Option Nat) (x4 : Option Nat) (x6 : Option Nat) (w : wS) : Prop := (∃ p1, x2 = some p1 ∧ w_l w E.2.1 15 p1 ∧ zL_X8_given_p161 E L Q x1 x2 x4 x6 (w_i w 15 p1 27) w)
theorem zt_X8_given_p155 {E : zE} {L : Nat} {Q : kx_Rs → wS → Prop} {x1 : Option Nat} {x2 : Option Nat} {x4 : Option Nat} {x6 : Option Nat} {w : wS} (hL : 27 ≤ L) (h : zb_X8_given_p155 E L Q x1 x2 x4 x6 w) : kzE E L kt_M312 155 [(0, .ref (w_adr E.2.1 7 0)), (1, va_rf (x1)), (2, va_rf (x2)), (4, va_rf (x4)), (6, va_rf (x6))] [] w Q := by
  unfold zb_X8_given_p155 at h
  refine kz_aload_nv (M := kt_M312) (x := x2) kX8_given_c9.2.2.2.2.2.1 rfl ?_
  obtain ⟨p1, hxp1, hlp1, h⟩ := h
  refine kz_nz0 (x := x2) hxp1 ?_
  refine kz_gfi (M := kt_M312) (c := 15) (o := p1) kX8_given_c9.2.2.2.2.2.2.1 wf_X8_138 (.inr (by exact hlp1)) ?_
  refine kz_sti (M := kt_M312) [(0, .ref (w_adr E.2.1 7 0)), (1, va_rf (x1)), (2, va_rf (x2)), (4, va_rf (x4)), (6, va_rf (x6))] kX8_given_c9.2.2.2.2.2.2.2.1 (Nat.le_of_ble_eq_true rfl) ⟨⟨rfl, rfl, .inl rfl⟩, ⟨⟨rfl, rfl, .inl rfl⟩, ⟨⟨rfl, rfl, .inl rfl⟩, ⟨⟨rfl, rfl, .inl rfl⟩, ⟨⟨rfl, rfl, .inl rfl⟩, trivial⟩⟩⟩⟩⟩ rfl ?_
  exact kz_weak [(0, .ref (w_adr E.2.1 7 0)), (1, va_rf (x1)), (2, va_rf (x2)), (4, va_rf (x4)), (6, va_rf (x6)), (8, .int (w_i w 15 p1 27))] ⟨rfl, ⟨rfl, ⟨rfl, ⟨rfl, ⟨rfl, ⟨rfl, trivial⟩⟩⟩⟩⟩⟩ rfl h
def zb_X8_given_p90 (E : zE) (L : Nat) (Q : kx_Rs → wS → Prop) (x1 : Option Nat) (x2 : Option Nat) (x4 : Option Nat) (x6 : Option Nat) (x8 : Int32) (w : wS) : Prop := (if w_i w 7 0 8 ≤ x8 then (if w_i w 7 0 19 = 0 then zb_X8_given_p155 E L Q x1 x2 x4 x6 w else (∃ p1, x1 = some p1 ∧ w_l w E.2.1 14 p1 ∧ zw E (L - 22) kt_M56 [.ref (w_adr E.2.1 2 0), .int 12, .int (w_i w 14 p1 2)] w (wk0 (fun w2 => wle w w2 → zb_X8_given_p155 E L Q x1 x2 x4 x6 w2) (fun e w => Q (.inr e) w)))) else (kx_inb x8 (w_n w 7 0 6) = true ∧ (kx_inb x8 (w_n w 7 0 6) = true ∧ (kx_inb (w_a w 7 0 6 (x8).toNatClampNeg) (w_n w 7 0 5) = true ∧ (kx_inb (w_a w 7 0 6 (x8).toNatClampNeg) (w_n w 7 0 5) = true ∧ zL_X8_given_p90 E L Q x1 x2 x4 x6 (x8 + 1) (ws_a w 7 0 5 (w_a w 7 0 6 (x8).toNatClampNeg).toNatClampNeg (((w_a w 7 0 5 (w_a w 7 0 6 (x8).toNatClampNeg).toNatClampNeg) &&& (-33)) ||| 16)))))))
theorem zt_X8_given_p90 {E : zE} {L : Nat} {Q : kx_Rs → wS → Prop} {x1 : Option Nat} {x2 : Option Nat} {x4 : Option Nat} {x6 : Option Nat} {x8 : Int32} {w : wS} (hL : 27 ≤ L) (h : zb_X8_given_p90 E L Q x1 x2 x4 x6 x8 w) : kzE E L kt_M312 90 [(0, .ref (w_adr E.2.1 7 0)), (1, va_rf (x1)), (2, va_rf (x2)), (4, va_rf (x4)), (6, va_rf (x6)), (8, .int x8)] [] w Q := by
  unfold zb_X8_given_p90 at h
  refine kz_iload (M := kt_M312) kX8_given_c5.2.2.2.2.1 rfl ?_
  refine kz_aload_n (M := kt_M312) kX8_given_c5.2.2.2.2.2.1 rfl ?_
  refine kz_gfi (M := kt_M312) (c := 7) (o := 0) kX8_given_c5.2.2.2.2.2.2.1 wf_X8_48 (.inl rfl) ?_
  refine kz_icmp_ge (M := kt_M312) kX8_given_c5.2.2.2.2.2.2.2.1 (t := 135) rfl h (fun h => ?_) (fun h => ?_)
  · skip
    refine kz_aload_n (M := kt_M312) kX8_given_c8.2.2.2.2.1 rfl ?_
    refine kz_gfi (M := kt_M312) (c := 7) (o := 0) kX8_given_c8.2.2.2.2.2.1 wf_X8_238 (.inl rfl) ?_
    refine kz_if_eq (M := kt_M312) kX8_given_c8.2.2.2.2.2.2.1 (t := 155) rfl h (fun h => ?_) (fun h => ?_)
    · skip
      exact kz_weak [(0, .ref (w_adr E.2.1 7 0)), (1, va_rf (x1)), (2, va_rf (x2)), (4, va_rf (x4)), (6, va_rf (x6))] ⟨rfl, ⟨rfl, ⟨rfl, ⟨rfl, ⟨rfl, trivial⟩⟩⟩⟩⟩ rfl (zt_X8_given_p155 hL  h)
    · skip
      refine kz_aload_n (M := kt_M312) kX8_given_c8.2.2.2.2.2.2.2.1 rfl ?_
      refine kz_gfc (M := kt_M312) (x := 8) (c := 7) (o := 0) kX8_given_c9.1 wf_X8_33 (.inl rfl) ?_
      refine kz_bi (M := kt_M312) 12 kX8_given_c9.2.1 rfl ?_
      refine kz_aload_nv (M := kt_M312) (x := x1) kX8_given_c9.2.2.1 rfl ?_
      obtain ⟨p1, hxp1, hlp1, h⟩ := h
      refine kz_nz0 (x := x1) hxp1 ?_
      refine kz_gfi (M := kt_M312) (c := 14) (o := p1) kX8_given_c9.2.2.2.1 wf_X8_195 (.inr (by exact hlp1)) ?_
      refine kz_cv0 (M := kt_M312) (c := 2) (o := 0) (As := [.int 12, .int (w_i w 14 p1 2)]) (rest := []) kX8_given_c9.2.2.2.2.1 wl_X8_196 wMv_56 rfl (.inl rfl) rfl (Nat.le_trans (Nat.le_of_ble_eq_true rfl) hL) (Nat.le_of_ble_eq_true rfl) (Nat.le_of_ble_eq_true rfl) h (fun w2 hle h => ?_) (fun _ _ _ h => kzx_no rfl h)
      have h := h hle
      have hlp1 := w_l_le hlp1 hle
      exact kz_weak [(0, .ref (w_adr E.2.1 7 0)), (1, va_rf (x1)), (2, va_rf (x2)), (4, va_rf (x4)), (6, va_rf (x6))] ⟨rfl, ⟨rfl, ⟨rfl, ⟨rfl, ⟨rfl, trivial⟩⟩⟩⟩⟩ rfl (zt_X8_given_p155 hL  h)
  · skip
    refine kz_aload_n (M := kt_M312) kX8_given_c6.1 rfl ?_
    refine kz_gfa (M := kt_M312) (c := 7) (o := 0) kX8_given_c6.2.1 wf_X8_21 (.inl rfl) ?_
    refine kz_aload_n (M := kt_M312) kX8_given_c6.2.2.1 rfl ?_
    refine kz_gfa (M := kt_M312) (c := 7) (o := 0) kX8_given_c6.2.2.2.1 wf_X8_24 (.inl rfl) ?_
    refine kz_iload (M := kt_M312) kX8_given_c6.2.2.2.2.1 rfl ?_
    refine kz_iald (M := kt_M312) (c := 7) (o := 0) (k := 6) (a := (w_d w 7 0 6)) kX8_given_c6.2.2.2.2.2.1 ow_7_0_6 oa_7_0_6 ot_0 h (fun h => ?_)
    refine kz_aload_n (M := kt_M312) kX8_given_c6.2.2.2.2.2.2.1 rfl ?_
    refine kz_gfa (M := kt_M312) (c := 7) (o := 0) kX8_given_c6.2.2.2.2.2.2.2.1 wf_X8_21 (.inl rfl) ?_
    refine kz_aload_n (M := kt_M312) kX8_given_c7.1 rfl ?_
    refine kz_gfa (M := kt_M312) (c := 7) (o := 0) kX8_given_c7.2.1 wf_X8_24 (.inl rfl) ?_
    refine kz_iload (M := kt_M312) kX8_given_c7.2.2.1 rfl ?_
    refine kz_iald (M := kt_M312) (c := 7) (o := 0) (k := 6) (a := (w_d w 7 0 6)) kX8_given_c7.2.2.2.1 ow_7_0_6 oa_7_0_6 ot_0 h (fun h => ?_)
    refine kz_iald (M := kt_M312) (c := 7) (o := 0) (k := 5) (a := (w_d w 7 0 5)) kX8_given_c7.2.2.2.2.1 ow_7_0_5 oa_7_0_5 ot_0 h (fun h => ?_)
    refine kz_bi (M := kt_M312) (-33) kX8_given_c7.2.2.2.2.2.1 rfl ?_
    refine kz_iand (M := kt_M312) kX8_given_c7.2.2.2.2.2.2.1 ?_
    refine kz_bi (M := kt_M312) 16 kX8_given_c7.2.2.2.2.2.2.2.1 rfl ?_
    refine kz_ior (M := kt_M312) kX8_given_c8.1 ?_
    refine kz_iast (M := kt_M312) (c := 7) (o := 0) (k := 5) (a := (w_d w 7 0 5)) kX8_given_c8.2.1 ow_7_0_5 oa_7_0_5 ot_0 h (fun h => ?_)
    refine kz_inc (M := kt_M312) [(0, .ref (w_adr E.2.1 7 0)), (1, va_rf (x1)), (2, va_rf (x2)), (4, va_rf (x4)), (6, va_rf (x6))] kX8_given_c8.2.2.1 rfl (Nat.le_of_ble_eq_true rfl) ⟨⟨rfl, rfl, .inl rfl⟩, ⟨⟨rfl, rfl, .inl rfl⟩, ⟨⟨rfl, rfl, .inl rfl⟩, ⟨⟨rfl, rfl, .inl rfl⟩, ⟨⟨rfl, rfl, .inl rfl⟩, trivial⟩⟩⟩⟩⟩ rfl ?_
    refine kz_goto (M := kt_M312) kX8_given_c8.2.2.2.1 (t := 90) rfl ?_
    exact kz_weak [(0, .ref (w_adr E.2.1 7 0)), (1, va_rf (x1)), (2, va_rf (x2)), (4, va_rf (x4)), (6, va_rf (x6)), (8, .int (x8 + 1))] ⟨rfl, ⟨rfl, ⟨rfl, ⟨rfl, ⟨rfl, ⟨rfl, trivial⟩⟩⟩⟩⟩⟩ rfl h
def zb_X8_given_p48 (E : zE) (L : Nat) (Q : kx_Rs → wS → Prop) (x1 : Option Nat) (x2 : Option Nat) (x3 : Option Nat) (x4 : Option Nat) (x6 : Option Nat) (w : wS) : Prop := (∃ p1, x1 = some p1 ∧ w_l (ws_i (ws_i w 7 0 19 0) 7 0 20 0) E.2.1 14 p1 ∧ (∃ p2, x3 = some p2 ∧ w_l (ws_i (ws_i (ws_i w 7 0 19 0) 7 0 20 0) 7 0 13 (w_i w 14 p1 2)) E.2.1 14 p2 ∧ zw E (L - 27) kt_M319 [.ref (w_adr E.2.1 7 0), va_rf (w_p w 14 p2 16), va_rf (w_p w 14 p2 3), .int 32] (ws_i (ws_i (ws_i w 7 0 19 0) 7 0 20 0) 7 0 13 (w_i w 14 p1 2)) (wk0 (fun w3 => wle (ws_i (ws_i (ws_i w 7 0 19 0) 7 0 20 0) 7 0 13 (w_i w 14 p1 2)) w3 → zL_X8_given_p90 E L Q x1 x2 x4 x6 (w_i w 7 0 8) w3) (fun e w => Q (.inr e) w))))
theorem zt_X8_given_p48 {E : zE} {L : Nat} {Q : kx_Rs → wS → Prop} {x1 : Option Nat} {x2 : Option Nat} {x3 : Option Nat} {x4 : Option Nat} {x6 : Option Nat} {w : wS} (hL : 27 ≤ L) (h : zb_X8_given_p48 E L Q x1 x2 x3 x4 x6 w) : kzE E L kt_M312 48 [(0, .ref (w_adr E.2.1 7 0)), (1, va_rf (x1)), (2, va_rf (x2)), (3, va_rf (x3)), (4, va_rf (x4)), (6, va_rf (x6))] [] w Q := by
  unfold zb_X8_given_p48 at h
  refine kz_aload_n (M := kt_M312) kX8_given_c2.2.2.2.2.2.2.1 rfl ?_
  refine kz_ic (M := kt_M312) 0 kX8_given_c2.2.2.2.2.2.2.2.1 rfl ?_
  refine kz_pfz (M := kt_M312) (c := 7) (o := 0) kX8_given_c3.1 wq_X8_238 (.inl rfl) (by decide) ?_
  refine kz_aload_n (M := kt_M312) kX8_given_c3.2.1 rfl ?_
  refine kz_ic (M := kt_M312) 0 kX8_given_c3.2.2.1 rfl ?_
  refine kz_pfz (M := kt_M312) (c := 7) (o := 0) kX8_given_c3.2.2.2.1 wq_X8_241 (.inl rfl) (by decide) ?_
  refine kz_aload_n (M := kt_M312) kX8_given_c3.2.2.2.2.1 rfl ?_
  refine kz_aload_nv (M := kt_M312) (x := x1) kX8_given_c3.2.2.2.2.2.1 rfl ?_
  obtain ⟨p1, hxp1, hlp1, h⟩ := h
  refine kz_nz0 (x := x1) hxp1 ?_
  refine kz_gfiR (M := kt_M312) (c := 14) (o := p1) (w_i w 14 p1 2) kX8_given_c3.2.2.2.2.2.2.1 wf_X8_195 (.inr (by exact hlp1)) ((rd_i_i rfl).trans (rd_i_i rfl)) ?_
  refine kz_pfi (M := kt_M312) (c := 7) (o := 0) kX8_given_c3.2.2.2.2.2.2.2.1 wq_X8_116 (.inl rfl) ?_
  refine kz_aload_n (M := kt_M312) kX8_given_c4.1 rfl ?_
  refine kz_gfiR (M := kt_M312) (c := 7) (o := 0) (w_i w 7 0 8) kX8_given_c4.2.1 wf_X8_48 (.inl rfl) ((rd_i_i rfl).trans ((rd_i_i rfl).trans (rd_i_i rfl))) ?_
  refine kz_sti (M := kt_M312) [(0, .ref (w_adr E.2.1 7 0)), (1, va_rf (x1)), (2, va_rf (x2)), (3, va_rf (x3)), (4, va_rf (x4)), (6, va_rf (x6))] kX8_given_c4.2.2.1 (Nat.le_of_ble_eq_true rfl) ⟨⟨rfl, rfl, .inl rfl⟩, ⟨⟨rfl, rfl, .inl rfl⟩, ⟨⟨rfl, rfl, .inl rfl⟩, ⟨⟨rfl, rfl, .inl rfl⟩, ⟨⟨rfl, rfl, .inl rfl⟩, ⟨⟨rfl, rfl, .inr (w_cat (x6))⟩, trivial⟩⟩⟩⟩⟩⟩ rfl ?_
  refine kz_aload_n (M := kt_M312) kX8_given_c4.2.2.2.1 rfl ?_
  refine kz_aload_nv (M := kt_M312) (x := x3) kX8_given_c4.2.2.2.2.1 rfl ?_
  obtain ⟨p2, hxp2, hlp2, h⟩ := h
  refine kz_nz0 (x := x3) hxp2 ?_
  refine kz_gfpR (M := kt_M312) (c := 14) (o := p2) (w_p w 14 p2 16) kX8_given_c4.2.2.2.2.2.1 wf_X8_131 (.inr (by exact hlp2)) (rd_p_i.trans (rd_p_i.trans rd_p_i)) ?_
  refine kz_aload_nv (M := kt_M312) (x := x3) kX8_given_c4.2.2.2.2.2.2.1 rfl ?_
  refine kz_nz0 (x := x3) hxp2 ?_
  refine kz_gfpR (M := kt_M312) (c := 14) (o := p2) (w_p w 14 p2 3) kX8_given_c4.2.2.2.2.2.2.2.1 wf_X8_58 (.inr (by exact hlp2)) (rd_p_i.trans (rd_p_i.trans rd_p_i)) ?_
  refine kz_bi (M := kt_M312) 32 kX8_given_c5.1 rfl ?_
  refine kz_cv0 (M := kt_M312) (c := 7) (o := 0) (As := [va_rf (w_p w 14 p2 16), va_rf (w_p w 14 p2 3), .int 32]) (rest := []) kX8_given_c5.2.1 wl_X8_244 wMv_319 rfl (.inl rfl) rfl (Nat.le_trans (Nat.le_of_ble_eq_true rfl) hL) (by simp [lg_sl, w_cat, z_ci, z_cr, z_cl, z_cn, kt_M319]) (Nat.le_of_ble_eq_true rfl) h (fun w3 hle h => ?_) (fun _ _ _ h => kzx_no rfl h)
  have h := h hle
  have hlp1 := w_l_le hlp1 hle
  have hlp2 := w_l_le hlp2 hle
  refine kz_iload (M := kt_M312) kX8_given_c5.2.2.1 rfl ?_
  refine kz_sti (M := kt_M312) [(0, .ref (w_adr E.2.1 7 0)), (1, va_rf (x1)), (2, va_rf (x2)), (4, va_rf (x4)), (6, va_rf (x6))] kX8_given_c5.2.2.2.1 (Nat.le_of_ble_eq_true rfl) ⟨⟨rfl, rfl, .inl rfl⟩, ⟨⟨rfl, rfl, .inl rfl⟩, ⟨⟨rfl, rfl, .inl rfl⟩, ⟨⟨rfl, rfl, .inl rfl⟩, ⟨⟨rfl, rfl, .inl rfl⟩, trivial⟩⟩⟩⟩⟩ rfl ?_
  exact kz_weak [(0, .ref (w_adr E.2.1 7 0)), (1, va_rf (x1)), (2, va_rf (x2)), (4, va_rf (x4)), (6, va_rf (x6)), (8, .int (w_i w 7 0 8))] ⟨rfl, ⟨rfl, ⟨rfl, ⟨rfl, ⟨rfl, ⟨rfl, trivial⟩⟩⟩⟩⟩⟩ rfl h
def zb_X8_given_p0 (E : zE) (L : Nat) (Q : kx_Rs → wS → Prop) (x1 : Option Nat) (x2 : Option Nat) (x3 : Option Nat) (x4 : Option Nat) (x5 : Int32) (w : wS) : Prop := (∃ p1, x3 = some p1 ∧ w_l w E.2.1 14 p1 ∧ zw E (L - 21) kt_M299 [va_rf (w_p w 14 p1 16)] w (wkr (fun v3 w2 => wle w w2 → (if x5 = (-1) then zb_X8_given_p48 E L Q x1 x2 x3 x4 v3 w2 else (∃ p4, v3 = some p4 ∧ w_l w2 E.2.1 15 p4 ∧ (if x5 ≤ w_i w2 15 p4 3 then zb_X8_given_p48 E L Q x1 x2 x3 x4 v3 w2 else (∃ p5, x4 = some p5 ∧ w_l w2 E.2.1 15 p5 ∧ (if ((w_i w2 15 p5 30) &&& 2) = 0 then zb_X8_given_p48 E L Q x1 x2 x3 x4 v3 w2 else (∃ p6, x1 = some p6 ∧ w_l w2 E.2.1 14 p6 ∧ zw E (L - 22) kt_M56 [.ref (w_adr E.2.1 2 0), .int 11, .int (w_i w2 14 p6 2)] w2 (wk0 (fun w7 => wle w2 w7 → zb_X8_given_p48 E L Q x1 x2 x3 x4 v3 w7) (fun e w => Q (.inr e) w))))))))) (fun e w => Q (.inr e) w)))
theorem zt_X8_given_p0 {E : zE} {L : Nat} {Q : kx_Rs → wS → Prop} {x1 : Option Nat} {x2 : Option Nat} {x3 : Option Nat} {x4 : Option Nat} {x5 : Int32} {w : wS} (hL : 27 ≤ L) (h : zb_X8_given_p0 E L Q x1 x2 x3 x4 x5 w) : kzE E L kt_M312 0 [(0, .ref (w_adr E.2.1 7 0)), (1, va_rf (x1)), (2, va_rf (x2)), (3, va_rf (x3)), (4, va_rf (x4)), (5, .int x5)] [] w Q := by
  unfold zb_X8_given_p0 at h
  refine kz_aload_nv (M := kt_M312) (x := x3) kX8_given_c0.1 rfl ?_
  obtain ⟨p1, hxp1, hlp1, h⟩ := h
  refine kz_nz0 (x := x3) hxp1 ?_
  refine kz_gfp (M := kt_M312) (c := 14) (o := p1) kX8_given_c0.2.1 wf_X8_131 (.inr (by exact hlp1)) ?_
  refine kz_csr (M := kt_M312) (As := [va_rf (w_p w 14 p1 16)]) (rest := []) kX8_given_c0.2.2.1 wl_X8_206 wMs_299 rfl (Nat.le_trans (Nat.le_of_ble_eq_true rfl) hL) (by simp [lg_sl, w_cat, z_ci, z_cr, z_cl, z_cn, kt_M299]) (Nat.le_of_ble_eq_true rfl) h (fun v3 w2 hle h => ?_) (fun _ _ _ h => kzx_no rfl h)
  have h := h hle
  have hlp1 := w_l_le hlp1 hle
  refine kz_stv (M := kt_M312) (x := v3) [(0, .ref (w_adr E.2.1 7 0)), (1, va_rf (x1)), (2, va_rf (x2)), (3, va_rf (x3)), (4, va_rf (x4)), (5, .int x5)] kX8_given_c0.2.2.2.1 (Nat.le_of_ble_eq_true rfl) ⟨⟨rfl, rfl, .inl rfl⟩, ⟨⟨rfl, rfl, .inl rfl⟩, ⟨⟨rfl, rfl, .inl rfl⟩, ⟨⟨rfl, rfl, .inl rfl⟩, ⟨⟨rfl, rfl, .inl rfl⟩, ⟨⟨rfl, rfl, .inr rfl⟩, trivial⟩⟩⟩⟩⟩⟩ rfl ?_
  refine kz_iload (M := kt_M312) kX8_given_c0.2.2.2.2.1 rfl ?_
  refine kz_ic (M := kt_M312) (-1) kX8_given_c0.2.2.2.2.2.1 rfl ?_
  refine kz_icmp_eq (M := kt_M312) kX8_given_c0.2.2.2.2.2.2.1 (t := 48) rfl h (fun h => ?_) (fun h => ?_)
  · skip
    exact kz_weak [(0, .ref (w_adr E.2.1 7 0)), (1, va_rf (x1)), (2, va_rf (x2)), (3, va_rf (x3)), (4, va_rf (x4)), (6, va_rf (v3))] ⟨rfl, ⟨rfl, ⟨rfl, ⟨rfl, ⟨rfl, ⟨rfl, trivial⟩⟩⟩⟩⟩⟩ rfl (zt_X8_given_p48 hL  h)
  · skip
    refine kz_aloadv (M := kt_M312) (x := v3) kX8_given_c0.2.2.2.2.2.2.2.1 rfl ?_
    obtain ⟨p4, hxp4, hlp4, h⟩ := h
    refine kz_nz0 (x := v3) hxp4 ?_
    refine kz_gfi (M := kt_M312) (c := 15) (o := p4) kX8_given_c1.1 wf_X8_148 (.inr (by exact hlp4)) ?_
    refine kz_iload (M := kt_M312) kX8_given_c1.2.1 rfl ?_
    refine kz_icmp_ge (M := kt_M312) kX8_given_c1.2.2.1 (t := 48) rfl h (fun h => ?_) (fun h => ?_)
    · skip
      exact kz_weak [(0, .ref (w_adr E.2.1 7 0)), (1, va_rf (x1)), (2, va_rf (x2)), (3, va_rf (x3)), (4, va_rf (x4)), (6, va_rf (v3))] ⟨rfl, ⟨rfl, ⟨rfl, ⟨rfl, ⟨rfl, ⟨rfl, trivial⟩⟩⟩⟩⟩⟩ rfl (zt_X8_given_p48 hL  h)
    · skip
      refine kz_aloadv (M := kt_M312) (x := x4) kX8_given_c1.2.2.2.1 rfl ?_
      obtain ⟨p5, hxp5, hlp5, h⟩ := h
      refine kz_nz0 (x := x4) hxp5 ?_
      refine kz_gfi (M := kt_M312) (c := 15) (o := p5) kX8_given_c1.2.2.2.2.1 wf_X8_143 (.inr (by exact hlp5)) ?_
      refine kz_ic (M := kt_M312) 2 kX8_given_c1.2.2.2.2.2.1 rfl ?_
      refine kz_iand (M := kt_M312) kX8_given_c1.2.2.2.2.2.2.1 ?_
      refine kz_if_eq (M := kt_M312) kX8_given_c1.2.2.2.2.2.2.2.1 (t := 48) rfl h (fun h => ?_) (fun h => ?_)
      · skip
        exact kz_weak [(0, .ref (w_adr E.2.1 7 0)), (1, va_rf (x1)), (2, va_rf (x2)), (3, va_rf (x3)), (4, va_rf (x4)), (6, va_rf (v3))] ⟨rfl, ⟨rfl, ⟨rfl, ⟨rfl, ⟨rfl, ⟨rfl, trivial⟩⟩⟩⟩⟩⟩ rfl (zt_X8_given_p48 hL  h)
      · skip
        refine kz_aload_n (M := kt_M312) kX8_given_c2.1 rfl ?_
        refine kz_gfc (M := kt_M312) (x := 8) (c := 7) (o := 0) kX8_given_c2.2.1 wf_X8_33 (.inl rfl) ?_
        refine kz_bi (M := kt_M312) 11 kX8_given_c2.2.2.1 rfl ?_
        refine kz_aload_nv (M := kt_M312) (x := x1) kX8_given_c2.2.2.2.1 rfl ?_
        obtain ⟨p6, hxp6, hlp6, h⟩ := h
        refine kz_nz0 (x := x1) hxp6 ?_
        refine kz_gfi (M := kt_M312) (c := 14) (o := p6) kX8_given_c2.2.2.2.2.1 wf_X8_195 (.inr (by exact hlp6)) ?_
        refine kz_cv0 (M := kt_M312) (c := 2) (o := 0) (As := [.int 11, .int (w_i w2 14 p6 2)]) (rest := []) kX8_given_c2.2.2.2.2.2.1 wl_X8_196 wMv_56 rfl (.inl rfl) rfl (Nat.le_trans (Nat.le_of_ble_eq_true rfl) hL) (Nat.le_of_ble_eq_true rfl) (Nat.le_of_ble_eq_true rfl) h (fun w7 hle h => ?_) (fun _ _ _ h => kzx_no rfl h)
        have h := h hle
        have hlp1 := w_l_le hlp1 hle
        have hlp4 := w_l_le hlp4 hle
        have hlp5 := w_l_le hlp5 hle
        have hlp6 := w_l_le hlp6 hle
        exact kz_weak [(0, .ref (w_adr E.2.1 7 0)), (1, va_rf (x1)), (2, va_rf (x2)), (3, va_rf (x3)), (4, va_rf (x4)), (6, va_rf (v3))] ⟨rfl, ⟨rfl, ⟨rfl, ⟨rfl, ⟨rfl, ⟨rfl, trivial⟩⟩⟩⟩⟩⟩ rfl (zt_X8_given_p48 hL  h)
def zL_X8_within_p199 (E : zE) (L : Nat) (Q : kx_Rs → wS → Prop) (x2 : Int32) (x3 : Option Nat) (x4 : Option Nat) (w : wS) : Prop := kzE E L kt_M332 199 [(0, .ref (w_adr E.2.1 7 0)), (2, .int x2), (3, va_rf (x3)), (4, va_rf (x4))] [] w Q
def zL_X8_within_p161 (E : zE) (L : Nat) (Q : kx_Rs → wS → Prop) (x2 : Int32) (x3 : Option Nat) (w : wS) : Prop := kzE E L kt_M332 161 [(0, .ref (w_adr E.2.1 7 0)), (2, .int x2), (3, va_rf (x3))] [] w Q
def zL_X8_within_p132 (E : zE) (L : Nat) (Q : kx_Rs → wS → Prop) (x2 : Int32) (x3 : Option Nat) (w : wS) : Prop := kzE E L kt_M332 132 [(0, .ref (w_adr E.2.1 7 0)), (2, .int x2), (3, va_rf (x3))] [] w Q
def zL_X8_within_p91 (E : zE) (L : Nat) (Q : kx_Rs → wS → Prop) (x2 : Int32) (x3 : Option Nat) (w : wS) : Prop := kzE E L kt_M332 91 [(0, .ref (w_adr E.2.1 7 0)), (2, .int x2), (3, va_rf (x3))] [] w Q
def zL_X8_within_p65 (E : zE) (L : Nat) (Q : kx_Rs → wS → Prop) (x2 : Int32) (x3 : Option Nat) (w : wS) : Prop := kzE E L kt_M332 65 [(0, .ref (w_adr E.2.1 7 0)), (2, .int x2), (3, va_rf (x3))] [] w Q
def zb_X8_within_p235 (E : zE) (L : Nat) (Q : kx_Rs → wS → Prop) (w : wS) : Prop := Q (.inl none) w
theorem zt_X8_within_p235 {E : zE} {L : Nat} {Q : kx_Rs → wS → Prop} {w : wS} (hL : 23 ≤ L) (h : zb_X8_within_p235 E L Q  w) : kzE E L kt_M332 235 [(0, .ref (w_adr E.2.1 7 0))] [] w Q := by
  unfold zb_X8_within_p235 at h
  exact kz_ret (M := kt_M332) kX8_within_c11.2.2.2.2.1 rfl h
def zb_X8_within_p199 (E : zE) (L : Nat) (Q : kx_Rs → wS → Prop) (x2 : Int32) (x3 : Option Nat) (x4 : Option Nat) (w : wS) : Prop := (if x4 = none then (∃ p1, x3 = some p1 ∧ w_l w E.2.1 14 p1 ∧ zL_X8_within_p161 E L Q x2 (w_p w 14 p1 7) w) else (∃ p2, x4 = some p2 ∧ w_l w E.2.1 14 p2 ∧ zw E (L - 23) kt_M296 [.ref (w_adr E.2.1 7 0), va_rf (w_p w 14 p2 6), .int x2] w (wk0 (fun w3 => wle w w3 → zL_X8_within_p199 E L Q x2 x3 (w_p w3 14 p2 7) w3) (fun e w => Q (.inr e) w))))
theorem zt_X8_within_p199 {E : zE} {L : Nat} {Q : kx_Rs → wS → Prop} {x2 : Int32} {x3 : Option Nat} {x4 : Option Nat} {w : wS} (hL : 23 ≤ L) (h : zb_X8_within_p199 E L Q x2 x3 x4 w) : kzE E L kt_M332 199 [(0, .ref (w_adr E.2.1 7 0)), (2, .int x2), (3, va_rf (x3)), (4, va_rf (x4))] [] w Q := by
  unfold zb_X8_within_p199 at h
  refine kz_aloadv (M := kt_M332) (x := x4) kX8_within_c9.2.2.2.2.1 rfl ?_
  refine kz_ifnull (M := kt_M332) (x := x4) kX8_within_c9.2.2.2.2.2.1 (t := 224) rfl h (fun h => ?_) (fun h => ?_)
  · skip
    refine kz_aload_nv (M := kt_M332) (x := x3) kX8_within_c10.2.2.2.2.2.2.2.1 rfl ?_
    obtain ⟨p1, hxp1, hlp1, h⟩ := h
    refine kz_nz0 (x := x3) hxp1 ?_
    refine kz_gfp (M := kt_M332) (c := 14) (o := p1) kX8_within_c11.1 wf_X8_67 (.inr (by exact hlp1)) ?_
    refine kz_stv_n (M := kt_M332) (x := w_p w 14 p1 7) [(0, .ref (w_adr E.2.1 7 0)), (2, .int x2)] kX8_within_c11.2.1 (Nat.le_of_ble_eq_true rfl) ⟨⟨rfl, rfl, .inl rfl⟩, ⟨⟨rfl, rfl, .inr rfl⟩, trivial⟩⟩ rfl ?_
    refine kz_goto (M := kt_M332) kX8_within_c11.2.2.1 (t := 161) rfl ?_
    exact kz_weak [(0, .ref (w_adr E.2.1 7 0)), (2, .int x2), (3, va_rf (w_p w 14 p1 7))] ⟨rfl, ⟨rfl, ⟨rfl, trivial⟩⟩⟩ rfl h
  · skip
    refine kz_aload_n (M := kt_M332) kX8_within_c9.2.2.2.2.2.2.1 rfl ?_
    refine kz_aloadv (M := kt_M332) (x := x4) kX8_within_c9.2.2.2.2.2.2.2.1 rfl ?_
    obtain ⟨p2, hxp2, hlp2, h⟩ := h
    refine kz_nz0 (x := x4) hxp2 ?_
    refine kz_gfp (M := kt_M332) (c := 14) (o := p2) kX8_within_c10.1 wf_X8_128 (.inr (by exact hlp2)) ?_
    refine kz_iload_n (M := kt_M332) kX8_within_c10.2.1 rfl ?_
    refine kz_cv0 (M := kt_M332) (c := 7) (o := 0) (As := [va_rf (w_p w 14 p2 6), .int x2]) (rest := []) kX8_within_c10.2.2.1 wl_X8_54 wMv_296 rfl (.inl rfl) rfl (Nat.le_trans (Nat.le_of_ble_eq_true rfl) hL) (by simp [lg_sl, w_cat, z_ci, z_cr, z_cl, z_cn, kt_M296]) (Nat.le_of_ble_eq_true rfl) h (fun w3 hle h => ?_) (fun _ _ _ h => kzx_no rfl h)
    have h := h hle
    have hlp2 := w_l_le hlp2 hle
    refine kz_aloadv (M := kt_M332) (x := x4) kX8_within_c10.2.2.2.1 rfl ?_
    refine kz_nz0 (x := x4) hxp2 ?_
    refine kz_gfp (M := kt_M332) (c := 14) (o := p2) kX8_within_c10.2.2.2.2.1 wf_X8_67 (.inr (by exact hlp2)) ?_
    refine kz_stv (M := kt_M332) (x := w_p w3 14 p2 7) [(0, .ref (w_adr E.2.1 7 0)), (2, .int x2), (3, va_rf (x3))] kX8_within_c10.2.2.2.2.2.1 (Nat.le_of_ble_eq_true rfl) ⟨⟨rfl, rfl, .inl rfl⟩, ⟨⟨rfl, rfl, .inl rfl⟩, ⟨⟨rfl, rfl, .inr (w_cat (x3))⟩, trivial⟩⟩⟩ rfl ?_
    refine kz_goto (M := kt_M332) kX8_within_c10.2.2.2.2.2.2.1 (t := 199) rfl ?_
    exact kz_weak [(0, .ref (w_adr E.2.1 7 0)), (2, .int x2), (3, va_rf (x3)), (4, va_rf (w_p w3 14 p2 7))] ⟨rfl, ⟨rfl, ⟨rfl, ⟨rfl, trivial⟩⟩⟩⟩ rfl h
def zb_X8_within_p197 (E : zE) (L : Nat) (Q : kx_Rs → wS → Prop) (x2 : Int32) (x3 : Option Nat) (y0 : Option Nat) (w : wS) : Prop := zL_X8_within_p199 E L Q x2 x3 y0 w
theorem zt_X8_within_p197 {E : zE} {L : Nat} {Q : kx_Rs → wS → Prop} {x2 : Int32} {x3 : Option Nat} {y0 : Option Nat} {w : wS} (hL : 23 ≤ L) (h : zb_X8_within_p197 E L Q x2 x3 y0 w) : kzE E L kt_M332 197 [(0, .ref (w_adr E.2.1 7 0)), (2, .int x2), (3, va_rf (x3))] [va_rf (y0)] w Q := by
  unfold zb_X8_within_p197 at h
  refine kz_stv (M := kt_M332) (x := y0) [(0, .ref (w_adr E.2.1 7 0)), (2, .int x2), (3, va_rf (x3))] kX8_within_c9.2.2.2.1 (Nat.le_of_ble_eq_true rfl) ⟨⟨rfl, rfl, .inl rfl⟩, ⟨⟨rfl, rfl, .inl rfl⟩, ⟨⟨rfl, rfl, .inr (w_cat (x3))⟩, trivial⟩⟩⟩ rfl ?_
  exact kz_weak [(0, .ref (w_adr E.2.1 7 0)), (2, .int x2), (3, va_rf (x3)), (4, va_rf (y0))] ⟨rfl, ⟨rfl, ⟨rfl, ⟨rfl, trivial⟩⟩⟩⟩ rfl h
def zb_X8_within_p181 (E : zE) (L : Nat) (Q : kx_Rs → wS → Prop) (x2 : Int32) (x3 : Option Nat) (w : wS) : Prop := (∃ p1, x3 = some p1 ∧ w_l w E.2.1 14 p1 ∧ (if ¬ w_i w 14 p1 10 = 3 then zb_X8_within_p197 E L Q x2 x3 none w else zb_X8_within_p197 E L Q x2 x3 (w_p w 14 p1 4) w))
theorem zt_X8_within_p181 {E : zE} {L : Nat} {Q : kx_Rs → wS → Prop} {x2 : Int32} {x3 : Option Nat} {w : wS} (hL : 23 ≤ L) (h : zb_X8_within_p181 E L Q x2 x3 w) : kzE E L kt_M332 181 [(0, .ref (w_adr E.2.1 7 0)), (2, .int x2), (3, va_rf (x3))] [] w Q := by
  unfold zb_X8_within_p181 at h
  refine kz_aload_nv (M := kt_M332) (x := x3) kX8_within_c8.2.2.2.1 rfl ?_
  obtain ⟨p1, hxp1, hlp1, h⟩ := h
  refine kz_nz0 (x := x3) hxp1 ?_
  refine kz_gfi (M := kt_M332) (c := 14) (o := p1) kX8_within_c8.2.2.2.2.1 wf_X8_88 (.inr (by exact hlp1)) ?_
  refine kz_ic (M := kt_M332) 3 kX8_within_c8.2.2.2.2.2.1 rfl ?_
  refine kz_icmp_ne (M := kt_M332) kX8_within_c8.2.2.2.2.2.2.1 (t := 196) rfl h (fun h => ?_) (fun h => ?_)
  · skip
    refine kz_null (M := kt_M332) kX8_within_c9.2.2.1 ?_
    exact kz_weak [(0, .ref (w_adr E.2.1 7 0)), (2, .int x2), (3, va_rf (x3))] ⟨rfl, ⟨rfl, ⟨rfl, trivial⟩⟩⟩ rfl (zt_X8_within_p197 hL  h)
  · skip
    refine kz_aload_nv (M := kt_M332) (x := x3) kX8_within_c8.2.2.2.2.2.2.2.1 rfl ?_
    refine kz_nz0 (x := x3) hxp1 ?_
    refine kz_gfp (M := kt_M332) (c := 14) (o := p1) kX8_within_c9.1 wf_X8_70 (.inr (by exact hlp1)) ?_
    refine kz_goto (M := kt_M332) kX8_within_c9.2.1 (t := 197) rfl ?_
    exact kz_weak [(0, .ref (w_adr E.2.1 7 0)), (2, .int x2), (3, va_rf (x3))] ⟨rfl, ⟨rfl, ⟨rfl, trivial⟩⟩⟩ rfl (zt_X8_within_p197 hL  h)
def zb_X8_within_p161 (E : zE) (L : Nat) (Q : kx_Rs → wS → Prop) (x2 : Int32) (x3 : Option Nat) (w : wS) : Prop := (if x3 = none then zb_X8_within_p235 E L Q w else (∃ p1, x3 = some p1 ∧ w_l w E.2.1 14 p1 ∧ (if (w_p w 14 p1 6) = none then zb_X8_within_p181 E L Q x2 x3 w else zw E (L - 23) kt_M296 [.ref (w_adr E.2.1 7 0), va_rf (w_p w 14 p1 6), .int x2] w (wk0 (fun w2 => wle w w2 → zb_X8_within_p181 E L Q x2 x3 w2) (fun e w => Q (.inr e) w)))))
theorem zt_X8_within_p161 {E : zE} {L : Nat} {Q : kx_Rs → wS → Prop} {x2 : Int32} {x3 : Option Nat} {w : wS} (hL : 23 ≤ L) (h : zb_X8_within_p161 E L Q x2 x3 w) : kzE E L kt_M332 161 [(0, .ref (w_adr E.2.1 7 0)), (2, .int x2), (3, va_rf (x3))] [] w Q := by
  unfold zb_X8_within_p161 at h
  refine kz_aload_nv (M := kt_M332) (x := x3) kX8_within_c7.2.1 rfl ?_
  refine kz_ifnull (M := kt_M332) (x := x3) kX8_within_c7.2.2.1 (t := 232) rfl h (fun h => ?_) (fun h => ?_)
  · skip
    refine kz_goto (M := kt_M332) kX8_within_c11.2.2.2.1 (t := 235) rfl ?_
    exact kz_weak [(0, .ref (w_adr E.2.1 7 0))] ⟨rfl, trivial⟩ rfl (zt_X8_within_p235 hL  h)
  · skip
    refine kz_aload_nv (M := kt_M332) (x := x3) kX8_within_c7.2.2.2.1 rfl ?_
    obtain ⟨p1, hxp1, hlp1, h⟩ := h
    refine kz_nz0 (x := x3) hxp1 ?_
    refine kz_gfp (M := kt_M332) (c := 14) (o := p1) kX8_within_c7.2.2.2.2.1 wf_X8_128 (.inr (by exact hlp1)) ?_
    refine kz_ifnull (M := kt_M332) (x := w_p w 14 p1 6) kX8_within_c7.2.2.2.2.2.1 (t := 181) rfl h (fun h => ?_) (fun h => ?_)
    · skip
      exact kz_weak [(0, .ref (w_adr E.2.1 7 0)), (2, .int x2), (3, va_rf (x3))] ⟨rfl, ⟨rfl, ⟨rfl, trivial⟩⟩⟩ rfl (zt_X8_within_p181 hL  h)
    · skip
      refine kz_aload_n (M := kt_M332) kX8_within_c7.2.2.2.2.2.2.1 rfl ?_
      refine kz_aload_nv (M := kt_M332) (x := x3) kX8_within_c7.2.2.2.2.2.2.2.1 rfl ?_
      refine kz_nz0 (x := x3) hxp1 ?_
      refine kz_gfp (M := kt_M332) (c := 14) (o := p1) kX8_within_c8.1 wf_X8_128 (.inr (by exact hlp1)) ?_
      refine kz_iload_n (M := kt_M332) kX8_within_c8.2.1 rfl ?_
      refine kz_cv0 (M := kt_M332) (c := 7) (o := 0) (As := [va_rf (w_p w 14 p1 6), .int x2]) (rest := []) kX8_within_c8.2.2.1 wl_X8_54 wMv_296 rfl (.inl rfl) rfl (Nat.le_trans (Nat.le_of_ble_eq_true rfl) hL) (by simp [lg_sl, w_cat, z_ci, z_cr, z_cl, z_cn, kt_M296]) (Nat.le_of_ble_eq_true rfl) h (fun w2 hle h => ?_) (fun _ _ _ h => kzx_no rfl h)
      have h := h hle
      have hlp1 := w_l_le hlp1 hle
      exact kz_weak [(0, .ref (w_adr E.2.1 7 0)), (2, .int x2), (3, va_rf (x3))] ⟨rfl, ⟨rfl, ⟨rfl, trivial⟩⟩⟩ rfl (zt_X8_within_p181 hL  h)
def zb_X8_within_p132 (E : zE) (L : Nat) (Q : kx_Rs → wS → Prop) (x2 : Int32) (x3 : Option Nat) (w : wS) : Prop := (if x3 = none then zb_X8_within_p235 E L Q w else (∃ p1, x3 = some p1 ∧ w_l w E.2.1 14 p1 ∧ zw E (L - 23) kt_M296 [.ref (w_adr E.2.1 7 0), va_rf (w_p w 14 p1 6), .int x2] w (wk0 (fun w2 => wle w w2 → zL_X8_within_p132 E L Q x2 (w_p w2 14 p1 7) w2) (fun e w => Q (.inr e) w))))
theorem zt_X8_within_p132 {E : zE} {L : Nat} {Q : kx_Rs → wS → Prop} {x2 : Int32} {x3 : Option Nat} {w : wS} (hL : 23 ≤ L) (h : zb_X8_within_p132 E L Q x2 x3 w) : kzE E L kt_M332 132 [(0, .ref (w_adr E.2.1 7 0)), (2, .int x2), (3, va_rf (x3))] [] w Q := by
  unfold zb_X8_within_p132 at h
  refine kz_aload_nv (M := kt_M332) (x := x3) kX8_within_c5.2.2.1 rfl ?_
  refine kz_ifnull (M := kt_M332) (x := x3) kX8_within_c5.2.2.2.1 (t := 153) rfl h (fun h => ?_) (fun h => ?_)
  · skip
    refine kz_goto (M := kt_M332) kX8_within_c6.2.2.2.2.2.1 (t := 235) rfl ?_
    exact kz_weak [(0, .ref (w_adr E.2.1 7 0))] ⟨rfl, trivial⟩ rfl (zt_X8_within_p235 hL  h)
  · skip
    refine kz_aload_n (M := kt_M332) kX8_within_c5.2.2.2.2.1 rfl ?_
    refine kz_aload_nv (M := kt_M332) (x := x3) kX8_within_c5.2.2.2.2.2.1 rfl ?_
    obtain ⟨p1, hxp1, hlp1, h⟩ := h
    refine kz_nz0 (x := x3) hxp1 ?_
    refine kz_gfp (M := kt_M332) (c := 14) (o := p1) kX8_within_c5.2.2.2.2.2.2.1 wf_X8_128 (.inr (by exact hlp1)) ?_
    refine kz_iload_n (M := kt_M332) kX8_within_c5.2.2.2.2.2.2.2.1 rfl ?_
    refine kz_cv0 (M := kt_M332) (c := 7) (o := 0) (As := [va_rf (w_p w 14 p1 6), .int x2]) (rest := []) kX8_within_c6.1 wl_X8_54 wMv_296 rfl (.inl rfl) rfl (Nat.le_trans (Nat.le_of_ble_eq_true rfl) hL) (by simp [lg_sl, w_cat, z_ci, z_cr, z_cl, z_cn, kt_M296]) (Nat.le_of_ble_eq_true rfl) h (fun w2 hle h => ?_) (fun _ _ _ h => kzx_no rfl h)
    have h := h hle
    have hlp1 := w_l_le hlp1 hle
    refine kz_aload_nv (M := kt_M332) (x := x3) kX8_within_c6.2.1 rfl ?_
    refine kz_nz0 (x := x3) hxp1 ?_
    refine kz_gfp (M := kt_M332) (c := 14) (o := p1) kX8_within_c6.2.2.1 wf_X8_67 (.inr (by exact hlp1)) ?_
    refine kz_stv_n (M := kt_M332) (x := w_p w2 14 p1 7) [(0, .ref (w_adr E.2.1 7 0)), (2, .int x2)] kX8_within_c6.2.2.2.1 (Nat.le_of_ble_eq_true rfl) ⟨⟨rfl, rfl, .inl rfl⟩, ⟨⟨rfl, rfl, .inr rfl⟩, trivial⟩⟩ rfl ?_
    refine kz_goto (M := kt_M332) kX8_within_c6.2.2.2.2.1 (t := 132) rfl ?_
    exact kz_weak [(0, .ref (w_adr E.2.1 7 0)), (2, .int x2), (3, va_rf (w_p w2 14 p1 7))] ⟨rfl, ⟨rfl, ⟨rfl, trivial⟩⟩⟩ rfl h
def zb_X8_within_p91 (E : zE) (L : Nat) (Q : kx_Rs → wS → Prop) (x2 : Int32) (x3 : Option Nat) (w : wS) : Prop := (if x3 = none then zb_X8_within_p235 E L Q w else (∃ p1, x3 = some p1 ∧ w_l w E.2.1 14 p1 ∧ zw E (L - 23) kt_M296 [.ref (w_adr E.2.1 7 0), va_rf (w_p w 14 p1 4), .int x2] w (wk0 (fun w2 => wle w w2 → zL_X8_within_p91 E L Q x2 (w_p w2 14 p1 7) w2) (fun e w => Q (.inr e) w))))
theorem zt_X8_within_p91 {E : zE} {L : Nat} {Q : kx_Rs → wS → Prop} {x2 : Int32} {x3 : Option Nat} {w : wS} (hL : 23 ≤ L) (h : zb_X8_within_p91 E L Q x2 x3 w) : kzE E L kt_M332 91 [(0, .ref (w_adr E.2.1 7 0)), (2, .int x2), (3, va_rf (x3))] [] w Q := by
  unfold zb_X8_within_p91 at h
  refine kz_aload_nv (M := kt_M332) (x := x3) kX8_within_c2.2.2.2.2.2.1 rfl ?_
  refine kz_ifnull (M := kt_M332) (x := x3) kX8_within_c2.2.2.2.2.2.2.1 (t := 112) rfl h (fun h => ?_) (fun h => ?_)
  · skip
    refine kz_goto (M := kt_M332) kX8_within_c4.1 (t := 235) rfl ?_
    exact kz_weak [(0, .ref (w_adr E.2.1 7 0))] ⟨rfl, trivial⟩ rfl (zt_X8_within_p235 hL  h)
  · skip
    refine kz_aload_n (M := kt_M332) kX8_within_c2.2.2.2.2.2.2.2.1 rfl ?_
    refine kz_aload_nv (M := kt_M332) (x := x3) kX8_within_c3.1 rfl ?_
    obtain ⟨p1, hxp1, hlp1, h⟩ := h
    refine kz_nz0 (x := x3) hxp1 ?_
    refine kz_gfp (M := kt_M332) (c := 14) (o := p1) kX8_within_c3.2.1 wf_X8_70 (.inr (by exact hlp1)) ?_
    refine kz_iload_n (M := kt_M332) kX8_within_c3.2.2.1 rfl ?_
    refine kz_cv0 (M := kt_M332) (c := 7) (o := 0) (As := [va_rf (w_p w 14 p1 4), .int x2]) (rest := []) kX8_within_c3.2.2.2.1 wl_X8_54 wMv_296 rfl (.inl rfl) rfl (Nat.le_trans (Nat.le_of_ble_eq_true rfl) hL) (by simp [lg_sl, w_cat, z_ci, z_cr, z_cl, z_cn, kt_M296]) (Nat.le_of_ble_eq_true rfl) h (fun w2 hle h => ?_) (fun _ _ _ h => kzx_no rfl h)
    have h := h hle
    have hlp1 := w_l_le hlp1 hle
    refine kz_aload_nv (M := kt_M332) (x := x3) kX8_within_c3.2.2.2.2.1 rfl ?_
    refine kz_nz0 (x := x3) hxp1 ?_
    refine kz_gfp (M := kt_M332) (c := 14) (o := p1) kX8_within_c3.2.2.2.2.2.1 wf_X8_67 (.inr (by exact hlp1)) ?_
    refine kz_stv_n (M := kt_M332) (x := w_p w2 14 p1 7) [(0, .ref (w_adr E.2.1 7 0)), (2, .int x2)] kX8_within_c3.2.2.2.2.2.2.1 (Nat.le_of_ble_eq_true rfl) ⟨⟨rfl, rfl, .inl rfl⟩, ⟨⟨rfl, rfl, .inr rfl⟩, trivial⟩⟩ rfl ?_
    refine kz_goto (M := kt_M332) kX8_within_c3.2.2.2.2.2.2.2.1 (t := 91) rfl ?_
    exact kz_weak [(0, .ref (w_adr E.2.1 7 0)), (2, .int x2), (3, va_rf (w_p w2 14 p1 7))] ⟨rfl, ⟨rfl, ⟨rfl, trivial⟩⟩⟩ rfl h
def zb_X8_within_p65 (E : zE) (L : Nat) (Q : kx_Rs → wS → Prop) (x2 : Int32) (x3 : Option Nat) (w : wS) : Prop := (if x3 = none then zb_X8_within_p235 E L Q w else zw E (L - 23) kt_M296 [.ref (w_adr E.2.1 7 0), va_rf (x3), .int x2] w (wk0 (fun w1 => wle w w1 → (∃ p3, x3 = some p3 ∧ w_l w1 E.2.1 14 p3 ∧ zL_X8_within_p65 E L Q x2 (w_p w1 14 p3 7) w1)) (fun e w => Q (.inr e) w)))
theorem zt_X8_within_p65 {E : zE} {L : Nat} {Q : kx_Rs → wS → Prop} {x2 : Int32} {x3 : Option Nat} {w : wS} (hL : 23 ≤ L) (h : zb_X8_within_p65 E L Q x2 x3 w) : kzE E L kt_M332 65 [(0, .ref (w_adr E.2.1 7 0)), (2, .int x2), (3, va_rf (x3))] [] w Q := by
  unfold zb_X8_within_p65 at h
  refine kz_aload_nv (M := kt_M332) (x := x3) kX8_within_c0.2.2.2.2.2.2.2.1 rfl ?_
  refine kz_ifnull (M := kt_M332) (x := x3) kX8_within_c1.1 (t := 83) rfl h (fun h => ?_) (fun h => ?_)
  · skip
    refine kz_goto (M := kt_M332) kX8_within_c2.2.1 (t := 235) rfl ?_
    exact kz_weak [(0, .ref (w_adr E.2.1 7 0))] ⟨rfl, trivial⟩ rfl (zt_X8_within_p235 hL  h)
  · skip
    refine kz_aload_n (M := kt_M332) kX8_within_c1.2.1 rfl ?_
    refine kz_aload_nv (M := kt_M332) (x := x3) kX8_within_c1.2.2.1 rfl ?_
    refine kz_iload_n (M := kt_M332) kX8_within_c1.2.2.2.1 rfl ?_
    refine kz_cv0 (M := kt_M332) (c := 7) (o := 0) (As := [va_rf (x3), .int x2]) (rest := []) kX8_within_c1.2.2.2.2.1 wl_X8_54 wMv_296 rfl (.inl rfl) rfl (Nat.le_trans (Nat.le_of_ble_eq_true rfl) hL) (by simp [lg_sl, w_cat, z_ci, z_cr, z_cl, z_cn, kt_M296]) (Nat.le_of_ble_eq_true rfl) h (fun w1 hle h => ?_) (fun _ _ _ h => kzx_no rfl h)
    have h := h hle
    refine kz_aload_nv (M := kt_M332) (x := x3) kX8_within_c1.2.2.2.2.2.1 rfl ?_
    obtain ⟨p3, hxp3, hlp3, h⟩ := h
    refine kz_nz0 (x := x3) hxp3 ?_
    refine kz_gfp (M := kt_M332) (c := 14) (o := p3) kX8_within_c1.2.2.2.2.2.2.1 wf_X8_67 (.inr (by exact hlp3)) ?_
    refine kz_stv_n (M := kt_M332) (x := w_p w1 14 p3 7) [(0, .ref (w_adr E.2.1 7 0)), (2, .int x2)] kX8_within_c1.2.2.2.2.2.2.2.1 (Nat.le_of_ble_eq_true rfl) ⟨⟨rfl, rfl, .inl rfl⟩, ⟨⟨rfl, rfl, .inr rfl⟩, trivial⟩⟩ rfl ?_
    refine kz_goto (M := kt_M332) kX8_within_c2.1 (t := 65) rfl ?_
    exact kz_weak [(0, .ref (w_adr E.2.1 7 0)), (2, .int x2), (3, va_rf (w_p w1 14 p3 7))] ⟨rfl, ⟨rfl, ⟨rfl, trivial⟩⟩⟩ rfl h
def zb_X8_within_p0 (E : zE) (L : Nat) (Q : kx_Rs → wS → Prop) (x1 : Option Nat) (x2 : Int32) (w : wS) : Prop := (∃ p1, x1 = some p1 ∧ w_l w E.2.1 14 p1 ∧ (∃ i2, zO E "MeetingHouse$Kind" (w_p w 14 p1 0) i2 ∧ (if (kw_on i2) = 20 then zL_X8_within_p132 E L Q x2 (w_p w 14 p1 4) w else (if (kw_on i2) = 22 then zL_X8_within_p65 E L Q x2 (w_p w 14 p1 4) w else (if (kw_on i2) = 23 then zL_X8_within_p65 E L Q x2 (w_p w 14 p1 4) w else (if (kw_on i2) = 24 then zL_X8_within_p91 E L Q x2 (w_p w 14 p1 4) w else (if (kw_on i2) = 26 then zL_X8_within_p91 E L Q x2 (w_p w 14 p1 4) w else (if (kw_on i2) = 28 then zw E (L - 23) kt_M296 [.ref (w_adr E.2.1 7 0), va_rf (w_p w 14 p1 4), .int x2] w (wk0 (fun w3 => wle w w3 → zb_X8_within_p235 E L Q w3) (fun e w => Q (.inr e) w)) else (if (kw_on i2) = 29 then zL_X8_within_p161 E L Q x2 (w_p w 14 p1 4) w else zb_X8_within_p235 E L Q w)))))))))
theorem zt_X8_within_p0 {E : zE} {L : Nat} {Q : kx_Rs → wS → Prop} {x1 : Option Nat} {x2 : Int32} {w : wS} (hL : 23 ≤ L) (h : zb_X8_within_p0 E L Q x1 x2 w) : kzE E L kt_M332 0 [(0, .ref (w_adr E.2.1 7 0)), (1, va_rf (x1)), (2, .int x2)] [] w Q := by
  unfold zb_X8_within_p0 at h
  refine kz_aload_nv (M := kt_M332) (x := x1) kX8_within_c0.1 rfl ?_
  obtain ⟨p1, hxp1, hlp1, h⟩ := h
  refine kz_nz0 (x := x1) hxp1 ?_
  refine kz_gfp (M := kt_M332) (c := 14) (o := p1) kX8_within_c0.2.1 wf_X8_76 (.inr (by exact hlp1)) ?_
  obtain ⟨i2, ho, h⟩ := h
  refine kz_ord (M := kt_M332) (x := w_p w 14 p1 0) (i := i2) (C := "MeetingHouse$Kind") kX8_within_c0.2.2.1 zo_l_X8 zo_m_X8 zo_s_Kind zo_u_X8 (Nat.le_trans (Nat.le_of_ble_eq_true rfl) hL) (Nat.le_of_ble_eq_true rfl) ho ?_
  refine kz_tsw (M := kt_M332) [(20, 127), (22, 60), (23, 60), (24, 86), (26, 86), (28, 115), (29, 156)] [_, _, _, _, _, _, _] 235 dX8_within_p7 (by decide +kernel) h ⟨fun h => ?_, fun h => ?_, fun h => ?_, fun h => ?_, fun h => ?_, fun h => ?_, fun h => ?_, trivial⟩ (fun h => ?_)
  · skip
    refine kz_aload_nv (M := kt_M332) (x := x1) kX8_within_c4.2.2.2.2.2.2.2.1 rfl ?_
    refine kz_nz0 (x := x1) hxp1 ?_
    refine kz_gfp (M := kt_M332) (c := 14) (o := p1) kX8_within_c5.1 wf_X8_70 (.inr (by exact hlp1)) ?_
    refine kz_stv_n (M := kt_M332) (x := w_p w 14 p1 4) [(0, .ref (w_adr E.2.1 7 0)), (2, .int x2)] kX8_within_c5.2.1 (Nat.le_of_ble_eq_true rfl) ⟨⟨rfl, rfl, .inl rfl⟩, ⟨⟨rfl, rfl, .inr rfl⟩, trivial⟩⟩ rfl ?_
    exact kz_weak [(0, .ref (w_adr E.2.1 7 0)), (2, .int x2), (3, va_rf (w_p w 14 p1 4))] ⟨rfl, ⟨rfl, ⟨rfl, trivial⟩⟩⟩ rfl h
  · skip
    refine kz_aload_nv (M := kt_M332) (x := x1) kX8_within_c0.2.2.2.2.1 rfl ?_
    refine kz_nz0 (x := x1) hxp1 ?_
    refine kz_gfp (M := kt_M332) (c := 14) (o := p1) kX8_within_c0.2.2.2.2.2.1 wf_X8_70 (.inr (by exact hlp1)) ?_
    refine kz_stv_n (M := kt_M332) (x := w_p w 14 p1 4) [(0, .ref (w_adr E.2.1 7 0)), (2, .int x2)] kX8_within_c0.2.2.2.2.2.2.1 (Nat.le_of_ble_eq_true rfl) ⟨⟨rfl, rfl, .inl rfl⟩, ⟨⟨rfl, rfl, .inr rfl⟩, trivial⟩⟩ rfl ?_
    exact kz_weak [(0, .ref (w_adr E.2.1 7 0)), (2, .int x2), (3, va_rf (w_p w 14 p1 4))] ⟨rfl, ⟨rfl, ⟨rfl, trivial⟩⟩⟩ rfl h
  · skip
    refine kz_aload_nv (M := kt_M332) (x := x1) kX8_within_c0.2.2.2.2.1 rfl ?_
    refine kz_nz0 (x := x1) hxp1 ?_
    refine kz_gfp (M := kt_M332) (c := 14) (o := p1) kX8_within_c0.2.2.2.2.2.1 wf_X8_70 (.inr (by exact hlp1)) ?_
    refine kz_stv_n (M := kt_M332) (x := w_p w 14 p1 4) [(0, .ref (w_adr E.2.1 7 0)), (2, .int x2)] kX8_within_c0.2.2.2.2.2.2.1 (Nat.le_of_ble_eq_true rfl) ⟨⟨rfl, rfl, .inl rfl⟩, ⟨⟨rfl, rfl, .inr rfl⟩, trivial⟩⟩ rfl ?_
    exact kz_weak [(0, .ref (w_adr E.2.1 7 0)), (2, .int x2), (3, va_rf (w_p w 14 p1 4))] ⟨rfl, ⟨rfl, ⟨rfl, trivial⟩⟩⟩ rfl h
  · skip
    refine kz_aload_nv (M := kt_M332) (x := x1) kX8_within_c2.2.2.1 rfl ?_
    refine kz_nz0 (x := x1) hxp1 ?_
    refine kz_gfp (M := kt_M332) (c := 14) (o := p1) kX8_within_c2.2.2.2.1 wf_X8_70 (.inr (by exact hlp1)) ?_
    refine kz_stv_n (M := kt_M332) (x := w_p w 14 p1 4) [(0, .ref (w_adr E.2.1 7 0)), (2, .int x2)] kX8_within_c2.2.2.2.2.1 (Nat.le_of_ble_eq_true rfl) ⟨⟨rfl, rfl, .inl rfl⟩, ⟨⟨rfl, rfl, .inr rfl⟩, trivial⟩⟩ rfl ?_
    exact kz_weak [(0, .ref (w_adr E.2.1 7 0)), (2, .int x2), (3, va_rf (w_p w 14 p1 4))] ⟨rfl, ⟨rfl, ⟨rfl, trivial⟩⟩⟩ rfl h
  · skip
    refine kz_aload_nv (M := kt_M332) (x := x1) kX8_within_c2.2.2.1 rfl ?_
    refine kz_nz0 (x := x1) hxp1 ?_
    refine kz_gfp (M := kt_M332) (c := 14) (o := p1) kX8_within_c2.2.2.2.1 wf_X8_70 (.inr (by exact hlp1)) ?_
    refine kz_stv_n (M := kt_M332) (x := w_p w 14 p1 4) [(0, .ref (w_adr E.2.1 7 0)), (2, .int x2)] kX8_within_c2.2.2.2.2.1 (Nat.le_of_ble_eq_true rfl) ⟨⟨rfl, rfl, .inl rfl⟩, ⟨⟨rfl, rfl, .inr rfl⟩, trivial⟩⟩ rfl ?_
    exact kz_weak [(0, .ref (w_adr E.2.1 7 0)), (2, .int x2), (3, va_rf (w_p w 14 p1 4))] ⟨rfl, ⟨rfl, ⟨rfl, trivial⟩⟩⟩ rfl h
  · skip
    refine kz_aload_n (M := kt_M332) kX8_within_c4.2.1 rfl ?_
    refine kz_aload_nv (M := kt_M332) (x := x1) kX8_within_c4.2.2.1 rfl ?_
    refine kz_nz0 (x := x1) hxp1 ?_
    refine kz_gfp (M := kt_M332) (c := 14) (o := p1) kX8_within_c4.2.2.2.1 wf_X8_70 (.inr (by exact hlp1)) ?_
    refine kz_iload_n (M := kt_M332) kX8_within_c4.2.2.2.2.1 rfl ?_
    refine kz_cv0 (M := kt_M332) (c := 7) (o := 0) (As := [va_rf (w_p w 14 p1 4), .int x2]) (rest := []) kX8_within_c4.2.2.2.2.2.1 wl_X8_54 wMv_296 rfl (.inl rfl) rfl (Nat.le_trans (Nat.le_of_ble_eq_true rfl) hL) (by simp [lg_sl, w_cat, z_ci, z_cr, z_cl, z_cn, kt_M296]) (Nat.le_of_ble_eq_true rfl) h (fun w3 hle h => ?_) (fun _ _ _ h => kzx_no rfl h)
    have h := h hle
    have hlp1 := w_l_le hlp1 hle
    refine kz_goto (M := kt_M332) kX8_within_c4.2.2.2.2.2.2.1 (t := 235) rfl ?_
    exact kz_weak [(0, .ref (w_adr E.2.1 7 0))] ⟨rfl, trivial⟩ rfl (zt_X8_within_p235 hL  h)
  · skip
    refine kz_aload_nv (M := kt_M332) (x := x1) kX8_within_c6.2.2.2.2.2.2.1 rfl ?_
    refine kz_nz0 (x := x1) hxp1 ?_
    refine kz_gfp (M := kt_M332) (c := 14) (o := p1) kX8_within_c6.2.2.2.2.2.2.2.1 wf_X8_70 (.inr (by exact hlp1)) ?_
    refine kz_stv_n (M := kt_M332) (x := w_p w 14 p1 4) [(0, .ref (w_adr E.2.1 7 0)), (2, .int x2)] kX8_within_c7.1 (Nat.le_of_ble_eq_true rfl) ⟨⟨rfl, rfl, .inl rfl⟩, ⟨⟨rfl, rfl, .inr rfl⟩, trivial⟩⟩ rfl ?_
    exact kz_weak [(0, .ref (w_adr E.2.1 7 0)), (2, .int x2), (3, va_rf (w_p w 14 p1 4))] ⟨rfl, ⟨rfl, ⟨rfl, trivial⟩⟩⟩ rfl h
  · skip
    exact kz_weak [(0, .ref (w_adr E.2.1 7 0))] ⟨rfl, trivial⟩ rfl (zt_X8_within_p235 hL  h)
def zb_X8_sides_p0 (E : zE) (L : Nat) (Q : kx_Rs → wS → Prop) (x1 : Option Nat) (w : wS) : Prop := zw E (L - 22) kt_M310 [.ref (w_adr E.2.1 7 0), va_rf (x1)] (ws_i w 7 0 11 1) (wk0 (fun w1 => wle (ws_i w 7 0 11 1) w1 → Q (.inl none) w1) (fun e w => Q (.inr e) w))
theorem zt_X8_sides_p0 {E : zE} {L : Nat} {Q : kx_Rs → wS → Prop} {x1 : Option Nat} {w : wS} (hL : 22 ≤ L) (h : zb_X8_sides_p0 E L Q x1 w) : kzE E L kt_M327 0 [(0, .ref (w_adr E.2.1 7 0)), (1, va_rf (x1))] [] w Q := by
  unfold zb_X8_sides_p0 at h
  refine kz_aload_n (M := kt_M327) kX8_sides_c0.1 rfl ?_
  refine kz_ic (M := kt_M327) 1 kX8_sides_c0.2.1 rfl ?_
  refine kz_pfz (M := kt_M327) (c := 7) (o := 0) kX8_sides_c0.2.2.1 wq_X8_102 (.inl rfl) (by decide) ?_
  refine kz_aload_n (M := kt_M327) kX8_sides_c0.2.2.2.1 rfl ?_
  refine kz_aload_nv (M := kt_M327) (x := x1) kX8_sides_c0.2.2.2.2.1 rfl ?_
  refine kz_cv0 (M := kt_M327) (c := 7) (o := 0) (As := [va_rf (x1)]) (rest := []) kX8_sides_c0.2.2.2.2.2.1 wl_X8_257 wMv_310 rfl (.inl rfl) rfl (Nat.le_trans (Nat.le_of_ble_eq_true rfl) hL) (by simp [lg_sl, w_cat, z_ci, z_cr, z_cl, z_cn, kt_M310]) (Nat.le_of_ble_eq_true rfl) h (fun w1 hle h => ?_) (fun _ _ _ h => kzx_no rfl h)
  have h := h hle
  exact kz_ret (M := kt_M327) kX8_sides_c0.2.2.2.2.2.2.1 rfl h
def zL_X8_find_p5 (E : zE) (L : Nat) (Q : kx_Rs → wS → Prop) (x1 : Option Nat) (x2 : Option Nat) (w : wS) : Prop := kzE E L kt_M310 5 [(0, .ref (w_adr E.2.1 7 0)), (1, va_rf (x1)), (2, va_rf (x2))] [] w Q
def zb_X8_find_p5 (E : zE) (L : Nat) (Q : kx_Rs → wS → Prop) (x1 : Option Nat) (x2 : Option Nat) (w : wS) : Prop := (if x2 = none then (∃ p1, x1 = some p1 ∧ w_l w E.2.1 14 p1 ∧ zw E (L - 23) kt_M325 [.ref (w_adr E.2.1 7 0), va_rf (w_p w 14 p1 4)] w (wk0 (fun w2 => wle w w2 → Q (.inl none) w2) (fun e w => Q (.inr e) w))) else zw E (L - 22) kt_M311 [.ref (w_adr E.2.1 7 0), va_rf (x2)] w (wk0 (fun w4 => wle w w4 → (∃ p6, x2 = some p6 ∧ w_l w4 E.2.1 14 p6 ∧ zL_X8_find_p5 E L Q x1 (w_p w4 14 p6 7) w4)) (fun e w => Q (.inr e) w)))
theorem zt_X8_find_p5 {E : zE} {L : Nat} {Q : kx_Rs → wS → Prop} {x1 : Option Nat} {x2 : Option Nat} {w : wS} (hL : 23 ≤ L) (h : zb_X8_find_p5 E L Q x1 x2 w) : kzE E L kt_M310 5 [(0, .ref (w_adr E.2.1 7 0)), (1, va_rf (x1)), (2, va_rf (x2))] [] w Q := by
  unfold zb_X8_find_p5 at h
  refine kz_aload_nv (M := kt_M310) (x := x2) kX8_find_c0.2.2.2.1 rfl ?_
  refine kz_ifnull (M := kt_M310) (x := x2) kX8_find_c0.2.2.2.2.1 (t := 22) rfl h (fun h => ?_) (fun h => ?_)
  · skip
    refine kz_aload_n (M := kt_M310) kX8_find_c1.2.2.2.2.1 rfl ?_
    refine kz_aload_nv (M := kt_M310) (x := x1) kX8_find_c1.2.2.2.2.2.1 rfl ?_
    obtain ⟨p1, hxp1, hlp1, h⟩ := h
    refine kz_nz0 (x := x1) hxp1 ?_
    refine kz_gfp (M := kt_M310) (c := 14) (o := p1) kX8_find_c1.2.2.2.2.2.2.1 wf_X8_70 (.inr (by exact hlp1)) ?_
    refine kz_cv0 (M := kt_M310) (c := 7) (o := 0) (As := [va_rf (w_p w 14 p1 4)]) (rest := []) kX8_find_c1.2.2.2.2.2.2.2.1 wl_X8_263 wMv_325 rfl (.inl rfl) rfl (Nat.le_trans (Nat.le_of_ble_eq_true rfl) hL) (by simp [lg_sl, w_cat, z_ci, z_cr, z_cl, z_cn, kt_M325]) (Nat.le_of_ble_eq_true rfl) h (fun w2 hle h => ?_) (fun _ _ _ h => kzx_no rfl h)
    have h := h hle
    have hlp1 := w_l_le hlp1 hle
    exact kz_ret (M := kt_M310) kX8_find_c2.1 rfl h
  · skip
    refine kz_aload_n (M := kt_M310) kX8_find_c0.2.2.2.2.2.1 rfl ?_
    refine kz_aload_nv (M := kt_M310) (x := x2) kX8_find_c0.2.2.2.2.2.2.1 rfl ?_
    refine kz_cv0 (M := kt_M310) (c := 7) (o := 0) (As := [va_rf (x2)]) (rest := []) kX8_find_c0.2.2.2.2.2.2.2.1 wl_X8_260 wMv_311 rfl (.inl rfl) rfl (Nat.le_trans (Nat.le_of_ble_eq_true rfl) hL) (by simp [lg_sl, w_cat, z_ci, z_cr, z_cl, z_cn, kt_M311]) (Nat.le_of_ble_eq_true rfl) h (fun w4 hle h => ?_) (fun _ _ _ h => kzx_no rfl h)
    have h := h hle
    refine kz_aload_nv (M := kt_M310) (x := x2) kX8_find_c1.1 rfl ?_
    obtain ⟨p6, hxp6, hlp6, h⟩ := h
    refine kz_nz0 (x := x2) hxp6 ?_
    refine kz_gfp (M := kt_M310) (c := 14) (o := p6) kX8_find_c1.2.1 wf_X8_67 (.inr (by exact hlp6)) ?_
    refine kz_stv_n (M := kt_M310) (x := w_p w4 14 p6 7) [(0, .ref (w_adr E.2.1 7 0)), (1, va_rf (x1))] kX8_find_c1.2.2.1 (Nat.le_of_ble_eq_true rfl) ⟨⟨rfl, rfl, .inl rfl⟩, ⟨⟨rfl, rfl, .inr (w_cat (x1))⟩, trivial⟩⟩ rfl ?_
    refine kz_goto (M := kt_M310) kX8_find_c1.2.2.2.1 (t := 5) rfl ?_
    exact kz_weak [(0, .ref (w_adr E.2.1 7 0)), (1, va_rf (x1)), (2, va_rf (w_p w4 14 p6 7))] ⟨rfl, ⟨rfl, ⟨rfl, trivial⟩⟩⟩ rfl h
def zb_X8_find_p0 (E : zE) (L : Nat) (Q : kx_Rs → wS → Prop) (x1 : Option Nat) (w : wS) : Prop := (∃ p1, x1 = some p1 ∧ w_l w E.2.1 14 p1 ∧ zL_X8_find_p5 E L Q x1 (w_p w 14 p1 3) w)
theorem zt_X8_find_p0 {E : zE} {L : Nat} {Q : kx_Rs → wS → Prop} {x1 : Option Nat} {w : wS} (hL : 23 ≤ L) (h : zb_X8_find_p0 E L Q x1 w) : kzE E L kt_M310 0 [(0, .ref (w_adr E.2.1 7 0)), (1, va_rf (x1))] [] w Q := by
  unfold zb_X8_find_p0 at h
  refine kz_aload_nv (M := kt_M310) (x := x1) kX8_find_c0.1 rfl ?_
  obtain ⟨p1, hxp1, hlp1, h⟩ := h
  refine kz_nz0 (x := x1) hxp1 ?_
  refine kz_gfp (M := kt_M310) (c := 14) (o := p1) kX8_find_c0.2.1 wf_X8_58 (.inr (by exact hlp1)) ?_
  refine kz_stv_n (M := kt_M310) (x := w_p w 14 p1 3) [(0, .ref (w_adr E.2.1 7 0)), (1, va_rf (x1))] kX8_find_c0.2.2.1 (Nat.le_of_ble_eq_true rfl) ⟨⟨rfl, rfl, .inl rfl⟩, ⟨⟨rfl, rfl, .inr (w_cat (x1))⟩, trivial⟩⟩ rfl ?_
  exact kz_weak [(0, .ref (w_adr E.2.1 7 0)), (1, va_rf (x1)), (2, va_rf (w_p w 14 p1 3))] ⟨rfl, ⟨rfl, ⟨rfl, trivial⟩⟩⟩ rfl h
def zL_X8_findIn_p41 (E : zE) (L : Nat) (Q : kx_Rs → wS → Prop) (x1 : Option Nat) (x2 : Option Nat) (w : wS) : Prop := kzE E L kt_M311 41 [(0, .ref (w_adr E.2.1 7 0)), (1, va_rf (x1)), (2, va_rf (x2))] [] w Q
def zb_X8_findIn_p41 (E : zE) (L : Nat) (Q : kx_Rs → wS → Prop) (x1 : Option Nat) (x2 : Option Nat) (w : wS) : Prop := (if x2 = none then (∃ p1, x1 = some p1 ∧ w_l w E.2.1 14 p1 ∧ zw E (L - 22) kt_M310 [.ref (w_adr E.2.1 7 0), va_rf (w_p w 14 p1 4)] w (wk0 (fun w2 => wle w w2 → Q (.inl none) w2) (fun e w => Q (.inr e) w))) else zw E (L - 22) kt_M311 [.ref (w_adr E.2.1 7 0), va_rf (x2)] w (wk0 (fun w4 => wle w w4 → (∃ p6, x2 = some p6 ∧ w_l w4 E.2.1 14 p6 ∧ zL_X8_findIn_p41 E L Q x1 (w_p w4 14 p6 7) w4)) (fun e w => Q (.inr e) w)))
theorem zt_X8_findIn_p41 {E : zE} {L : Nat} {Q : kx_Rs → wS → Prop} {x1 : Option Nat} {x2 : Option Nat} {w : wS} (hL : 22 ≤ L) (h : zb_X8_findIn_p41 E L Q x1 x2 w) : kzE E L kt_M311 41 [(0, .ref (w_adr E.2.1 7 0)), (1, va_rf (x1)), (2, va_rf (x2))] [] w Q := by
  unfold zb_X8_findIn_p41 at h
  refine kz_aload_nv (M := kt_M311) (x := x2) kX8_findIn_c2.2.2.2.1 rfl ?_
  refine kz_ifnull (M := kt_M311) (x := x2) kX8_findIn_c2.2.2.2.2.1 (t := 58) rfl h (fun h => ?_) (fun h => ?_)
  · skip
    refine kz_aload_n (M := kt_M311) kX8_findIn_c3.2.2.2.2.1 rfl ?_
    refine kz_aload_nv (M := kt_M311) (x := x1) kX8_findIn_c3.2.2.2.2.2.1 rfl ?_
    obtain ⟨p1, hxp1, hlp1, h⟩ := h
    refine kz_nz0 (x := x1) hxp1 ?_
    refine kz_gfp (M := kt_M311) (c := 14) (o := p1) kX8_findIn_c3.2.2.2.2.2.2.1 wf_X8_70 (.inr (by exact hlp1)) ?_
    refine kz_cv0 (M := kt_M311) (c := 7) (o := 0) (As := [va_rf (w_p w 14 p1 4)]) (rest := []) kX8_findIn_c3.2.2.2.2.2.2.2.1 wl_X8_257 wMv_310 rfl (.inl rfl) rfl (Nat.le_trans (Nat.le_of_ble_eq_true rfl) hL) (by simp [lg_sl, w_cat, z_ci, z_cr, z_cl, z_cn, kt_M310]) (Nat.le_of_ble_eq_true rfl) h (fun w2 hle h => ?_) (fun _ _ _ h => kzx_no rfl h)
    have h := h hle
    have hlp1 := w_l_le hlp1 hle
    exact kz_ret (M := kt_M311) kX8_findIn_c4.1 rfl h
  · skip
    refine kz_aload_n (M := kt_M311) kX8_findIn_c2.2.2.2.2.2.1 rfl ?_
    refine kz_aload_nv (M := kt_M311) (x := x2) kX8_findIn_c2.2.2.2.2.2.2.1 rfl ?_
    refine kz_cv0 (M := kt_M311) (c := 7) (o := 0) (As := [va_rf (x2)]) (rest := []) kX8_findIn_c2.2.2.2.2.2.2.2.1 wl_X8_260 wMv_311 rfl (.inl rfl) rfl (Nat.le_trans (Nat.le_of_ble_eq_true rfl) hL) (by simp [lg_sl, w_cat, z_ci, z_cr, z_cl, z_cn, kt_M311]) (Nat.le_of_ble_eq_true rfl) h (fun w4 hle h => ?_) (fun _ _ _ h => kzx_no rfl h)
    have h := h hle
    refine kz_aload_nv (M := kt_M311) (x := x2) kX8_findIn_c3.1 rfl ?_
    obtain ⟨p6, hxp6, hlp6, h⟩ := h
    refine kz_nz0 (x := x2) hxp6 ?_
    refine kz_gfp (M := kt_M311) (c := 14) (o := p6) kX8_findIn_c3.2.1 wf_X8_67 (.inr (by exact hlp6)) ?_
    refine kz_stv_n (M := kt_M311) (x := w_p w4 14 p6 7) [(0, .ref (w_adr E.2.1 7 0)), (1, va_rf (x1))] kX8_findIn_c3.2.2.1 (Nat.le_of_ble_eq_true rfl) ⟨⟨rfl, rfl, .inl rfl⟩, ⟨⟨rfl, rfl, .inr (w_cat (x1))⟩, trivial⟩⟩ rfl ?_
    refine kz_goto (M := kt_M311) kX8_findIn_c3.2.2.2.1 (t := 41) rfl ?_
    exact kz_weak [(0, .ref (w_adr E.2.1 7 0)), (1, va_rf (x1)), (2, va_rf (w_p w4 14 p6 7))] ⟨rfl, ⟨rfl, ⟨rfl, trivial⟩⟩⟩ rfl h
def zb_X8_findIn_p35 (E : zE) (L : Nat) (Q : kx_Rs → wS → Prop) (w : wS) : Prop := Q (.inl none) w
theorem zt_X8_findIn_p35 {E : zE} {L : Nat} {Q : kx_Rs → wS → Prop} {w : wS} (hL : 22 ≤ L) (h : zb_X8_findIn_p35 E L Q  w) : kzE E L kt_M311 35 [(0, .ref (w_adr E.2.1 7 0))] [] w Q := by
  unfold zb_X8_findIn_p35 at h
  exact kz_ret (M := kt_M311) kX8_findIn_c1.2.2.2.2.2.2.2.1 rfl h
def zb_X8_findIn_p18 (E : zE) (L : Nat) (Q : kx_Rs → wS → Prop) (x1 : Option Nat) (w : wS) : Prop := (∃ p1, x1 = some p1 ∧ w_l w E.2.1 14 p1 ∧ (if ¬ w_p w 14 p1 0 = some (E.1.1 11) then zb_X8_findIn_p35 E L Q w else (if w_i w 14 p1 11 = 0 then zL_X8_findIn_p41 E L Q x1 (w_p w 14 p1 5) w else zb_X8_findIn_p35 E L Q w)))
theorem zt_X8_findIn_p18 {E : zE} {L : Nat} {Q : kx_Rs → wS → Prop} {x1 : Option Nat} {w : wS} (hL : 22 ≤ L) (h : zb_X8_findIn_p18 E L Q x1 w) : kzE E L kt_M311 18 [(0, .ref (w_adr E.2.1 7 0)), (1, va_rf (x1))] [] w Q := by
  unfold zb_X8_findIn_p18 at h
  refine kz_aload_nv (M := kt_M311) (x := x1) kX8_findIn_c1.1 rfl ?_
  obtain ⟨p1, hxp1, hlp1, h⟩ := h
  refine kz_nz0 (x := x1) hxp1 ?_
  refine kz_gfp (M := kt_M311) (c := 14) (o := p1) kX8_findIn_c1.2.1 wf_X8_76 (.inr (by exact hlp1)) ?_
  refine kz_getsE (M := kt_M311) (v := va_rf (some (E.1.1 11))) kX8_findIn_c1.2.2.1 zs_X8_85 ?_
  refine kz_acmp_ne (M := kt_M311) (x := w_p w 14 p1 0) (y := some (E.1.1 11)) kX8_findIn_c1.2.2.2.1 (t := 35) rfl h (fun h => ?_) (fun h => ?_)
  · skip
    exact kz_weak [(0, .ref (w_adr E.2.1 7 0))] ⟨rfl, trivial⟩ rfl (zt_X8_findIn_p35 hL  h)
  · skip
    refine kz_aload_nv (M := kt_M311) (x := x1) kX8_findIn_c1.2.2.2.2.1 rfl ?_
    refine kz_nz0 (x := x1) hxp1 ?_
    refine kz_gfi (M := kt_M311) (c := 14) (o := p1) kX8_findIn_c1.2.2.2.2.2.1 wf_X8_91 (.inr (by exact hlp1)) ?_
    refine kz_if_eq (M := kt_M311) kX8_findIn_c1.2.2.2.2.2.2.1 (t := 36) rfl h (fun h => ?_) (fun h => ?_)
    · skip
      refine kz_aload_nv (M := kt_M311) (x := x1) kX8_findIn_c2.1 rfl ?_
      refine kz_nz0 (x := x1) hxp1 ?_
      refine kz_gfp (M := kt_M311) (c := 14) (o := p1) kX8_findIn_c2.2.1 wf_X8_95 (.inr (by exact hlp1)) ?_
      refine kz_stv_n (M := kt_M311) (x := w_p w 14 p1 5) [(0, .ref (w_adr E.2.1 7 0)), (1, va_rf (x1))] kX8_findIn_c2.2.2.1 (Nat.le_of_ble_eq_true rfl) ⟨⟨rfl, rfl, .inl rfl⟩, ⟨⟨rfl, rfl, .inr (w_cat (x1))⟩, trivial⟩⟩ rfl ?_
      exact kz_weak [(0, .ref (w_adr E.2.1 7 0)), (1, va_rf (x1)), (2, va_rf (w_p w 14 p1 5))] ⟨rfl, ⟨rfl, ⟨rfl, trivial⟩⟩⟩ rfl h
    · skip
      exact kz_weak [(0, .ref (w_adr E.2.1 7 0))] ⟨rfl, trivial⟩ rfl (zt_X8_findIn_p35 hL  h)
def zb_X8_findIn_p0 (E : zE) (L : Nat) (Q : kx_Rs → wS → Prop) (x1 : Option Nat) (w : wS) : Prop := (∃ p1, x1 = some p1 ∧ w_l w E.2.1 14 p1 ∧ (if ¬ w_p w 14 p1 0 = some (E.1.1 33) then zb_X8_findIn_p18 E L Q x1 w else zw E (L - 22) kt_M310 [.ref (w_adr E.2.1 7 0), va_rf (w_p w 14 p1 4)] w (wk0 (fun w2 => wle w w2 → zb_X8_findIn_p18 E L Q x1 w2) (fun e w => Q (.inr e) w))))
theorem zt_X8_findIn_p0 {E : zE} {L : Nat} {Q : kx_Rs → wS → Prop} {x1 : Option Nat} {w : wS} (hL : 22 ≤ L) (h : zb_X8_findIn_p0 E L Q x1 w) : kzE E L kt_M311 0 [(0, .ref (w_adr E.2.1 7 0)), (1, va_rf (x1))] [] w Q := by
  unfold zb_X8_findIn_p0 at h
  refine kz_aload_nv (M := kt_M311) (x := x1) kX8_findIn_c0.1 rfl ?_
  obtain ⟨p1, hxp1, hlp1, h⟩ := h
  refine kz_nz0 (x := x1) hxp1 ?_
  refine kz_gfp (M := kt_M311) (c := 14) (o := p1) kX8_findIn_c0.2.1 wf_X8_76 (.inr (by exact hlp1)) ?_
  refine kz_getsE (M := kt_M311) (v := va_rf (some (E.1.1 33))) kX8_findIn_c0.2.2.1 zs_X8_80 ?_
  refine kz_acmp_ne (M := kt_M311) (x := w_p w 14 p1 0) (y := some (E.1.1 33)) kX8_findIn_c0.2.2.2.1 (t := 18) rfl h (fun h => ?_) (fun h => ?_)
  · skip
    exact kz_weak [(0, .ref (w_adr E.2.1 7 0)), (1, va_rf (x1))] ⟨rfl, ⟨rfl, trivial⟩⟩ rfl (zt_X8_findIn_p18 hL  h)
  · skip
    refine kz_aload_n (M := kt_M311) kX8_findIn_c0.2.2.2.2.1 rfl ?_
    refine kz_aload_nv (M := kt_M311) (x := x1) kX8_findIn_c0.2.2.2.2.2.1 rfl ?_
    refine kz_nz0 (x := x1) hxp1 ?_
    refine kz_gfp (M := kt_M311) (c := 14) (o := p1) kX8_findIn_c0.2.2.2.2.2.2.1 wf_X8_70 (.inr (by exact hlp1)) ?_
    refine kz_cv0 (M := kt_M311) (c := 7) (o := 0) (As := [va_rf (w_p w 14 p1 4)]) (rest := []) kX8_findIn_c0.2.2.2.2.2.2.2.1 wl_X8_257 wMv_310 rfl (.inl rfl) rfl (Nat.le_trans (Nat.le_of_ble_eq_true rfl) hL) (by simp [lg_sl, w_cat, z_ci, z_cr, z_cl, z_cn, kt_M310]) (Nat.le_of_ble_eq_true rfl) h (fun w2 hle h => ?_) (fun _ _ _ h => kzx_no rfl h)
    have h := h hle
    have hlp1 := w_l_le hlp1 hle
    exact kz_weak [(0, .ref (w_adr E.2.1 7 0)), (1, va_rf (x1))] ⟨rfl, ⟨rfl, trivial⟩⟩ rfl (zt_X8_findIn_p18 hL  h)
def zL_X8_seek_p209 (E : zE) (L : Nat) (Q : kx_Rs → wS → Prop) (x2 : Option Nat) (x3 : Option Nat) (w : wS) : Prop := kzE E L kt_M325 209 [(0, .ref (w_adr E.2.1 7 0)), (2, va_rf (x2)), (3, va_rf (x3))] [] w Q
def zL_X8_seek_p173 (E : zE) (L : Nat) (Q : kx_Rs → wS → Prop) (x2 : Option Nat) (w : wS) : Prop := kzE E L kt_M325 173 [(0, .ref (w_adr E.2.1 7 0)), (2, va_rf (x2))] [] w Q
def zL_X8_seek_p145 (E : zE) (L : Nat) (Q : kx_Rs → wS → Prop) (x2 : Option Nat) (w : wS) : Prop := kzE E L kt_M325 145 [(0, .ref (w_adr E.2.1 7 0)), (2, va_rf (x2))] [] w Q
def zL_X8_seek_p106 (E : zE) (L : Nat) (Q : kx_Rs → wS → Prop) (x2 : Option Nat) (w : wS) : Prop := kzE E L kt_M325 106 [(0, .ref (w_adr E.2.1 7 0)), (2, va_rf (x2))] [] w Q
def zL_X8_seek_p81 (E : zE) (L : Nat) (Q : kx_Rs → wS → Prop) (x2 : Option Nat) (w : wS) : Prop := kzE E L kt_M325 81 [(0, .ref (w_adr E.2.1 7 0)), (2, va_rf (x2))] [] w Q
def zb_X8_seek_p240 (E : zE) (L : Nat) (Q : kx_Rs → wS → Prop) (w : wS) : Prop := Q (.inl none) w
theorem zt_X8_seek_p240 {E : zE} {L : Nat} {Q : kx_Rs → wS → Prop} {w : wS} (hL : 24 ≤ L) (h : zb_X8_seek_p240 E L Q  w) : kzE E L kt_M325 240 [(0, .ref (w_adr E.2.1 7 0))] [] w Q := by
  unfold zb_X8_seek_p240 at h
  exact kz_ret (M := kt_M325) kX8_seek_c11.2.2.2.2.2.1 rfl h
def zb_X8_seek_p209 (E : zE) (L : Nat) (Q : kx_Rs → wS → Prop) (x2 : Option Nat) (x3 : Option Nat) (w : wS) : Prop := (if x3 = none then (∃ p1, x2 = some p1 ∧ w_l w E.2.1 14 p1 ∧ zL_X8_seek_p173 E L Q (w_p w 14 p1 7) w) else (∃ p2, x3 = some p2 ∧ w_l w E.2.1 14 p2 ∧ zw E (L - 22) kt_M310 [.ref (w_adr E.2.1 7 0), va_rf (w_p w 14 p2 6)] w (wk0 (fun w3 => wle w w3 → zL_X8_seek_p209 E L Q x2 (w_p w3 14 p2 7) w3) (fun e w => Q (.inr e) w))))
theorem zt_X8_seek_p209 {E : zE} {L : Nat} {Q : kx_Rs → wS → Prop} {x2 : Option Nat} {x3 : Option Nat} {w : wS} (hL : 24 ≤ L) (h : zb_X8_seek_p209 E L Q x2 x3 w) : kzE E L kt_M325 209 [(0, .ref (w_adr E.2.1 7 0)), (2, va_rf (x2)), (3, va_rf (x3))] [] w Q := by
  unfold zb_X8_seek_p209 at h
  refine kz_aload_nv (M := kt_M325) (x := x3) kX8_seek_c9.2.2.2.2.2.2.1 rfl ?_
  refine kz_ifnull (M := kt_M325) (x := x3) kX8_seek_c9.2.2.2.2.2.2.2.1 (t := 229) rfl h (fun h => ?_) (fun h => ?_)
  · skip
    refine kz_aload_nv (M := kt_M325) (x := x2) kX8_seek_c11.1 rfl ?_
    obtain ⟨p1, hxp1, hlp1, h⟩ := h
    refine kz_nz0 (x := x2) hxp1 ?_
    refine kz_gfp (M := kt_M325) (c := 14) (o := p1) kX8_seek_c11.2.1 wf_X8_67 (.inr (by exact hlp1)) ?_
    refine kz_stv_n (M := kt_M325) (x := w_p w 14 p1 7) [(0, .ref (w_adr E.2.1 7 0))] kX8_seek_c11.2.2.1 (Nat.le_of_ble_eq_true rfl) ⟨⟨rfl, rfl, .inl rfl⟩, trivial⟩ rfl ?_
    refine kz_goto (M := kt_M325) kX8_seek_c11.2.2.2.1 (t := 173) rfl ?_
    exact kz_weak [(0, .ref (w_adr E.2.1 7 0)), (2, va_rf (w_p w 14 p1 7))] ⟨rfl, ⟨rfl, trivial⟩⟩ rfl h
  · skip
    refine kz_aload_n (M := kt_M325) kX8_seek_c10.1 rfl ?_
    refine kz_aload_nv (M := kt_M325) (x := x3) kX8_seek_c10.2.1 rfl ?_
    obtain ⟨p2, hxp2, hlp2, h⟩ := h
    refine kz_nz0 (x := x3) hxp2 ?_
    refine kz_gfp (M := kt_M325) (c := 14) (o := p2) kX8_seek_c10.2.2.1 wf_X8_128 (.inr (by exact hlp2)) ?_
    refine kz_cv0 (M := kt_M325) (c := 7) (o := 0) (As := [va_rf (w_p w 14 p2 6)]) (rest := []) kX8_seek_c10.2.2.2.1 wl_X8_257 wMv_310 rfl (.inl rfl) rfl (Nat.le_trans (Nat.le_of_ble_eq_true rfl) hL) (by simp [lg_sl, w_cat, z_ci, z_cr, z_cl, z_cn, kt_M310]) (Nat.le_of_ble_eq_true rfl) h (fun w3 hle h => ?_) (fun _ _ _ h => kzx_no rfl h)
    have h := h hle
    have hlp2 := w_l_le hlp2 hle
    refine kz_aload_nv (M := kt_M325) (x := x3) kX8_seek_c10.2.2.2.2.1 rfl ?_
    refine kz_nz0 (x := x3) hxp2 ?_
    refine kz_gfp (M := kt_M325) (c := 14) (o := p2) kX8_seek_c10.2.2.2.2.2.1 wf_X8_67 (.inr (by exact hlp2)) ?_
    refine kz_stv_n (M := kt_M325) (x := w_p w3 14 p2 7) [(0, .ref (w_adr E.2.1 7 0)), (2, va_rf (x2))] kX8_seek_c10.2.2.2.2.2.2.1 (Nat.le_of_ble_eq_true rfl) ⟨⟨rfl, rfl, .inl rfl⟩, ⟨⟨rfl, rfl, .inr (w_cat (x2))⟩, trivial⟩⟩ rfl ?_
    refine kz_goto (M := kt_M325) kX8_seek_c10.2.2.2.2.2.2.2.1 (t := 209) rfl ?_
    exact kz_weak [(0, .ref (w_adr E.2.1 7 0)), (2, va_rf (x2)), (3, va_rf (w_p w3 14 p2 7))] ⟨rfl, ⟨rfl, ⟨rfl, trivial⟩⟩⟩ rfl h
def zb_X8_seek_p208 (E : zE) (L : Nat) (Q : kx_Rs → wS → Prop) (x2 : Option Nat) (y0 : Option Nat) (w : wS) : Prop := zL_X8_seek_p209 E L Q x2 y0 w
theorem zt_X8_seek_p208 {E : zE} {L : Nat} {Q : kx_Rs → wS → Prop} {x2 : Option Nat} {y0 : Option Nat} {w : wS} (hL : 24 ≤ L) (h : zb_X8_seek_p208 E L Q x2 y0 w) : kzE E L kt_M325 208 [(0, .ref (w_adr E.2.1 7 0)), (2, va_rf (x2))] [va_rf (y0)] w Q := by
  unfold zb_X8_seek_p208 at h
  refine kz_stv_n (M := kt_M325) (x := y0) [(0, .ref (w_adr E.2.1 7 0)), (2, va_rf (x2))] kX8_seek_c9.2.2.2.2.2.1 (Nat.le_of_ble_eq_true rfl) ⟨⟨rfl, rfl, .inl rfl⟩, ⟨⟨rfl, rfl, .inr (w_cat (x2))⟩, trivial⟩⟩ rfl ?_
  exact kz_weak [(0, .ref (w_adr E.2.1 7 0)), (2, va_rf (x2)), (3, va_rf (y0))] ⟨rfl, ⟨rfl, ⟨rfl, trivial⟩⟩⟩ rfl h
def zb_X8_seek_p192 (E : zE) (L : Nat) (Q : kx_Rs → wS → Prop) (x2 : Option Nat) (w : wS) : Prop := (∃ p1, x2 = some p1 ∧ w_l w E.2.1 14 p1 ∧ (if ¬ w_i w 14 p1 10 = 3 then zb_X8_seek_p208 E L Q x2 none w else zb_X8_seek_p208 E L Q x2 (w_p w 14 p1 4) w))
theorem zt_X8_seek_p192 {E : zE} {L : Nat} {Q : kx_Rs → wS → Prop} {x2 : Option Nat} {w : wS} (hL : 24 ≤ L) (h : zb_X8_seek_p192 E L Q x2 w) : kzE E L kt_M325 192 [(0, .ref (w_adr E.2.1 7 0)), (2, va_rf (x2))] [] w Q := by
  unfold zb_X8_seek_p192 at h
  refine kz_aload_nv (M := kt_M325) (x := x2) kX8_seek_c8.2.2.2.2.2.1 rfl ?_
  obtain ⟨p1, hxp1, hlp1, h⟩ := h
  refine kz_nz0 (x := x2) hxp1 ?_
  refine kz_gfi (M := kt_M325) (c := 14) (o := p1) kX8_seek_c8.2.2.2.2.2.2.1 wf_X8_88 (.inr (by exact hlp1)) ?_
  refine kz_ic (M := kt_M325) 3 kX8_seek_c8.2.2.2.2.2.2.2.1 rfl ?_
  refine kz_icmp_ne (M := kt_M325) kX8_seek_c9.1 (t := 207) rfl h (fun h => ?_) (fun h => ?_)
  · skip
    refine kz_null (M := kt_M325) kX8_seek_c9.2.2.2.2.1 ?_
    exact kz_weak [(0, .ref (w_adr E.2.1 7 0)), (2, va_rf (x2))] ⟨rfl, ⟨rfl, trivial⟩⟩ rfl (zt_X8_seek_p208 hL  h)
  · skip
    refine kz_aload_nv (M := kt_M325) (x := x2) kX8_seek_c9.2.1 rfl ?_
    refine kz_nz0 (x := x2) hxp1 ?_
    refine kz_gfp (M := kt_M325) (c := 14) (o := p1) kX8_seek_c9.2.2.1 wf_X8_70 (.inr (by exact hlp1)) ?_
    refine kz_goto (M := kt_M325) kX8_seek_c9.2.2.2.1 (t := 208) rfl ?_
    exact kz_weak [(0, .ref (w_adr E.2.1 7 0)), (2, va_rf (x2))] ⟨rfl, ⟨rfl, trivial⟩⟩ rfl (zt_X8_seek_p208 hL  h)
def zb_X8_seek_p173 (E : zE) (L : Nat) (Q : kx_Rs → wS → Prop) (x2 : Option Nat) (w : wS) : Prop := (if x2 = none then zb_X8_seek_p240 E L Q w else (∃ p1, x2 = some p1 ∧ w_l w E.2.1 14 p1 ∧ (if (w_p w 14 p1 6) = none then zb_X8_seek_p192 E L Q x2 w else zw E (L - 22) kt_M310 [.ref (w_adr E.2.1 7 0), va_rf (w_p w 14 p1 6)] w (wk0 (fun w2 => wle w w2 → zb_X8_seek_p192 E L Q x2 w2) (fun e w => Q (.inr e) w)))))
theorem zt_X8_seek_p173 {E : zE} {L : Nat} {Q : kx_Rs → wS → Prop} {x2 : Option Nat} {w : wS} (hL : 24 ≤ L) (h : zb_X8_seek_p173 E L Q x2 w) : kzE E L kt_M325 173 [(0, .ref (w_adr E.2.1 7 0)), (2, va_rf (x2))] [] w Q := by
  unfold zb_X8_seek_p173 at h
  refine kz_aload_nv (M := kt_M325) (x := x2) kX8_seek_c7.2.2.2.2.1 rfl ?_
  refine kz_ifnull (M := kt_M325) (x := x2) kX8_seek_c7.2.2.2.2.2.1 (t := 237) rfl h (fun h => ?_) (fun h => ?_)
  · skip
    refine kz_goto (M := kt_M325) kX8_seek_c11.2.2.2.2.1 (t := 240) rfl ?_
    exact kz_weak [(0, .ref (w_adr E.2.1 7 0))] ⟨rfl, trivial⟩ rfl (zt_X8_seek_p240 hL  h)
  · skip
    refine kz_aload_nv (M := kt_M325) (x := x2) kX8_seek_c7.2.2.2.2.2.2.1 rfl ?_
    obtain ⟨p1, hxp1, hlp1, h⟩ := h
    refine kz_nz0 (x := x2) hxp1 ?_
    refine kz_gfp (M := kt_M325) (c := 14) (o := p1) kX8_seek_c7.2.2.2.2.2.2.2.1 wf_X8_128 (.inr (by exact hlp1)) ?_
    refine kz_ifnull (M := kt_M325) (x := w_p w 14 p1 6) kX8_seek_c8.1 (t := 192) rfl h (fun h => ?_) (fun h => ?_)
    · skip
      exact kz_weak [(0, .ref (w_adr E.2.1 7 0)), (2, va_rf (x2))] ⟨rfl, ⟨rfl, trivial⟩⟩ rfl (zt_X8_seek_p192 hL  h)
    · skip
      refine kz_aload_n (M := kt_M325) kX8_seek_c8.2.1 rfl ?_
      refine kz_aload_nv (M := kt_M325) (x := x2) kX8_seek_c8.2.2.1 rfl ?_
      refine kz_nz0 (x := x2) hxp1 ?_
      refine kz_gfp (M := kt_M325) (c := 14) (o := p1) kX8_seek_c8.2.2.2.1 wf_X8_128 (.inr (by exact hlp1)) ?_
      refine kz_cv0 (M := kt_M325) (c := 7) (o := 0) (As := [va_rf (w_p w 14 p1 6)]) (rest := []) kX8_seek_c8.2.2.2.2.1 wl_X8_257 wMv_310 rfl (.inl rfl) rfl (Nat.le_trans (Nat.le_of_ble_eq_true rfl) hL) (by simp [lg_sl, w_cat, z_ci, z_cr, z_cl, z_cn, kt_M310]) (Nat.le_of_ble_eq_true rfl) h (fun w2 hle h => ?_) (fun _ _ _ h => kzx_no rfl h)
      have h := h hle
      have hlp1 := w_l_le hlp1 hle
      exact kz_weak [(0, .ref (w_adr E.2.1 7 0)), (2, va_rf (x2))] ⟨rfl, ⟨rfl, trivial⟩⟩ rfl (zt_X8_seek_p192 hL  h)
def zb_X8_seek_p145 (E : zE) (L : Nat) (Q : kx_Rs → wS → Prop) (x2 : Option Nat) (w : wS) : Prop := (if x2 = none then zb_X8_seek_p240 E L Q w else (∃ p1, x2 = some p1 ∧ w_l w E.2.1 14 p1 ∧ zw E (L - 22) kt_M310 [.ref (w_adr E.2.1 7 0), va_rf (w_p w 14 p1 6)] w (wk0 (fun w2 => wle w w2 → zL_X8_seek_p145 E L Q (w_p w2 14 p1 7) w2) (fun e w => Q (.inr e) w))))
theorem zt_X8_seek_p145 {E : zE} {L : Nat} {Q : kx_Rs → wS → Prop} {x2 : Option Nat} {w : wS} (hL : 24 ≤ L) (h : zb_X8_seek_p145 E L Q x2 w) : kzE E L kt_M325 145 [(0, .ref (w_adr E.2.1 7 0)), (2, va_rf (x2))] [] w Q := by
  unfold zb_X8_seek_p145 at h
  refine kz_aload_nv (M := kt_M325) (x := x2) kX8_seek_c5.2.2.2.2.2.2.1 rfl ?_
  refine kz_ifnull (M := kt_M325) (x := x2) kX8_seek_c5.2.2.2.2.2.2.2.1 (t := 165) rfl h (fun h => ?_) (fun h => ?_)
  · skip
    refine kz_goto (M := kt_M325) kX8_seek_c7.1 (t := 240) rfl ?_
    exact kz_weak [(0, .ref (w_adr E.2.1 7 0))] ⟨rfl, trivial⟩ rfl (zt_X8_seek_p240 hL  h)
  · skip
    refine kz_aload_n (M := kt_M325) kX8_seek_c6.1 rfl ?_
    refine kz_aload_nv (M := kt_M325) (x := x2) kX8_seek_c6.2.1 rfl ?_
    obtain ⟨p1, hxp1, hlp1, h⟩ := h
    refine kz_nz0 (x := x2) hxp1 ?_
    refine kz_gfp (M := kt_M325) (c := 14) (o := p1) kX8_seek_c6.2.2.1 wf_X8_128 (.inr (by exact hlp1)) ?_
    refine kz_cv0 (M := kt_M325) (c := 7) (o := 0) (As := [va_rf (w_p w 14 p1 6)]) (rest := []) kX8_seek_c6.2.2.2.1 wl_X8_257 wMv_310 rfl (.inl rfl) rfl (Nat.le_trans (Nat.le_of_ble_eq_true rfl) hL) (by simp [lg_sl, w_cat, z_ci, z_cr, z_cl, z_cn, kt_M310]) (Nat.le_of_ble_eq_true rfl) h (fun w2 hle h => ?_) (fun _ _ _ h => kzx_no rfl h)
    have h := h hle
    have hlp1 := w_l_le hlp1 hle
    refine kz_aload_nv (M := kt_M325) (x := x2) kX8_seek_c6.2.2.2.2.1 rfl ?_
    refine kz_nz0 (x := x2) hxp1 ?_
    refine kz_gfp (M := kt_M325) (c := 14) (o := p1) kX8_seek_c6.2.2.2.2.2.1 wf_X8_67 (.inr (by exact hlp1)) ?_
    refine kz_stv_n (M := kt_M325) (x := w_p w2 14 p1 7) [(0, .ref (w_adr E.2.1 7 0))] kX8_seek_c6.2.2.2.2.2.2.1 (Nat.le_of_ble_eq_true rfl) ⟨⟨rfl, rfl, .inl rfl⟩, trivial⟩ rfl ?_
    refine kz_goto (M := kt_M325) kX8_seek_c6.2.2.2.2.2.2.2.1 (t := 145) rfl ?_
    exact kz_weak [(0, .ref (w_adr E.2.1 7 0)), (2, va_rf (w_p w2 14 p1 7))] ⟨rfl, ⟨rfl, trivial⟩⟩ rfl h
def zb_X8_seek_p106 (E : zE) (L : Nat) (Q : kx_Rs → wS → Prop) (x2 : Option Nat) (w : wS) : Prop := (if x2 = none then zb_X8_seek_p240 E L Q w else (∃ p1, x2 = some p1 ∧ w_l w E.2.1 14 p1 ∧ zw E (L - 22) kt_M310 [.ref (w_adr E.2.1 7 0), va_rf (w_p w 14 p1 4)] w (wk0 (fun w2 => wle w w2 → zL_X8_seek_p106 E L Q (w_p w2 14 p1 7) w2) (fun e w => Q (.inr e) w))))
theorem zt_X8_seek_p106 {E : zE} {L : Nat} {Q : kx_Rs → wS → Prop} {x2 : Option Nat} {w : wS} (hL : 24 ≤ L) (h : zb_X8_seek_p106 E L Q x2 w) : kzE E L kt_M325 106 [(0, .ref (w_adr E.2.1 7 0)), (2, va_rf (x2))] [] w Q := by
  unfold zb_X8_seek_p106 at h
  refine kz_aload_nv (M := kt_M325) (x := x2) kX8_seek_c3.2.2.2.1 rfl ?_
  refine kz_ifnull (M := kt_M325) (x := x2) kX8_seek_c3.2.2.2.2.1 (t := 126) rfl h (fun h => ?_) (fun h => ?_)
  · skip
    refine kz_goto (M := kt_M325) kX8_seek_c4.2.2.2.2.2.1 (t := 240) rfl ?_
    exact kz_weak [(0, .ref (w_adr E.2.1 7 0))] ⟨rfl, trivial⟩ rfl (zt_X8_seek_p240 hL  h)
  · skip
    refine kz_aload_n (M := kt_M325) kX8_seek_c3.2.2.2.2.2.1 rfl ?_
    refine kz_aload_nv (M := kt_M325) (x := x2) kX8_seek_c3.2.2.2.2.2.2.1 rfl ?_
    obtain ⟨p1, hxp1, hlp1, h⟩ := h
    refine kz_nz0 (x := x2) hxp1 ?_
    refine kz_gfp (M := kt_M325) (c := 14) (o := p1) kX8_seek_c3.2.2.2.2.2.2.2.1 wf_X8_70 (.inr (by exact hlp1)) ?_
    refine kz_cv0 (M := kt_M325) (c := 7) (o := 0) (As := [va_rf (w_p w 14 p1 4)]) (rest := []) kX8_seek_c4.1 wl_X8_257 wMv_310 rfl (.inl rfl) rfl (Nat.le_trans (Nat.le_of_ble_eq_true rfl) hL) (by simp [lg_sl, w_cat, z_ci, z_cr, z_cl, z_cn, kt_M310]) (Nat.le_of_ble_eq_true rfl) h (fun w2 hle h => ?_) (fun _ _ _ h => kzx_no rfl h)
    have h := h hle
    have hlp1 := w_l_le hlp1 hle
    refine kz_aload_nv (M := kt_M325) (x := x2) kX8_seek_c4.2.1 rfl ?_
    refine kz_nz0 (x := x2) hxp1 ?_
    refine kz_gfp (M := kt_M325) (c := 14) (o := p1) kX8_seek_c4.2.2.1 wf_X8_67 (.inr (by exact hlp1)) ?_
    refine kz_stv_n (M := kt_M325) (x := w_p w2 14 p1 7) [(0, .ref (w_adr E.2.1 7 0))] kX8_seek_c4.2.2.2.1 (Nat.le_of_ble_eq_true rfl) ⟨⟨rfl, rfl, .inl rfl⟩, trivial⟩ rfl ?_
    refine kz_goto (M := kt_M325) kX8_seek_c4.2.2.2.2.1 (t := 106) rfl ?_
    exact kz_weak [(0, .ref (w_adr E.2.1 7 0)), (2, va_rf (w_p w2 14 p1 7))] ⟨rfl, ⟨rfl, trivial⟩⟩ rfl h
def zb_X8_seek_p81 (E : zE) (L : Nat) (Q : kx_Rs → wS → Prop) (x2 : Option Nat) (w : wS) : Prop := (if x2 = none then zb_X8_seek_p240 E L Q w else zw E (L - 22) kt_M310 [.ref (w_adr E.2.1 7 0), va_rf (x2)] w (wk0 (fun w1 => wle w w1 → (∃ p3, x2 = some p3 ∧ w_l w1 E.2.1 14 p3 ∧ zL_X8_seek_p81 E L Q (w_p w1 14 p3 7) w1)) (fun e w => Q (.inr e) w)))
theorem zt_X8_seek_p81 {E : zE} {L : Nat} {Q : kx_Rs → wS → Prop} {x2 : Option Nat} {w : wS} (hL : 24 ≤ L) (h : zb_X8_seek_p81 E L Q x2 w) : kzE E L kt_M325 81 [(0, .ref (w_adr E.2.1 7 0)), (2, va_rf (x2))] [] w Q := by
  unfold zb_X8_seek_p81 at h
  refine kz_aload_nv (M := kt_M325) (x := x2) kX8_seek_c1.2.2.2.2.2.2.1 rfl ?_
  refine kz_ifnull (M := kt_M325) (x := x2) kX8_seek_c1.2.2.2.2.2.2.2.1 (t := 98) rfl h (fun h => ?_) (fun h => ?_)
  · skip
    refine kz_goto (M := kt_M325) kX8_seek_c2.2.2.2.2.2.2.2.1 (t := 240) rfl ?_
    exact kz_weak [(0, .ref (w_adr E.2.1 7 0))] ⟨rfl, trivial⟩ rfl (zt_X8_seek_p240 hL  h)
  · skip
    refine kz_aload_n (M := kt_M325) kX8_seek_c2.1 rfl ?_
    refine kz_aload_nv (M := kt_M325) (x := x2) kX8_seek_c2.2.1 rfl ?_
    refine kz_cv0 (M := kt_M325) (c := 7) (o := 0) (As := [va_rf (x2)]) (rest := []) kX8_seek_c2.2.2.1 wl_X8_257 wMv_310 rfl (.inl rfl) rfl (Nat.le_trans (Nat.le_of_ble_eq_true rfl) hL) (by simp [lg_sl, w_cat, z_ci, z_cr, z_cl, z_cn, kt_M310]) (Nat.le_of_ble_eq_true rfl) h (fun w1 hle h => ?_) (fun _ _ _ h => kzx_no rfl h)
    have h := h hle
    refine kz_aload_nv (M := kt_M325) (x := x2) kX8_seek_c2.2.2.2.1 rfl ?_
    obtain ⟨p3, hxp3, hlp3, h⟩ := h
    refine kz_nz0 (x := x2) hxp3 ?_
    refine kz_gfp (M := kt_M325) (c := 14) (o := p3) kX8_seek_c2.2.2.2.2.1 wf_X8_67 (.inr (by exact hlp3)) ?_
    refine kz_stv_n (M := kt_M325) (x := w_p w1 14 p3 7) [(0, .ref (w_adr E.2.1 7 0))] kX8_seek_c2.2.2.2.2.2.1 (Nat.le_of_ble_eq_true rfl) ⟨⟨rfl, rfl, .inl rfl⟩, trivial⟩ rfl ?_
    refine kz_goto (M := kt_M325) kX8_seek_c2.2.2.2.2.2.2.1 (t := 81) rfl ?_
    exact kz_weak [(0, .ref (w_adr E.2.1 7 0)), (2, va_rf (w_p w1 14 p3 7))] ⟨rfl, ⟨rfl, trivial⟩⟩ rfl h
def zb_X8_seek_p15 (E : zE) (L : Nat) (Q : kx_Rs → wS → Prop) (x1 : Option Nat) (w : wS) : Prop := (∃ p1, x1 = some p1 ∧ w_l w E.2.1 14 p1 ∧ (∃ i2, zO E "MeetingHouse$Kind" (w_p w 14 p1 0) i2 ∧ (if (kw_on i2) = 20 then zL_X8_seek_p145 E L Q (w_p w 14 p1 4) w else (if (kw_on i2) = 22 then zL_X8_seek_p81 E L Q (w_p w 14 p1 4) w else (if (kw_on i2) = 23 then zL_X8_seek_p81 E L Q (w_p w 14 p1 4) w else (if (kw_on i2) = 24 then zL_X8_seek_p106 E L Q (w_p w 14 p1 4) w else (if (kw_on i2) = 26 then zL_X8_seek_p106 E L Q (w_p w 14 p1 4) w else (if (kw_on i2) = 28 then zw E (L - 22) kt_M310 [.ref (w_adr E.2.1 7 0), va_rf (w_p w 14 p1 4)] w (wk0 (fun w3 => wle w w3 → zb_X8_seek_p240 E L Q w3) (fun e w => Q (.inr e) w)) else (if (kw_on i2) = 29 then zL_X8_seek_p173 E L Q (w_p w 14 p1 4) w else zb_X8_seek_p240 E L Q w)))))))))
theorem zt_X8_seek_p15 {E : zE} {L : Nat} {Q : kx_Rs → wS → Prop} {x1 : Option Nat} {w : wS} (hL : 24 ≤ L) (h : zb_X8_seek_p15 E L Q x1 w) : kzE E L kt_M325 15 [(0, .ref (w_adr E.2.1 7 0)), (1, va_rf (x1))] [] w Q := by
  unfold zb_X8_seek_p15 at h
  refine kz_aload_nv (M := kt_M325) (x := x1) kX8_seek_c0.2.2.2.2.2.2.2.1 rfl ?_
  obtain ⟨p1, hxp1, hlp1, h⟩ := h
  refine kz_nz0 (x := x1) hxp1 ?_
  refine kz_gfp (M := kt_M325) (c := 14) (o := p1) kX8_seek_c1.1 wf_X8_76 (.inr (by exact hlp1)) ?_
  obtain ⟨i2, ho, h⟩ := h
  refine kz_ord (M := kt_M325) (x := w_p w 14 p1 0) (i := i2) (C := "MeetingHouse$Kind") kX8_seek_c1.2.1 zo_l_X8 zo_m_X8 zo_s_Kind zo_u_X8 (Nat.le_trans (Nat.le_of_ble_eq_true rfl) hL) (Nat.le_of_ble_eq_true rfl) ho ?_
  refine kz_tsw (M := kt_M325) [(20, 140), (22, 76), (23, 76), (24, 101), (26, 101), (28, 129), (29, 168)] [_, _, _, _, _, _, _] 240 dX8_seek_p22 (by decide +kernel) h ⟨fun h => ?_, fun h => ?_, fun h => ?_, fun h => ?_, fun h => ?_, fun h => ?_, fun h => ?_, trivial⟩ (fun h => ?_)
  · skip
    refine kz_aload_nv (M := kt_M325) (x := x1) kX8_seek_c5.2.2.2.1 rfl ?_
    refine kz_nz0 (x := x1) hxp1 ?_
    refine kz_gfp (M := kt_M325) (c := 14) (o := p1) kX8_seek_c5.2.2.2.2.1 wf_X8_70 (.inr (by exact hlp1)) ?_
    refine kz_stv_n (M := kt_M325) (x := w_p w 14 p1 4) [(0, .ref (w_adr E.2.1 7 0))] kX8_seek_c5.2.2.2.2.2.1 (Nat.le_of_ble_eq_true rfl) ⟨⟨rfl, rfl, .inl rfl⟩, trivial⟩ rfl ?_
    exact kz_weak [(0, .ref (w_adr E.2.1 7 0)), (2, va_rf (w_p w 14 p1 4))] ⟨rfl, ⟨rfl, trivial⟩⟩ rfl h
  · skip
    refine kz_aload_nv (M := kt_M325) (x := x1) kX8_seek_c1.2.2.2.1 rfl ?_
    refine kz_nz0 (x := x1) hxp1 ?_
    refine kz_gfp (M := kt_M325) (c := 14) (o := p1) kX8_seek_c1.2.2.2.2.1 wf_X8_70 (.inr (by exact hlp1)) ?_
    refine kz_stv_n (M := kt_M325) (x := w_p w 14 p1 4) [(0, .ref (w_adr E.2.1 7 0))] kX8_seek_c1.2.2.2.2.2.1 (Nat.le_of_ble_eq_true rfl) ⟨⟨rfl, rfl, .inl rfl⟩, trivial⟩ rfl ?_
    exact kz_weak [(0, .ref (w_adr E.2.1 7 0)), (2, va_rf (w_p w 14 p1 4))] ⟨rfl, ⟨rfl, trivial⟩⟩ rfl h
  · skip
    refine kz_aload_nv (M := kt_M325) (x := x1) kX8_seek_c1.2.2.2.1 rfl ?_
    refine kz_nz0 (x := x1) hxp1 ?_
    refine kz_gfp (M := kt_M325) (c := 14) (o := p1) kX8_seek_c1.2.2.2.2.1 wf_X8_70 (.inr (by exact hlp1)) ?_
    refine kz_stv_n (M := kt_M325) (x := w_p w 14 p1 4) [(0, .ref (w_adr E.2.1 7 0))] kX8_seek_c1.2.2.2.2.2.1 (Nat.le_of_ble_eq_true rfl) ⟨⟨rfl, rfl, .inl rfl⟩, trivial⟩ rfl ?_
    exact kz_weak [(0, .ref (w_adr E.2.1 7 0)), (2, va_rf (w_p w 14 p1 4))] ⟨rfl, ⟨rfl, trivial⟩⟩ rfl h
  · skip
    refine kz_aload_nv (M := kt_M325) (x := x1) kX8_seek_c3.1 rfl ?_
    refine kz_nz0 (x := x1) hxp1 ?_
    refine kz_gfp (M := kt_M325) (c := 14) (o := p1) kX8_seek_c3.2.1 wf_X8_70 (.inr (by exact hlp1)) ?_
    refine kz_stv_n (M := kt_M325) (x := w_p w 14 p1 4) [(0, .ref (w_adr E.2.1 7 0))] kX8_seek_c3.2.2.1 (Nat.le_of_ble_eq_true rfl) ⟨⟨rfl, rfl, .inl rfl⟩, trivial⟩ rfl ?_
    exact kz_weak [(0, .ref (w_adr E.2.1 7 0)), (2, va_rf (w_p w 14 p1 4))] ⟨rfl, ⟨rfl, trivial⟩⟩ rfl h
  · skip
    refine kz_aload_nv (M := kt_M325) (x := x1) kX8_seek_c3.1 rfl ?_
    refine kz_nz0 (x := x1) hxp1 ?_
    refine kz_gfp (M := kt_M325) (c := 14) (o := p1) kX8_seek_c3.2.1 wf_X8_70 (.inr (by exact hlp1)) ?_
    refine kz_stv_n (M := kt_M325) (x := w_p w 14 p1 4) [(0, .ref (w_adr E.2.1 7 0))] kX8_seek_c3.2.2.1 (Nat.le_of_ble_eq_true rfl) ⟨⟨rfl, rfl, .inl rfl⟩, trivial⟩ rfl ?_
    exact kz_weak [(0, .ref (w_adr E.2.1 7 0)), (2, va_rf (w_p w 14 p1 4))] ⟨rfl, ⟨rfl, trivial⟩⟩ rfl h
  · skip
    refine kz_aload_n (M := kt_M325) kX8_seek_c4.2.2.2.2.2.2.1 rfl ?_
    refine kz_aload_nv (M := kt_M325) (x := x1) kX8_seek_c4.2.2.2.2.2.2.2.1 rfl ?_
    refine kz_nz0 (x := x1) hxp1 ?_
    refine kz_gfp (M := kt_M325) (c := 14) (o := p1) kX8_seek_c5.1 wf_X8_70 (.inr (by exact hlp1)) ?_
    refine kz_cv0 (M := kt_M325) (c := 7) (o := 0) (As := [va_rf (w_p w 14 p1 4)]) (rest := []) kX8_seek_c5.2.1 wl_X8_257 wMv_310 rfl (.inl rfl) rfl (Nat.le_trans (Nat.le_of_ble_eq_true rfl) hL) (by simp [lg_sl, w_cat, z_ci, z_cr, z_cl, z_cn, kt_M310]) (Nat.le_of_ble_eq_true rfl) h (fun w3 hle h => ?_) (fun _ _ _ h => kzx_no rfl h)
    have h := h hle
    have hlp1 := w_l_le hlp1 hle
    refine kz_goto (M := kt_M325) kX8_seek_c5.2.2.1 (t := 240) rfl ?_
    exact kz_weak [(0, .ref (w_adr E.2.1 7 0))] ⟨rfl, trivial⟩ rfl (zt_X8_seek_p240 hL  h)
  · skip
    refine kz_aload_nv (M := kt_M325) (x := x1) kX8_seek_c7.2.1 rfl ?_
    refine kz_nz0 (x := x1) hxp1 ?_
    refine kz_gfp (M := kt_M325) (c := 14) (o := p1) kX8_seek_c7.2.2.1 wf_X8_70 (.inr (by exact hlp1)) ?_
    refine kz_stv_n (M := kt_M325) (x := w_p w 14 p1 4) [(0, .ref (w_adr E.2.1 7 0))] kX8_seek_c7.2.2.2.1 (Nat.le_of_ble_eq_true rfl) ⟨⟨rfl, rfl, .inl rfl⟩, trivial⟩ rfl ?_
    exact kz_weak [(0, .ref (w_adr E.2.1 7 0)), (2, va_rf (w_p w 14 p1 4))] ⟨rfl, ⟨rfl, trivial⟩⟩ rfl h
  · skip
    exact kz_weak [(0, .ref (w_adr E.2.1 7 0))] ⟨rfl, trivial⟩ rfl (zt_X8_seek_p240 hL  h)
def zb_X8_seek_p0 (E : zE) (L : Nat) (Q : kx_Rs → wS → Prop) (x1 : Option Nat) (w : wS) : Prop := (∃ p1, x1 = some p1 ∧ w_l w E.2.1 14 p1 ∧ (if ¬ w_p w 14 p1 0 = some (E.1.1 44) then zb_X8_seek_p15 E L Q x1 w else zw E (L - 24) kt_M302 [.ref (w_adr E.2.1 7 0), va_rf (x1)] w (wk0 (fun w2 => wle w w2 → zb_X8_seek_p15 E L Q x1 w2) (fun e w => Q (.inr e) w))))
theorem zt_X8_seek_p0 {E : zE} {L : Nat} {Q : kx_Rs → wS → Prop} {x1 : Option Nat} {w : wS} (hL : 24 ≤ L) (h : zb_X8_seek_p0 E L Q x1 w) : kzE E L kt_M325 0 [(0, .ref (w_adr E.2.1 7 0)), (1, va_rf (x1))] [] w Q := by
  unfold zb_X8_seek_p0 at h
  refine kz_aload_nv (M := kt_M325) (x := x1) kX8_seek_c0.1 rfl ?_
  obtain ⟨p1, hxp1, hlp1, h⟩ := h
  refine kz_nz0 (x := x1) hxp1 ?_
  refine kz_gfp (M := kt_M325) (c := 14) (o := p1) kX8_seek_c0.2.1 wf_X8_76 (.inr (by exact hlp1)) ?_
  refine kz_getsE (M := kt_M325) (v := va_rf (some (E.1.1 44))) kX8_seek_c0.2.2.1 zs_X8_192 ?_
  refine kz_acmp_ne (M := kt_M325) (x := w_p w 14 p1 0) (y := some (E.1.1 44)) kX8_seek_c0.2.2.2.1 (t := 15) rfl h (fun h => ?_) (fun h => ?_)
  · skip
    exact kz_weak [(0, .ref (w_adr E.2.1 7 0)), (1, va_rf (x1))] ⟨rfl, ⟨rfl, trivial⟩⟩ rfl (zt_X8_seek_p15 hL  h)
  · skip
    refine kz_aload_n (M := kt_M325) kX8_seek_c0.2.2.2.2.1 rfl ?_
    refine kz_aload_nv (M := kt_M325) (x := x1) kX8_seek_c0.2.2.2.2.2.1 rfl ?_
    refine kz_cv0 (M := kt_M325) (c := 7) (o := 0) (As := [va_rf (x1)]) (rest := []) kX8_seek_c0.2.2.2.2.2.2.1 wl_X8_266 wMv_302 rfl (.inl rfl) rfl (Nat.le_trans (Nat.le_of_ble_eq_true rfl) hL) (by simp [lg_sl, w_cat, z_ci, z_cr, z_cl, z_cn, kt_M302]) (Nat.le_of_ble_eq_true rfl) h (fun w2 hle h => ?_) (fun _ _ _ h => kzx_no rfl h)
    have h := h hle
    have hlp1 := w_l_le hlp1 hle
    exact kz_weak [(0, .ref (w_adr E.2.1 7 0)), (1, va_rf (x1))] ⟨rfl, ⟨rfl, trivial⟩⟩ rfl (zt_X8_seek_p15 hL  h)
def zL_X8_branches_p92 (E : zE) (L : Nat) (Q : kx_Rs → wS → Prop) (x1 : Option Nat) (x2 : Option Nat) (x3 : Int32) (x4 : Int32) (w : wS) : Prop := kzE E L kt_M302 92 [(0, .ref (w_adr E.2.1 7 0)), (1, va_rf (x1)), (2, va_rf (x2)), (3, .int x3), (4, .int x4)] [] w Q
def zL_X8_branches_p41 (E : zE) (L : Nat) (Q : kx_Rs → wS → Prop) (x3 : Option Nat) (w : wS) : Prop := kzE E L kt_M302 41 [(0, .ref (w_adr E.2.1 7 0)), (3, va_rf (x3))] [] w Q
def zb_X8_branches_p128 (E : zE) (L : Nat) (Q : kx_Rs → wS → Prop) (w : wS) : Prop := zw E (L - 20) kt_M322 [.ref (w_adr E.2.1 7 0)] w (wk0 (fun w1 => wle w w1 → Q (.inl none) w1) (fun e w => Q (.inr e) w))
theorem zt_X8_branches_p128 {E : zE} {L : Nat} {Q : kx_Rs → wS → Prop} {w : wS} (hL : 26 ≤ L) (h : zb_X8_branches_p128 E L Q  w) : kzE E L kt_M302 128 [(0, .ref (w_adr E.2.1 7 0))] [] w Q := by
  unfold zb_X8_branches_p128 at h
  refine kz_aload_n (M := kt_M302) kX8_branches_c8.2.1 rfl ?_
  refine kz_cv0 (M := kt_M302) (c := 7) (o := 0) (As := []) (rest := []) kX8_branches_c8.2.2.1 wl_X8_158 wMv_322 rfl (.inl rfl) rfl (Nat.le_trans (Nat.le_of_ble_eq_true rfl) hL) (Nat.le_of_ble_eq_true rfl) (Nat.le_of_ble_eq_true rfl) h (fun w1 hle h => ?_) (fun _ _ _ h => kzx_no rfl h)
  have h := h hle
  exact kz_ret (M := kt_M302) kX8_branches_c8.2.2.2.1 rfl h
def zb_X8_branches_p92 (E : zE) (L : Nat) (Q : kx_Rs → wS → Prop) (x1 : Option Nat) (x2 : Option Nat) (x3 : Int32) (x4 : Int32) (w : wS) : Prop := (if x3 ≤ x4 then (∃ p1, x2 = some p1 ∧ w_l w E.2.1 15 p1 ∧ zb_X8_branches_p128 E L Q (ws_i w 15 p1 26 1)) else (∃ p2, x2 = some p2 ∧ w_l w E.2.1 15 p2 ∧ (∃ p3, x1 = some p3 ∧ w_l (ws_i w 15 p2 25 ((w_i w 15 p2 22) + x4)) E.2.1 14 p3 ∧ zw E (L - 26) kt_M301 [.ref (w_adr E.2.1 7 0), va_rf (w_p w 14 p3 4)] (ws_i w 15 p2 25 ((w_i w 15 p2 22) + x4)) (wk0 (fun w4 => wle (ws_i w 15 p2 25 ((w_i w 15 p2 22) + x4)) w4 → zL_X8_branches_p92 E L Q x1 x2 x3 (x4 + 1) w4) (fun e w => Q (.inr e) w)))))
theorem zt_X8_branches_p92 {E : zE} {L : Nat} {Q : kx_Rs → wS → Prop} {x1 : Option Nat} {x2 : Option Nat} {x3 : Int32} {x4 : Int32} {w : wS} (hL : 26 ≤ L) (h : zb_X8_branches_p92 E L Q x1 x2 x3 x4 w) : kzE E L kt_M302 92 [(0, .ref (w_adr E.2.1 7 0)), (1, va_rf (x1)), (2, va_rf (x2)), (3, .int x3), (4, .int x4)] [] w Q := by
  unfold zb_X8_branches_p92 at h
  refine kz_iload (M := kt_M302) kX8_branches_c5.2.2.2.2.2.2.2.1 rfl ?_
  refine kz_iload_n (M := kt_M302) kX8_branches_c6.1 rfl ?_
  refine kz_icmp_ge (M := kt_M302) kX8_branches_c6.2.1 (t := 123) rfl h (fun h => ?_) (fun h => ?_)
  · skip
    refine kz_aload_nv (M := kt_M302) (x := x2) kX8_branches_c7.2.2.2.2.2.2.1 rfl ?_
    refine kz_ic (M := kt_M302) 1 kX8_branches_c7.2.2.2.2.2.2.2.1 rfl ?_
    obtain ⟨p1, hxp1, hlp1, h⟩ := h
    refine kz_nz1 (x := x2) hxp1 ?_
    refine kz_pfz (M := kt_M302) (c := 15) (o := p1) kX8_branches_c8.1 wq_X8_272 (.inr (by exact hlp1)) (by decide) ?_
    exact kz_weak [(0, .ref (w_adr E.2.1 7 0))] ⟨rfl, trivial⟩ rfl (zt_X8_branches_p128 hL  h)
  · skip
    refine kz_aload_nv (M := kt_M302) (x := x2) kX8_branches_c6.2.2.1 rfl ?_
    refine kz_aload_nv (M := kt_M302) (x := x2) kX8_branches_c6.2.2.2.1 rfl ?_
    obtain ⟨p2, hxp2, hlp2, h⟩ := h
    refine kz_nz0 (x := x2) hxp2 ?_
    refine kz_gfi (M := kt_M302) (c := 15) (o := p2) kX8_branches_c6.2.2.2.2.1 wf_X8_287 (.inr (by exact hlp2)) ?_
    refine kz_iload (M := kt_M302) kX8_branches_c6.2.2.2.2.2.1 rfl ?_
    refine kz_iadd (M := kt_M302) kX8_branches_c6.2.2.2.2.2.2.1 ?_
    refine kz_nz1 (x := x2) hxp2 ?_
    refine kz_pfi (M := kt_M302) (c := 15) (o := p2) kX8_branches_c6.2.2.2.2.2.2.2.1 wq_X8_289 (.inr (by exact hlp2)) ?_
    refine kz_aload_n (M := kt_M302) kX8_branches_c7.1 rfl ?_
    refine kz_aload_nv (M := kt_M302) (x := x1) kX8_branches_c7.2.1 rfl ?_
    obtain ⟨p3, hxp3, hlp3, h⟩ := h
    refine kz_nz0 (x := x1) hxp3 ?_
    refine kz_gfpR (M := kt_M302) (c := 14) (o := p3) (w_p w 14 p3 4) kX8_branches_c7.2.2.1 wf_X8_70 (.inr (by exact hlp3)) rd_p_i ?_
    refine kz_cv0 (M := kt_M302) (c := 7) (o := 0) (As := [va_rf (w_p w 14 p3 4)]) (rest := []) kX8_branches_c7.2.2.2.1 wl_X8_269 wMv_301 rfl (.inl rfl) rfl (Nat.le_trans (Nat.le_of_ble_eq_true rfl) hL) (by simp [lg_sl, w_cat, z_ci, z_cr, z_cl, z_cn, kt_M301]) (Nat.le_of_ble_eq_true rfl) h (fun w4 hle h => ?_) (fun _ _ _ h => kzx_no rfl h)
    have h := h hle
    have hlp2 := w_l_le hlp2 hle
    have hlp3 := w_l_le hlp3 hle
    refine kz_inc (M := kt_M302) [(0, .ref (w_adr E.2.1 7 0)), (1, va_rf (x1)), (2, va_rf (x2)), (3, .int x3)] kX8_branches_c7.2.2.2.2.1 rfl (Nat.le_of_ble_eq_true rfl) ⟨⟨rfl, rfl, .inl rfl⟩, ⟨⟨rfl, rfl, .inl rfl⟩, ⟨⟨rfl, rfl, .inl rfl⟩, ⟨⟨rfl, rfl, .inr rfl⟩, trivial⟩⟩⟩⟩ rfl ?_
    refine kz_goto (M := kt_M302) kX8_branches_c7.2.2.2.2.2.1 (t := 92) rfl ?_
    exact kz_weak [(0, .ref (w_adr E.2.1 7 0)), (1, va_rf (x1)), (2, va_rf (x2)), (3, .int x3), (4, .int (x4 + 1))] ⟨rfl, ⟨rfl, ⟨rfl, ⟨rfl, ⟨rfl, trivial⟩⟩⟩⟩⟩ rfl h
def zb_X8_branches_p88 (E : zE) (L : Nat) (Q : kx_Rs → wS → Prop) (x1 : Option Nat) (x2 : Option Nat) (y0 : Int32) (w : wS) : Prop := zL_X8_branches_p92 E L Q x1 x2 y0 0 w
theorem zt_X8_branches_p88 {E : zE} {L : Nat} {Q : kx_Rs → wS → Prop} {x1 : Option Nat} {x2 : Option Nat} {y0 : Int32} {w : wS} (hL : 26 ≤ L) (h : zb_X8_branches_p88 E L Q x1 x2 y0 w) : kzE E L kt_M302 88 [(0, .ref (w_adr E.2.1 7 0)), (1, va_rf (x1)), (2, va_rf (x2))] [.int y0] w Q := by
  unfold zb_X8_branches_p88 at h
  refine kz_sti_n (M := kt_M302) [(0, .ref (w_adr E.2.1 7 0)), (1, va_rf (x1)), (2, va_rf (x2))] kX8_branches_c5.2.2.2.2.1 (Nat.le_of_ble_eq_true rfl) ⟨⟨rfl, rfl, .inl rfl⟩, ⟨⟨rfl, rfl, .inl rfl⟩, ⟨⟨rfl, rfl, .inr (w_cat (x2))⟩, trivial⟩⟩⟩ rfl ?_
  refine kz_ic (M := kt_M302) 0 kX8_branches_c5.2.2.2.2.2.1 rfl ?_
  refine kz_sti (M := kt_M302) [(0, .ref (w_adr E.2.1 7 0)), (1, va_rf (x1)), (2, va_rf (x2)), (3, .int y0)] kX8_branches_c5.2.2.2.2.2.2.1 (Nat.le_of_ble_eq_true rfl) ⟨⟨rfl, rfl, .inl rfl⟩, ⟨⟨rfl, rfl, .inl rfl⟩, ⟨⟨rfl, rfl, .inl rfl⟩, ⟨⟨rfl, rfl, .inr rfl⟩, trivial⟩⟩⟩⟩ rfl ?_
  exact kz_weak [(0, .ref (w_adr E.2.1 7 0)), (1, va_rf (x1)), (2, va_rf (x2)), (3, .int y0), (4, .int 0)] ⟨rfl, ⟨rfl, ⟨rfl, ⟨rfl, ⟨rfl, trivial⟩⟩⟩⟩⟩ rfl h
def zb_X8_branches_p41 (E : zE) (L : Nat) (Q : kx_Rs → wS → Prop) (x3 : Option Nat) (w : wS) : Prop := (if x3 = none then zb_X8_branches_p128 E L Q w else zw E (L - 26) kt_M301 [.ref (w_adr E.2.1 7 0), va_rf (x3)] w (wk0 (fun w1 => wle w w1 → (∃ p3, x3 = some p3 ∧ w_l w1 E.2.1 14 p3 ∧ zL_X8_branches_p41 E L Q (w_p w1 14 p3 7) w1)) (fun e w => Q (.inr e) w)))
theorem zt_X8_branches_p41 {E : zE} {L : Nat} {Q : kx_Rs → wS → Prop} {x3 : Option Nat} {w : wS} (hL : 26 ≤ L) (h : zb_X8_branches_p41 E L Q x3 w) : kzE E L kt_M302 41 [(0, .ref (w_adr E.2.1 7 0)), (3, va_rf (x3))] [] w Q := by
  unfold zb_X8_branches_p41 at h
  refine kz_aload_nv (M := kt_M302) (x := x3) kX8_branches_c2.2.2.2.2.2.1 rfl ?_
  refine kz_ifnull (M := kt_M302) (x := x3) kX8_branches_c2.2.2.2.2.2.2.1 (t := 58) rfl h (fun h => ?_) (fun h => ?_)
  · skip
    refine kz_goto (M := kt_M302) kX8_branches_c3.2.2.2.2.2.2.1 (t := 128) rfl ?_
    exact kz_weak [(0, .ref (w_adr E.2.1 7 0))] ⟨rfl, trivial⟩ rfl (zt_X8_branches_p128 hL  h)
  · skip
    refine kz_aload_n (M := kt_M302) kX8_branches_c2.2.2.2.2.2.2.2.1 rfl ?_
    refine kz_aload_nv (M := kt_M302) (x := x3) kX8_branches_c3.1 rfl ?_
    refine kz_cv0 (M := kt_M302) (c := 7) (o := 0) (As := [va_rf (x3)]) (rest := []) kX8_branches_c3.2.1 wl_X8_269 wMv_301 rfl (.inl rfl) rfl (Nat.le_trans (Nat.le_of_ble_eq_true rfl) hL) (by simp [lg_sl, w_cat, z_ci, z_cr, z_cl, z_cn, kt_M301]) (Nat.le_of_ble_eq_true rfl) h (fun w1 hle h => ?_) (fun _ _ _ h => kzx_no rfl h)
    have h := h hle
    refine kz_aload_nv (M := kt_M302) (x := x3) kX8_branches_c3.2.2.1 rfl ?_
    obtain ⟨p3, hxp3, hlp3, h⟩ := h
    refine kz_nz0 (x := x3) hxp3 ?_
    refine kz_gfp (M := kt_M302) (c := 14) (o := p3) kX8_branches_c3.2.2.2.1 wf_X8_67 (.inr (by exact hlp3)) ?_
    refine kz_stv_n (M := kt_M302) (x := w_p w1 14 p3 7) [(0, .ref (w_adr E.2.1 7 0))] kX8_branches_c3.2.2.2.2.1 (Nat.le_of_ble_eq_true rfl) ⟨⟨rfl, rfl, .inl rfl⟩, trivial⟩ rfl ?_
    refine kz_goto (M := kt_M302) kX8_branches_c3.2.2.2.2.2.1 (t := 41) rfl ?_
    exact kz_weak [(0, .ref (w_adr E.2.1 7 0)), (3, va_rf (w_p w1 14 p3 7))] ⟨rfl, ⟨rfl, trivial⟩⟩ rfl h
def zb_X8_branches_p31 (E : zE) (L : Nat) (Q : kx_Rs → wS → Prop) (x1 : Option Nat) (y0 : Option Nat) (w : wS) : Prop := (if ¬ y0 = none then (∃ p1, y0 = some p1 ∧ w_l w E.2.1 15 p1 ∧ (if ¬ w_i w 15 p1 24 = 0 then zb_X8_branches_p88 E L Q x1 y0 (w_i w 15 p1 23) (ws_i w 15 p1 26 0) else zb_X8_branches_p88 E L Q x1 y0 (if (w_i w 15 p1 23) < 2 then (w_i w 15 p1 23) else 2) (ws_i w 15 p1 26 0))) else (∃ p2, x1 = some p2 ∧ w_l w E.2.1 14 p2 ∧ zL_X8_branches_p41 E L Q (w_p w 14 p2 4) w))
theorem zt_X8_branches_p31 {E : zE} {L : Nat} {Q : kx_Rs → wS → Prop} {x1 : Option Nat} {y0 : Option Nat} {w : wS} (hL : 26 ≤ L) (h : zb_X8_branches_p31 E L Q x1 y0 w) : kzE E L kt_M302 31 [(0, .ref (w_adr E.2.1 7 0)), (1, va_rf (x1))] [va_rf (y0)] w Q := by
  unfold zb_X8_branches_p31 at h
  refine kz_stv_n (M := kt_M302) (x := y0) [(0, .ref (w_adr E.2.1 7 0)), (1, va_rf (x1))] kX8_branches_c1.2.2.2.2.2.2.2.1 (Nat.le_of_ble_eq_true rfl) ⟨⟨rfl, rfl, .inl rfl⟩, ⟨⟨rfl, rfl, .inr (w_cat (x1))⟩, trivial⟩⟩ rfl ?_
  refine kz_aload_nv (M := kt_M302) (x := y0) kX8_branches_c2.1 rfl ?_
  refine kz_ifnonnull (M := kt_M302) (x := y0) kX8_branches_c2.2.1 (t := 61) rfl h (fun h => ?_) (fun h => ?_)
  · skip
    refine kz_aload_nv (M := kt_M302) (x := y0) kX8_branches_c3.2.2.2.2.2.2.2.1 rfl ?_
    refine kz_ic (M := kt_M302) 0 kX8_branches_c4.1 rfl ?_
    obtain ⟨p1, hxp1, hlp1, h⟩ := h
    refine kz_nz1 (x := y0) hxp1 ?_
    refine kz_pfz (M := kt_M302) (c := 15) (o := p1) kX8_branches_c4.2.1 wq_X8_272 (.inr (by exact hlp1)) (by decide) ?_
    refine kz_aload_nv (M := kt_M302) (x := y0) kX8_branches_c4.2.2.1 rfl ?_
    refine kz_nz0 (x := y0) hxp1 ?_
    refine kz_gfiR (M := kt_M302) (c := 15) (o := p1) (w_i w 15 p1 24) kX8_branches_c4.2.2.2.1 wf_X8_275 (.inr (by exact hlp1)) (rd_i_i rfl) ?_
    refine kz_if_ne (M := kt_M302) kX8_branches_c4.2.2.2.2.1 (t := 84) rfl h (fun h => ?_) (fun h => ?_)
    · skip
      refine kz_aload_nv (M := kt_M302) (x := y0) kX8_branches_c5.2.2.1 rfl ?_
      refine kz_nz0 (x := y0) hxp1 ?_
      refine kz_gfiR (M := kt_M302) (c := 15) (o := p1) (w_i w 15 p1 23) kX8_branches_c5.2.2.2.1 wf_X8_278 (.inr (by exact hlp1)) (rd_i_i rfl) ?_
      exact kz_weak [(0, .ref (w_adr E.2.1 7 0)), (1, va_rf (x1)), (2, va_rf (y0))] ⟨rfl, ⟨rfl, ⟨rfl, trivial⟩⟩⟩ rfl (zt_X8_branches_p88 hL  h)
    · skip
      refine kz_ic (M := kt_M302) 2 kX8_branches_c4.2.2.2.2.2.1 rfl ?_
      refine kz_aload_nv (M := kt_M302) (x := y0) kX8_branches_c4.2.2.2.2.2.2.1 rfl ?_
      refine kz_nz0 (x := y0) hxp1 ?_
      refine kz_gfiR (M := kt_M302) (c := 15) (o := p1) (w_i w 15 p1 23) kX8_branches_c4.2.2.2.2.2.2.2.1 wf_X8_278 (.inr (by exact hlp1)) (rd_i_i rfl) ?_
      refine kz_mmin (M := kt_M302) kX8_branches_c5.1 zm_l_X8_281 zm_s_min zm_i zm_c_min (Nat.le_trans (Nat.le_of_ble_eq_true rfl) hL) (Nat.le_of_ble_eq_true rfl) ?_
      refine kz_goto (M := kt_M302) kX8_branches_c5.2.1 (t := 88) rfl ?_
      exact kz_weak [(0, .ref (w_adr E.2.1 7 0)), (1, va_rf (x1)), (2, va_rf (y0))] ⟨rfl, ⟨rfl, ⟨rfl, trivial⟩⟩⟩ rfl (zt_X8_branches_p88 hL  h)
  · skip
    refine kz_aload_nv (M := kt_M302) (x := x1) kX8_branches_c2.2.2.1 rfl ?_
    obtain ⟨p2, hxp2, hlp2, h⟩ := h
    refine kz_nz0 (x := x1) hxp2 ?_
    refine kz_gfp (M := kt_M302) (c := 14) (o := p2) kX8_branches_c2.2.2.2.1 wf_X8_70 (.inr (by exact hlp2)) ?_
    refine kz_stv_n (M := kt_M302) (x := w_p w 14 p2 4) [(0, .ref (w_adr E.2.1 7 0))] kX8_branches_c2.2.2.2.2.1 (Nat.le_of_ble_eq_true rfl) ⟨⟨rfl, rfl, .inl rfl⟩, trivial⟩ rfl ?_
    exact kz_weak [(0, .ref (w_adr E.2.1 7 0)), (3, va_rf (w_p w 14 p2 4))] ⟨rfl, ⟨rfl, trivial⟩⟩ rfl h
def zb_X8_branches_p0 (E : zE) (L : Nat) (Q : kx_Rs → wS → Prop) (x1 : Option Nat) (w : wS) : Prop := (∃ p1, x1 = some p1 ∧ w_l w E.2.1 14 p1 ∧ (if ¬ (w_p w 14 p1 3) = none then (∃ p2, w_p w 14 p1 3 = some p2 ∧ w_l (ws_i (ws_i w 7 0 12 (w_i w 14 p1 10)) 7 0 13 (-1)) E.2.1 14 p2 ∧ zb_X8_branches_p31 E L Q x1 (w_p w 14 p2 16) (ws_i (ws_i w 7 0 12 (w_i w 14 p1 10)) 7 0 13 (-1))) else zb_X8_branches_p31 E L Q x1 none (ws_i (ws_i w 7 0 12 (w_i w 14 p1 10)) 7 0 13 (-1))))
theorem zt_X8_branches_p0 {E : zE} {L : Nat} {Q : kx_Rs → wS → Prop} {x1 : Option Nat} {w : wS} (hL : 26 ≤ L) (h : zb_X8_branches_p0 E L Q x1 w) : kzE E L kt_M302 0 [(0, .ref (w_adr E.2.1 7 0)), (1, va_rf (x1))] [] w Q := by
  unfold zb_X8_branches_p0 at h
  refine kz_aload_n (M := kt_M302) kX8_branches_c0.1 rfl ?_
  refine kz_aload_nv (M := kt_M302) (x := x1) kX8_branches_c0.2.1 rfl ?_
  obtain ⟨p1, hxp1, hlp1, h⟩ := h
  refine kz_nz0 (x := x1) hxp1 ?_
  refine kz_gfi (M := kt_M302) (c := 14) (o := p1) kX8_branches_c0.2.2.1 wf_X8_88 (.inr (by exact hlp1)) ?_
  refine kz_pfi (M := kt_M302) (c := 7) (o := 0) kX8_branches_c0.2.2.2.1 wq_X8_113 (.inl rfl) ?_
  refine kz_aload_n (M := kt_M302) kX8_branches_c0.2.2.2.2.1 rfl ?_
  refine kz_ic (M := kt_M302) (-1) kX8_branches_c0.2.2.2.2.2.1 rfl ?_
  refine kz_pfi (M := kt_M302) (c := 7) (o := 0) kX8_branches_c0.2.2.2.2.2.2.1 wq_X8_116 (.inl rfl) ?_
  refine kz_aload_nv (M := kt_M302) (x := x1) kX8_branches_c0.2.2.2.2.2.2.2.1 rfl ?_
  refine kz_nz0 (x := x1) hxp1 ?_
  refine kz_gfpR (M := kt_M302) (c := 14) (o := p1) (w_p w 14 p1 3) kX8_branches_c1.1 wf_X8_58 (.inr (by exact hlp1)) (rd_p_i.trans rd_p_i) ?_
  refine kz_ifnonnull (M := kt_M302) (x := w_p w 14 p1 3) kX8_branches_c1.2.1 (t := 24) rfl h (fun h => ?_) (fun h => ?_)
  · skip
    refine kz_aload_nv (M := kt_M302) (x := x1) kX8_branches_c1.2.2.2.2.1 rfl ?_
    refine kz_nz0 (x := x1) hxp1 ?_
    refine kz_gfpR (M := kt_M302) (c := 14) (o := p1) (w_p w 14 p1 3) kX8_branches_c1.2.2.2.2.2.1 wf_X8_58 (.inr (by exact hlp1)) (rd_p_i.trans rd_p_i) ?_
    obtain ⟨p2, hxp2, hlp2, h⟩ := h
    refine kz_nz0 (x := w_p w 14 p1 3) hxp2 ?_
    refine kz_gfpR (M := kt_M302) (c := 14) (o := p2) (w_p w 14 p2 16) kX8_branches_c1.2.2.2.2.2.2.1 wf_X8_131 (.inr (by exact hlp2)) (rd_p_i.trans rd_p_i) ?_
    exact kz_weak [(0, .ref (w_adr E.2.1 7 0)), (1, va_rf (x1))] ⟨rfl, ⟨rfl, trivial⟩⟩ rfl (zt_X8_branches_p31 hL  h)
  · skip
    refine kz_null (M := kt_M302) kX8_branches_c1.2.2.1 ?_
    refine kz_goto (M := kt_M302) kX8_branches_c1.2.2.2.1 (t := 31) rfl ?_
    exact kz_weak [(0, .ref (w_adr E.2.1 7 0)), (1, va_rf (x1))] ⟨rfl, ⟨rfl, trivial⟩⟩ rfl (zt_X8_branches_p31 hL  h)
def zL_X8_branch_p15 (E : zE) (L : Nat) (Q : kx_Rs → wS → Prop) (x3 : Int32) (x4 : Int32) (w : wS) : Prop := kzE E L kt_M301 15 [(0, .ref (w_adr E.2.1 7 0)), (3, .int x3), (4, .int x4)] [] w Q
def zb_X8_branch_p61 (E : zE) (L : Nat) (Q : kx_Rs → wS → Prop) (x3 : Int32) (x4 : Int32) (x5 : Int32) (x6 : Int32) (w : wS) : Prop := (kx_inb x5 (w_n w 7 0 5) = true ∧ zL_X8_branch_p15 E L Q x3 (x4 + 1) (ws_a w 7 0 5 (x5).toNatClampNeg ((x6 ||| (x6 <<< (8 &&& 31))) &&& 3840)))
theorem zt_X8_branch_p61 {E : zE} {L : Nat} {Q : kx_Rs → wS → Prop} {x3 : Int32} {x4 : Int32} {x5 : Int32} {x6 : Int32} {w : wS} (hL : 22 ≤ L) (h : zb_X8_branch_p61 E L Q x3 x4 x5 x6 w) : kzE E L kt_M301 61 [(0, .ref (w_adr E.2.1 7 0)), (3, .int x3), (4, .int x4), (5, .int x5), (6, .int x6)] [] w Q := by
  unfold zb_X8_branch_p61 at h
  refine kz_aload_n (M := kt_M301) kX8_branch_c4.2.2.1 rfl ?_
  refine kz_gfa (M := kt_M301) (c := 7) (o := 0) kX8_branch_c4.2.2.2.1 wf_X8_21 (.inl rfl) ?_
  refine kz_iload (M := kt_M301) kX8_branch_c4.2.2.2.2.1 rfl ?_
  refine kz_iload (M := kt_M301) kX8_branch_c4.2.2.2.2.2.1 rfl ?_
  refine kz_iload (M := kt_M301) kX8_branch_c4.2.2.2.2.2.2.1 rfl ?_
  refine kz_bi (M := kt_M301) 8 kX8_branch_c4.2.2.2.2.2.2.2.1 rfl ?_
  refine kz_ishl (M := kt_M301) kX8_branch_c5.1 ?_
  refine kz_ior (M := kt_M301) kX8_branch_c5.2.1 ?_
  refine kz_si (M := kt_M301) 3840 kX8_branch_c5.2.2.1 rfl ?_
  refine kz_iand (M := kt_M301) kX8_branch_c5.2.2.2.1 ?_
  refine kz_iast (M := kt_M301) (c := 7) (o := 0) (k := 5) (a := (w_d w 7 0 5)) kX8_branch_c5.2.2.2.2.1 ow_7_0_5 oa_7_0_5 ot_0 h (fun h => ?_)
  refine kz_inc (M := kt_M301) [(0, .ref (w_adr E.2.1 7 0)), (3, .int x3)] kX8_branch_c5.2.2.2.2.2.1 rfl (Nat.le_of_ble_eq_true rfl) ⟨⟨rfl, rfl, .inl rfl⟩, ⟨⟨rfl, rfl, .inr rfl⟩, trivial⟩⟩ rfl ?_
  refine kz_goto (M := kt_M301) kX8_branch_c5.2.2.2.2.2.2.1 (t := 15) rfl ?_
  exact kz_weak [(0, .ref (w_adr E.2.1 7 0)), (3, .int x3), (4, .int (x4 + 1))] ⟨rfl, ⟨rfl, ⟨rfl, trivial⟩⟩⟩ rfl h
def zb_X8_branch_p15 (E : zE) (L : Nat) (Q : kx_Rs → wS → Prop) (x3 : Int32) (x4 : Int32) (w : wS) : Prop := (if w_i w 7 0 8 ≤ x4 then Q (.inl none) (ws_i w 7 0 8 x3) else (kx_inb x4 (w_n w 7 0 6) = true ∧ (kx_inb (w_a w 7 0 6 (x4).toNatClampNeg) (w_n w 7 0 5) = true ∧ (if ¬ ((w_a w 7 0 5 (w_a w 7 0 6 (x4).toNatClampNeg).toNatClampNeg) >>> (8 &&& 31)) = 0 then zb_X8_branch_p61 E L Q x3 x4 (w_a w 7 0 6 (x4).toNatClampNeg) (w_a w 7 0 5 (w_a w 7 0 6 (x4).toNatClampNeg).toNatClampNeg) w else (kx_inb x3 (w_n w 7 0 6) = true ∧ zb_X8_branch_p61 E L Q (x3 + 1) x4 (w_a w 7 0 6 (x4).toNatClampNeg) (w_a w 7 0 5 (w_a w 7 0 6 (x4).toNatClampNeg).toNatClampNeg) (ws_a w 7 0 6 (x3).toNatClampNeg (w_a w 7 0 6 (x4).toNatClampNeg)))))))
theorem zt_X8_branch_p15 {E : zE} {L : Nat} {Q : kx_Rs → wS → Prop} {x3 : Int32} {x4 : Int32} {w : wS} (hL : 22 ≤ L) (h : zb_X8_branch_p15 E L Q x3 x4 w) : kzE E L kt_M301 15 [(0, .ref (w_adr E.2.1 7 0)), (3, .int x3), (4, .int x4)] [] w Q := by
  unfold zb_X8_branch_p15 at h
  refine kz_iload (M := kt_M301) kX8_branch_c1.2.2.1 rfl ?_
  refine kz_aload_n (M := kt_M301) kX8_branch_c1.2.2.2.1 rfl ?_
  refine kz_gfi (M := kt_M301) (c := 7) (o := 0) kX8_branch_c1.2.2.2.2.1 wf_X8_48 (.inl rfl) ?_
  refine kz_icmp_ge (M := kt_M301) kX8_branch_c1.2.2.2.2.2.1 (t := 86) rfl h (fun h => ?_) (fun h => ?_)
  · skip
    refine kz_aload_n (M := kt_M301) kX8_branch_c5.2.2.2.2.2.2.2.1 rfl ?_
    refine kz_iload_n (M := kt_M301) kX8_branch_c6.1 rfl ?_
    refine kz_pfi (M := kt_M301) (c := 7) (o := 0) kX8_branch_c6.2.1 wq_X8_48 (.inl rfl) ?_
    exact kz_ret (M := kt_M301) kX8_branch_c6.2.2.1 rfl h
  · skip
    refine kz_aload_n (M := kt_M301) kX8_branch_c1.2.2.2.2.2.2.1 rfl ?_
    refine kz_gfa (M := kt_M301) (c := 7) (o := 0) kX8_branch_c1.2.2.2.2.2.2.2.1 wf_X8_24 (.inl rfl) ?_
    refine kz_iload (M := kt_M301) kX8_branch_c2.1 rfl ?_
    refine kz_iald (M := kt_M301) (c := 7) (o := 0) (k := 6) (a := (w_d w 7 0 6)) kX8_branch_c2.2.1 ow_7_0_6 oa_7_0_6 ot_0 h (fun h => ?_)
    refine kz_sti (M := kt_M301) [(0, .ref (w_adr E.2.1 7 0)), (3, .int x3), (4, .int x4)] kX8_branch_c2.2.2.1 (Nat.le_of_ble_eq_true rfl) ⟨⟨rfl, rfl, .inl rfl⟩, ⟨⟨rfl, rfl, .inl rfl⟩, ⟨⟨rfl, rfl, .inr rfl⟩, trivial⟩⟩⟩ rfl ?_
    refine kz_aload_n (M := kt_M301) kX8_branch_c2.2.2.2.1 rfl ?_
    refine kz_gfa (M := kt_M301) (c := 7) (o := 0) kX8_branch_c2.2.2.2.2.1 wf_X8_21 (.inl rfl) ?_
    refine kz_iload (M := kt_M301) kX8_branch_c2.2.2.2.2.2.1 rfl ?_
    refine kz_iald (M := kt_M301) (c := 7) (o := 0) (k := 5) (a := (w_d w 7 0 5)) kX8_branch_c2.2.2.2.2.2.2.1 ow_7_0_5 oa_7_0_5 ot_0 h (fun h => ?_)
    refine kz_sti (M := kt_M301) [(0, .ref (w_adr E.2.1 7 0)), (3, .int x3), (4, .int x4), (5, .int (w_a w 7 0 6 (x4).toNatClampNeg))] kX8_branch_c2.2.2.2.2.2.2.2.1 (Nat.le_of_ble_eq_true rfl) ⟨⟨rfl, rfl, .inl rfl⟩, ⟨⟨rfl, rfl, .inl rfl⟩, ⟨⟨rfl, rfl, .inl rfl⟩, ⟨⟨rfl, rfl, .inr rfl⟩, trivial⟩⟩⟩⟩ rfl ?_
    refine kz_iload (M := kt_M301) kX8_branch_c3.1 rfl ?_
    refine kz_bi (M := kt_M301) 8 kX8_branch_c3.2.1 rfl ?_
    refine kz_ishr (M := kt_M301) kX8_branch_c3.2.2.1 ?_
    refine kz_if_ne (M := kt_M301) kX8_branch_c3.2.2.2.1 (t := 61) rfl h (fun h => ?_) (fun h => ?_)
    · skip
      exact kz_weak [(0, .ref (w_adr E.2.1 7 0)), (3, .int x3), (4, .int x4), (5, .int (w_a w 7 0 6 (x4).toNatClampNeg)), (6, .int (w_a w 7 0 5 (w_a w 7 0 6 (x4).toNatClampNeg).toNatClampNeg))] ⟨rfl, ⟨rfl, ⟨rfl, ⟨rfl, ⟨rfl, trivial⟩⟩⟩⟩⟩ rfl (zt_X8_branch_p61 hL  h)
    · skip
      refine kz_aload_n (M := kt_M301) kX8_branch_c3.2.2.2.2.1 rfl ?_
      refine kz_gfa (M := kt_M301) (c := 7) (o := 0) kX8_branch_c3.2.2.2.2.2.1 wf_X8_24 (.inl rfl) ?_
      refine kz_iload_n (M := kt_M301) kX8_branch_c3.2.2.2.2.2.2.1 rfl ?_
      refine kz_inc (M := kt_M301) [(0, .ref (w_adr E.2.1 7 0)), (4, .int x4), (5, .int (w_a w 7 0 6 (x4).toNatClampNeg)), (6, .int (w_a w 7 0 5 (w_a w 7 0 6 (x4).toNatClampNeg).toNatClampNeg))] kX8_branch_c3.2.2.2.2.2.2.2.1 rfl (Nat.le_of_ble_eq_true rfl) ⟨⟨rfl, rfl, .inl rfl⟩, ⟨⟨rfl, rfl, .inl rfl⟩, ⟨⟨rfl, rfl, .inl rfl⟩, ⟨⟨rfl, rfl, .inl rfl⟩, trivial⟩⟩⟩⟩ rfl ?_
      refine kz_iload (M := kt_M301) kX8_branch_c4.1 rfl ?_
      refine kz_iast (M := kt_M301) (c := 7) (o := 0) (k := 6) (a := (w_d w 7 0 6)) kX8_branch_c4.2.1 ow_7_0_6 oa_7_0_6 ot_0 h (fun h => ?_)
      exact kz_weak [(0, .ref (w_adr E.2.1 7 0)), (3, .int (x3 + 1)), (4, .int x4), (5, .int (w_a w 7 0 6 (x4).toNatClampNeg)), (6, .int (w_a w 7 0 5 (w_a w 7 0 6 (x4).toNatClampNeg).toNatClampNeg))] ⟨rfl, ⟨rfl, ⟨rfl, ⟨rfl, ⟨rfl, trivial⟩⟩⟩⟩⟩ rfl (zt_X8_branch_p61 hL  h)
def zb_X8_branch_p0 (E : zE) (L : Nat) (Q : kx_Rs → wS → Prop) (x1 : Option Nat) (w : wS) : Prop := zw E (L - 22) kt_M321 [.ref (w_adr E.2.1 7 0), va_rf (x1)] w (wk0 (fun w1 => wle w w1 → zL_X8_branch_p15 E L Q (w_i w 7 0 8) (w_i w 7 0 8) w1) (fun e w => Q (.inr e) w))
theorem zt_X8_branch_p0 {E : zE} {L : Nat} {Q : kx_Rs → wS → Prop} {x1 : Option Nat} {w : wS} (hL : 22 ≤ L) (h : zb_X8_branch_p0 E L Q x1 w) : kzE E L kt_M301 0 [(0, .ref (w_adr E.2.1 7 0)), (1, va_rf (x1))] [] w Q := by
  unfold zb_X8_branch_p0 at h
  refine kz_aload_n (M := kt_M301) kX8_branch_c0.1 rfl ?_
  refine kz_gfi (M := kt_M301) (c := 7) (o := 0) kX8_branch_c0.2.1 wf_X8_48 (.inl rfl) ?_
  refine kz_sti_n (M := kt_M301) [(0, .ref (w_adr E.2.1 7 0)), (1, va_rf (x1))] kX8_branch_c0.2.2.1 (Nat.le_of_ble_eq_true rfl) ⟨⟨rfl, rfl, .inl rfl⟩, ⟨⟨rfl, rfl, .inr (w_cat (x1))⟩, trivial⟩⟩ rfl ?_
  refine kz_aload_n (M := kt_M301) kX8_branch_c0.2.2.2.1 rfl ?_
  refine kz_aload_nv (M := kt_M301) (x := x1) kX8_branch_c0.2.2.2.2.1 rfl ?_
  refine kz_cv0 (M := kt_M301) (c := 7) (o := 0) (As := [va_rf (x1)]) (rest := []) kX8_branch_c0.2.2.2.2.2.1 wl_X8_119 wMv_321 rfl (.inl rfl) rfl (Nat.le_trans (Nat.le_of_ble_eq_true rfl) hL) (by simp [lg_sl, w_cat, z_ci, z_cr, z_cl, z_cn, kt_M321]) (Nat.le_of_ble_eq_true rfl) h (fun w1 hle h => ?_) (fun _ _ _ h => kzx_no rfl h)
  have h := h hle
  refine kz_iload_n (M := kt_M301) kX8_branch_c0.2.2.2.2.2.2.1 rfl ?_
  refine kz_sti_n (M := kt_M301) [(0, .ref (w_adr E.2.1 7 0)), (2, .int (w_i w 7 0 8))] kX8_branch_c0.2.2.2.2.2.2.2.1 (Nat.le_of_ble_eq_true rfl) ⟨⟨rfl, rfl, .inl rfl⟩, ⟨⟨rfl, rfl, .inr rfl⟩, trivial⟩⟩ rfl ?_
  refine kz_iload_n (M := kt_M301) kX8_branch_c1.1 rfl ?_
  refine kz_sti (M := kt_M301) [(0, .ref (w_adr E.2.1 7 0)), (3, .int (w_i w 7 0 8))] kX8_branch_c1.2.1 (Nat.le_of_ble_eq_true rfl) ⟨⟨rfl, rfl, .inl rfl⟩, ⟨⟨rfl, rfl, .inr rfl⟩, trivial⟩⟩ rfl ?_
  exact kz_weak [(0, .ref (w_adr E.2.1 7 0)), (3, .int (w_i w 7 0 8)), (4, .int (w_i w 7 0 8))] ⟨rfl, ⟨rfl, ⟨rfl, trivial⟩⟩⟩ rfl h
