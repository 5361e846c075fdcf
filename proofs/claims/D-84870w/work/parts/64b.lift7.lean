/-! ===== methods over the typed state (printed by tools/gen_lift.py) ===== -/
set_option maxRecDepth 100000
theorem zac_X7_225 {E : zE} : wAc (zV E) "MeetingHouse$Types" 225 := ⟨(show kt_get kt_mlA "MeetingHouse$Types" 225 = some arraycopyName from by decide +kernel), zac_n, zac_s, zac_i⟩
theorem zc_X7_208 {adE adK adV : Nat → Nat} {zr : Nat → Value} {b L0 : Nat} {xs : Nat → Int32} {lo : Nat} : kx_cL (kw_V adE adK adV zr b L0 xs lo) "MeetingHouse$Types" 208 = some 1000000 := by
  show kt_get kt_cLA "MeetingHouse$Types" 208 = _
  decide +kernel
theorem zc_X7_214 {adE adK adV : Nat → Nat} {zr : Nat → Value} {b L0 : Nat} {xs : Nat → Int32} {lo : Nat} : kx_cL (kw_V adE adK adV zr b L0 xs lo) "MeetingHouse$Types" 214 = some 1000 := by
  show kt_get kt_cLA "MeetingHouse$Types" 214 = _
  decide +kernel
theorem zs_X7_154 {E : zE} : ∃ r n d, kx_fl (zV E) "MeetingHouse$Types" 154 = some (r, n, d) ∧ kx_sv (zV E) r n d = some (va_rf (some (E.1.1 33))) := ⟨_, _, _, (show kt_get kt_flA "MeetingHouse$Types" 154 = some ("MeetingHouse$Kind", "PROC", "LMeetingHouse$Kind;") from by decide +kernel), kx_sv_E.trans (kw_sv_en zen_33)⟩
theorem zs_X7_183 {E : zE} : ∃ r n d, kx_fl (zV E) "MeetingHouse$Types" 183 = some (r, n, d) ∧ kx_sv (zV E) r n d = some (va_rf (some (E.1.1 44))) := ⟨_, _, _, (show kt_get kt_flA "MeetingHouse$Types" 183 = some ("MeetingHouse$Kind", "PAR", "LMeetingHouse$Kind;") from by decide +kernel), kx_sv_E.trans (kw_sv_en zen_44)⟩
theorem zs_X7_242 {E : zE} : ∃ r n d, kx_fl (zV E) "MeetingHouse$Types" 242 = some (r, n, d) ∧ kx_sv (zV E) r n d = some (va_rf (some (E.1.1 58))) := ⟨_, _, _, (show kt_get kt_flA "MeetingHouse$Types" 242 = some ("MeetingHouse$What", "TIMER", "LMeetingHouse$What;") from by decide +kernel), kx_sv_E.trans (kw_sv_en zen_58)⟩
theorem zs_X7_255 {E : zE} : ∃ r n d, kx_fl (zV E) "MeetingHouse$Types" 255 = some (r, n, d) ∧ kx_sv (zV E) r n d = some (va_rf (some (E.1.1 59))) := ⟨_, _, _, (show kt_get kt_flA "MeetingHouse$Types" 255 = some ("MeetingHouse$What", "TAG", "LMeetingHouse$What;") from by decide +kernel), kx_sv_E.trans (kw_sv_en zen_59)⟩
theorem wq_X7_199 {adE adK adV : Nat → Nat} {zr : Nat → Value} {b L0 : Nat} {xs : Nat → Int32} {lo : Nat} : wP (kw_V adE adK adV zr b L0 xs lo) wG "MeetingHouse$Types" 199 15 26 0 .boolean := wPb_ok (by decide +kernel) wf_X7_199 (r := "MeetingHouse$Symbol") (n := "fixed") (d := "Z") (by decide +kernel) (by decide +kernel)
theorem wq_X7_202 {adE adK adV : Nat → Nat} {zr : Nat → Value} {b L0 : Nat} {xs : Nat → Int32} {lo : Nat} : wP (kw_V adE adK adV zr b L0 xs lo) wG "MeetingHouse$Types" 202 15 22 0 .int := wPb_ok (by decide +kernel) wf_X7_202 (r := "MeetingHouse$Symbol") (n := "base") (d := "I") (by decide +kernel) (by decide +kernel)
theorem wq_X7_205 {adE adK adV : Nat → Nat} {zr : Nat → Value} {b L0 : Nat} {xs : Nat → Int32} {lo : Nat} : wP (kw_V adE adK adV zr b L0 xs lo) wG "MeetingHouse$Types" 205 15 23 0 .int := wPb_ok (by decide +kernel) wf_X7_205 (r := "MeetingHouse$Symbol") (n := "count") (d := "I") (by decide +kernel) (by decide +kernel)
theorem wq_X7_216 {adE adK adV : Nat → Nat} {zr : Nat → Value} {b L0 : Nat} {xs : Nat → Int32} {lo : Nat} : wP (kw_V adE adK adV zr b L0 xs lo) wG "MeetingHouse$Types" 216 15 24 0 .int := wPb_ok (by decide +kernel) wf_X7_216 (r := "MeetingHouse$Symbol") (n := "weight") (d := "I") (by decide +kernel) (by decide +kernel)
theorem wq_X7_218 {adE adK adV : Nat → Nat} {zr : Nat → Value} {b L0 : Nat} {xs : Nat → Int32} {lo : Nat} : wP (kw_V adE adK adV zr b L0 xs lo) wG "MeetingHouse$Types" 218 6 4 0 .int := wPb_ok (by decide +kernel) wf_X7_218 (r := "MeetingHouse$Types") (n := "optionMany") (d := "I") (by decide +kernel) (by decide +kernel)
theorem wq_X7_9 {adE adK adV : Nat → Nat} {zr : Nat → Value} {b L0 : Nat} {xs : Nat → Int32} {lo : Nat} : wP (kw_V adE adK adV zr b L0 xs lo) wG "MeetingHouse$Types" 9 6 1 3 (.array .int) := wPb_ok (by decide +kernel) wf_X7_9 (r := "MeetingHouse$Types") (n := "options") (d := "[I") (by decide +kernel) (by decide +kernel)
def zb_X7_abbreviation_p113 (E : zE) (L : Nat) (Q : kx_Rs → wS → Prop) (x2 : Option Nat) (x3 : Option Nat) (w : wS) : Prop := (∃ p1, x2 = some p1 ∧ w_l w E.2.1 14 p1 ∧ (∃ p2, x3 = some p2 ∧ w_l w E.2.1 15 p2 ∧ Q (.inl none) (ws_i w 15 p2 6 (w_i w 14 p1 18))))
theorem zt_X7_abbreviation_p113 {E : zE} {L : Nat} {Q : kx_Rs → wS → Prop} {x2 : Option Nat} {x3 : Option Nat} {w : wS} (hL : 22 ≤ L) (h : zb_X7_abbreviation_p113 E L Q x2 x3 w) : kzE E L kt_M254 113 [(0, .ref (w_adr E.2.1 6 0)), (2, va_rf (x2)), (3, va_rf (x3))] [] w Q := by
  unfold zb_X7_abbreviation_p113 at h
  refine kz_aload_nv (M := kt_M254) (x := x3) kX7_abbreviation_c6.2.2.2.2.2.1 rfl ?_
  refine kz_aload_nv (M := kt_M254) (x := x2) kX7_abbreviation_c6.2.2.2.2.2.2.1 rfl ?_
  obtain ⟨p1, hxp1, hlp1, h⟩ := h
  refine kz_nz0 (x := x2) hxp1 ?_
  refine kz_gfi (M := kt_M254) (c := 14) (o := p1) kX7_abbreviation_c6.2.2.2.2.2.2.2.1 wf_X7_133 (.inr (by exact hlp1)) ?_
  obtain ⟨p2, hxp2, hlp2, h⟩ := h
  refine kz_nz1 (x := x3) hxp2 ?_
  refine kz_pfi (M := kt_M254) (c := 15) (o := p2) kX7_abbreviation_c7.1 wq_X7_107 (.inr (by exact hlp2)) ?_
  exact kz_ret (M := kt_M254) kX7_abbreviation_c7.2.1 rfl h
def zb_X7_abbreviation_p89 (E : zE) (L : Nat) (Q : kx_Rs → wS → Prop) (x2 : Option Nat) (x3 : Option Nat) (w : wS) : Prop := (∃ p1, x2 = some p1 ∧ w_l w E.2.1 14 p1 ∧ (∃ p2, x3 = some p2 ∧ w_l w E.2.1 15 p2 ∧ (if w_i w 14 p1 20 = w_i w 15 p2 9 then zb_X7_abbreviation_p113 E L Q x2 x3 w else zw E (L - 22) kt_M56 [.ref (w_adr E.2.1 2 0), .int 7, .int (w_i w 14 p1 2)] w (wk0 (fun w3 => wle w w3 → zb_X7_abbreviation_p113 E L Q x2 x3 w3) (fun e w => Q (.inr e) w)))))
theorem zt_X7_abbreviation_p89 {E : zE} {L : Nat} {Q : kx_Rs → wS → Prop} {x2 : Option Nat} {x3 : Option Nat} {w : wS} (hL : 22 ≤ L) (h : zb_X7_abbreviation_p89 E L Q x2 x3 w) : kzE E L kt_M254 89 [(0, .ref (w_adr E.2.1 6 0)), (2, va_rf (x2)), (3, va_rf (x3))] [] w Q := by
  unfold zb_X7_abbreviation_p89 at h
  refine kz_aload_nv (M := kt_M254) (x := x2) kX7_abbreviation_c5.2.2.1 rfl ?_
  obtain ⟨p1, hxp1, hlp1, h⟩ := h
  refine kz_nz0 (x := x2) hxp1 ?_
  refine kz_gfi (M := kt_M254) (c := 14) (o := p1) kX7_abbreviation_c5.2.2.2.1 wf_X7_64 (.inr (by exact hlp1)) ?_
  refine kz_aload_nv (M := kt_M254) (x := x3) kX7_abbreviation_c5.2.2.2.2.1 rfl ?_
  obtain ⟨p2, hxp2, hlp2, h⟩ := h
  refine kz_nz0 (x := x3) hxp2 ?_
  refine kz_gfi (M := kt_M254) (c := 15) (o := p2) kX7_abbreviation_c5.2.2.2.2.2.1 wf_X7_135 (.inr (by exact hlp2)) ?_
  refine kz_icmp_eq (M := kt_M254) kX7_abbreviation_c5.2.2.2.2.2.2.1 (t := 113) rfl h (fun h => ?_) (fun h => ?_)
  · skip
    exact kz_weak [(0, .ref (w_adr E.2.1 6 0)), (2, va_rf (x2)), (3, va_rf (x3))] ⟨rfl, ⟨rfl, ⟨rfl, trivial⟩⟩⟩ rfl (zt_X7_abbreviation_p113 hL  h)
  · skip
    refine kz_aload_n (M := kt_M254) kX7_abbreviation_c5.2.2.2.2.2.2.2.1 rfl ?_
    refine kz_gfc (M := kt_M254) (x := 8) (c := 6) (o := 0) kX7_abbreviation_c6.1 wf_X7_15 (.inl rfl) ?_
    refine kz_bi (M := kt_M254) 7 kX7_abbreviation_c6.2.1 rfl ?_
    refine kz_aload_nv (M := kt_M254) (x := x2) kX7_abbreviation_c6.2.2.1 rfl ?_
    refine kz_nz0 (x := x2) hxp1 ?_
    refine kz_gfi (M := kt_M254) (c := 14) (o := p1) kX7_abbreviation_c6.2.2.2.1 wf_X7_52 (.inr (by exact hlp1)) ?_
    refine kz_cv0 (M := kt_M254) (c := 2) (o := 0) (As := [.int 7, .int (w_i w 14 p1 2)]) (rest := []) kX7_abbreviation_c6.2.2.2.2.1 wl_X7_55 wMv_56 rfl (.inl rfl) rfl (Nat.le_trans (Nat.le_of_ble_eq_true rfl) hL) (Nat.le_of_ble_eq_true rfl) (Nat.le_of_ble_eq_true rfl) h (fun w3 hle h => ?_) (fun _ _ _ h => kzx_no rfl h)
    have h := h hle
    have hlp1 := w_l_le hlp1 hle
    have hlp2 := w_l_le hlp2 hle
    exact kz_weak [(0, .ref (w_adr E.2.1 6 0)), (2, va_rf (x2)), (3, va_rf (x3))] ⟨rfl, ⟨rfl, ⟨rfl, trivial⟩⟩⟩ rfl (zt_X7_abbreviation_p113 hL  h)
def zb_X7_abbreviation_p73 (E : zE) (L : Nat) (Q : kx_Rs → wS → Prop) (x2 : Option Nat) (x3 : Option Nat) (w : wS) : Prop := (∃ p1, x2 = some p1 ∧ w_l w E.2.1 14 p1 ∧ zw E (L - 22) kt_M56 [.ref (w_adr E.2.1 2 0), .int 7, .int (w_i w 14 p1 2)] w (wk0 (fun w2 => wle w w2 → zb_X7_abbreviation_p113 E L Q x2 x3 w2) (fun e w => Q (.inr e) w)))
theorem zt_X7_abbreviation_p73 {E : zE} {L : Nat} {Q : kx_Rs → wS → Prop} {x2 : Option Nat} {x3 : Option Nat} {w : wS} (hL : 22 ≤ L) (h : zb_X7_abbreviation_p73 E L Q x2 x3 w) : kzE E L kt_M254 73 [(0, .ref (w_adr E.2.1 6 0)), (2, va_rf (x2)), (3, va_rf (x3))] [] w Q := by
  unfold zb_X7_abbreviation_p73 at h
  refine kz_aload_n (M := kt_M254) kX7_abbreviation_c4.2.2.2.1 rfl ?_
  refine kz_gfc (M := kt_M254) (x := 8) (c := 6) (o := 0) kX7_abbreviation_c4.2.2.2.2.1 wf_X7_15 (.inl rfl) ?_
  refine kz_bi (M := kt_M254) 7 kX7_abbreviation_c4.2.2.2.2.2.1 rfl ?_
  refine kz_aload_nv (M := kt_M254) (x := x2) kX7_abbreviation_c4.2.2.2.2.2.2.1 rfl ?_
  obtain ⟨p1, hxp1, hlp1, h⟩ := h
  refine kz_nz0 (x := x2) hxp1 ?_
  refine kz_gfi (M := kt_M254) (c := 14) (o := p1) kX7_abbreviation_c4.2.2.2.2.2.2.2.1 wf_X7_52 (.inr (by exact hlp1)) ?_
  refine kz_cv0 (M := kt_M254) (c := 2) (o := 0) (As := [.int 7, .int (w_i w 14 p1 2)]) (rest := []) kX7_abbreviation_c5.1 wl_X7_55 wMv_56 rfl (.inl rfl) rfl (Nat.le_trans (Nat.le_of_ble_eq_true rfl) hL) (Nat.le_of_ble_eq_true rfl) (Nat.le_of_ble_eq_true rfl) h (fun w2 hle h => ?_) (fun _ _ _ h => kzx_no rfl h)
  have h := h hle
  have hlp1 := w_l_le hlp1 hle
  refine kz_goto (M := kt_M254) kX7_abbreviation_c5.2.1 (t := 113) rfl ?_
  exact kz_weak [(0, .ref (w_adr E.2.1 6 0)), (2, va_rf (x2)), (3, va_rf (x3))] ⟨rfl, ⟨rfl, ⟨rfl, trivial⟩⟩⟩ rfl (zt_X7_abbreviation_p113 hL  h)
def zb_X7_abbreviation_p43 (E : zE) (L : Nat) (Q : kx_Rs → wS → Prop) (x1 : Option Nat) (x2 : Option Nat) (x3 : Option Nat) (x4 : Option Nat) (w : wS) : Prop := (∃ p1, x1 = some p1 ∧ w_l w E.2.1 14 p1 ∧ (if w_i w 14 p1 14 = 0 then (∃ p2, x2 = some p2 ∧ w_l w E.2.1 14 p2 ∧ (∃ p3, x3 = some p3 ∧ w_l w E.2.1 15 p3 ∧ (if w_i w 14 p2 17 = w_i w 15 p3 5 then zb_X7_abbreviation_p89 E L Q x2 x3 w else zb_X7_abbreviation_p73 E L Q x2 x3 w))) else zw E (L - 21) kt_M256 [va_rf (x3), va_rf (x4)] w (wk1 (fun v5 w4 => wle w w4 → (if ¬ v5 = 0 then zb_X7_abbreviation_p89 E L Q x2 x3 w4 else zb_X7_abbreviation_p73 E L Q x2 x3 w4)) (fun e w => Q (.inr e) w))))
theorem zt_X7_abbreviation_p43 {E : zE} {L : Nat} {Q : kx_Rs → wS → Prop} {x1 : Option Nat} {x2 : Option Nat} {x3 : Option Nat} {x4 : Option Nat} {w : wS} (hL : 22 ≤ L) (h : zb_X7_abbreviation_p43 E L Q x1 x2 x3 x4 w) : kzE E L kt_M254 43 [(0, .ref (w_adr E.2.1 6 0)), (1, va_rf (x1)), (2, va_rf (x2)), (3, va_rf (x3)), (4, va_rf (x4))] [] w Q := by
  unfold zb_X7_abbreviation_p43 at h
  refine kz_aload_nv (M := kt_M254) (x := x1) kX7_abbreviation_c2.2.2.2.2.2.2.1 rfl ?_
  obtain ⟨p1, hxp1, hlp1, h⟩ := h
  refine kz_nz0 (x := x1) hxp1 ?_
  refine kz_gfi (M := kt_M254) (c := 14) (o := p1) kX7_abbreviation_c2.2.2.2.2.2.2.2.1 wf_X7_144 (.inr (by exact hlp1)) ?_
  refine kz_if_eq (M := kt_M254) kX7_abbreviation_c3.1 (t := 62) rfl h (fun h => ?_) (fun h => ?_)
  · skip
    refine kz_aload_nv (M := kt_M254) (x := x2) kX7_abbreviation_c3.2.2.2.2.2.2.1 rfl ?_
    obtain ⟨p2, hxp2, hlp2, h⟩ := h
    refine kz_nz0 (x := x2) hxp2 ?_
    refine kz_gfi (M := kt_M254) (c := 14) (o := p2) kX7_abbreviation_c3.2.2.2.2.2.2.2.1 wf_X7_61 (.inr (by exact hlp2)) ?_
    refine kz_aload_nv (M := kt_M254) (x := x3) kX7_abbreviation_c4.1 rfl ?_
    obtain ⟨p3, hxp3, hlp3, h⟩ := h
    refine kz_nz0 (x := x3) hxp3 ?_
    refine kz_gfi (M := kt_M254) (c := 15) (o := p3) kX7_abbreviation_c4.2.1 wf_X7_134 (.inr (by exact hlp3)) ?_
    refine kz_icmp_eq (M := kt_M254) kX7_abbreviation_c4.2.2.1 (t := 89) rfl h (fun h => ?_) (fun h => ?_)
    · skip
      exact kz_weak [(0, .ref (w_adr E.2.1 6 0)), (2, va_rf (x2)), (3, va_rf (x3))] ⟨rfl, ⟨rfl, ⟨rfl, trivial⟩⟩⟩ rfl (zt_X7_abbreviation_p89 hL  h)
    · skip
      exact kz_weak [(0, .ref (w_adr E.2.1 6 0)), (2, va_rf (x2)), (3, va_rf (x3))] ⟨rfl, ⟨rfl, ⟨rfl, trivial⟩⟩⟩ rfl (zt_X7_abbreviation_p73 hL  h)
  · skip
    refine kz_aload_nv (M := kt_M254) (x := x3) kX7_abbreviation_c3.2.1 rfl ?_
    refine kz_aloadv (M := kt_M254) (x := x4) kX7_abbreviation_c3.2.2.1 rfl ?_
    refine kz_cs1 (M := kt_M254) (As := [va_rf (x3), va_rf (x4)]) (rest := []) kX7_abbreviation_c3.2.2.2.1 wl_X7_147 wMs_256 rfl (Nat.le_trans (Nat.le_of_ble_eq_true rfl) hL) (by simp [lg_sl, w_cat, z_ci, z_cr, z_cl, z_cn, kt_M256]) (Nat.le_of_ble_eq_true rfl) h (fun v5 w4 hle h => ?_) (fun _ _ _ h => kzx_no rfl h)
    have h := h hle
    have hlp1 := w_l_le hlp1 hle
    refine kz_if_ne (M := kt_M254) kX7_abbreviation_c3.2.2.2.2.1 (t := 89) rfl h (fun h => ?_) (fun h => ?_)
    · skip
      exact kz_weak [(0, .ref (w_adr E.2.1 6 0)), (2, va_rf (x2)), (3, va_rf (x3))] ⟨rfl, ⟨rfl, ⟨rfl, trivial⟩⟩⟩ rfl (zt_X7_abbreviation_p89 hL  h)
    · skip
      refine kz_goto (M := kt_M254) kX7_abbreviation_c3.2.2.2.2.2.1 (t := 73) rfl ?_
      exact kz_weak [(0, .ref (w_adr E.2.1 6 0)), (2, va_rf (x2)), (3, va_rf (x3))] ⟨rfl, ⟨rfl, ⟨rfl, trivial⟩⟩⟩ rfl (zt_X7_abbreviation_p73 hL  h)
def zb_X7_abbreviation_p42 (E : zE) (L : Nat) (Q : kx_Rs → wS → Prop) (w : wS) : Prop := Q (.inl none) w
theorem zt_X7_abbreviation_p42 {E : zE} {L : Nat} {Q : kx_Rs → wS → Prop} {w : wS} (hL : 22 ≤ L) (h : zb_X7_abbreviation_p42 E L Q  w) : kzE E L kt_M254 42 [(0, .ref (w_adr E.2.1 6 0))] [] w Q := by
  unfold zb_X7_abbreviation_p42 at h
  exact kz_ret (M := kt_M254) kX7_abbreviation_c2.2.2.2.2.2.1 rfl h
def zb_X7_abbreviation_p0 (E : zE) (L : Nat) (Q : kx_Rs → wS → Prop) (x1 : Option Nat) (w : wS) : Prop := (∃ p1, x1 = some p1 ∧ w_l w E.2.1 14 p1 ∧ zw E (L - 22) kt_M279 [.ref (w_adr E.2.1 6 0), va_rf (w_p w 14 p1 3)] w (wk0 (fun w2 => wle w w2 → (∃ p4, w_p w 14 p1 3 = some p4 ∧ w_l w2 E.2.1 14 p4 ∧ (if ¬ w_i w2 14 p4 11 = 0 then zb_X7_abbreviation_p42 E L Q w2 else (if ¬ w_i w2 14 p4 17 = 0 then zb_X7_abbreviation_p43 E L Q x1 (w_p w 14 p1 3) (w_p w 14 p1 16) (w_p w2 14 p4 16) w2 else (if ¬ w_i w2 14 p1 14 = 0 then zb_X7_abbreviation_p43 E L Q x1 (w_p w 14 p1 3) (w_p w 14 p1 16) (w_p w2 14 p4 16) w2 else zb_X7_abbreviation_p42 E L Q w2))))) (fun e w => Q (.inr e) w)))
theorem zt_X7_abbreviation_p0 {E : zE} {L : Nat} {Q : kx_Rs → wS → Prop} {x1 : Option Nat} {w : wS} (hL : 22 ≤ L) (h : zb_X7_abbreviation_p0 E L Q x1 w) : kzE E L kt_M254 0 [(0, .ref (w_adr E.2.1 6 0)), (1, va_rf (x1))] [] w Q := by
  unfold zb_X7_abbreviation_p0 at h
  refine kz_aload_nv (M := kt_M254) (x := x1) kX7_abbreviation_c0.1 rfl ?_
  obtain ⟨p1, hxp1, hlp1, h⟩ := h
  refine kz_nz0 (x := x1) hxp1 ?_
  refine kz_gfp (M := kt_M254) (c := 14) (o := p1) kX7_abbreviation_c0.2.1 wf_X7_34 (.inr (by exact hlp1)) ?_
  refine kz_stv_n (M := kt_M254) (x := w_p w 14 p1 3) [(0, .ref (w_adr E.2.1 6 0)), (1, va_rf (x1))] kX7_abbreviation_c0.2.2.1 (Nat.le_of_ble_eq_true rfl) ⟨⟨rfl, rfl, .inl rfl⟩, ⟨⟨rfl, rfl, .inr (w_cat (x1))⟩, trivial⟩⟩ rfl ?_
  refine kz_aload_nv (M := kt_M254) (x := x1) kX7_abbreviation_c0.2.2.2.1 rfl ?_
  refine kz_nz0 (x := x1) hxp1 ?_
  refine kz_gfp (M := kt_M254) (c := 14) (o := p1) kX7_abbreviation_c0.2.2.2.2.1 wf_X7_103 (.inr (by exact hlp1)) ?_
  refine kz_stv_n (M := kt_M254) (x := w_p w 14 p1 16) [(0, .ref (w_adr E.2.1 6 0)), (1, va_rf (x1)), (2, va_rf (w_p w 14 p1 3))] kX7_abbreviation_c0.2.2.2.2.2.1 (Nat.le_of_ble_eq_true rfl) ⟨⟨rfl, rfl, .inl rfl⟩, ⟨⟨rfl, rfl, .inl rfl⟩, ⟨⟨rfl, rfl, .inr (w_cat (w_p w 14 p1 3))⟩, trivial⟩⟩⟩ rfl ?_
  refine kz_aload_n (M := kt_M254) kX7_abbreviation_c0.2.2.2.2.2.2.1 rfl ?_
  refine kz_aload_nv (M := kt_M254) (x := w_p w 14 p1 3) kX7_abbreviation_c0.2.2.2.2.2.2.2.1 rfl ?_
  refine kz_cv0 (M := kt_M254) (c := 6) (o := 0) (As := [va_rf (w_p w 14 p1 3)]) (rest := []) kX7_abbreviation_c1.1 wl_X7_138 wMv_279 rfl (.inl rfl) rfl (Nat.le_trans (Nat.le_of_ble_eq_true rfl) hL) (by simp [lg_sl, w_cat, z_ci, z_cr, z_cl, z_cn, kt_M279]) (Nat.le_of_ble_eq_true rfl) h (fun w2 hle h => ?_) (fun _ _ _ h => kzx_no rfl h)
  have h := h hle
  have hlp1 := w_l_le hlp1 hle
  refine kz_aload_nv (M := kt_M254) (x := w_p w 14 p1 3) kX7_abbreviation_c1.2.1 rfl ?_
  obtain ⟨p4, hxp4, hlp4, h⟩ := h
  refine kz_nz0 (x := w_p w 14 p1 3) hxp4 ?_
  refine kz_gfp (M := kt_M254) (c := 14) (o := p4) kX7_abbreviation_c1.2.2.1 wf_X7_103 (.inr (by exact hlp4)) ?_
  refine kz_stv (M := kt_M254) (x := w_p w2 14 p4 16) [(0, .ref (w_adr E.2.1 6 0)), (1, va_rf (x1)), (2, va_rf (w_p w 14 p1 3)), (3, va_rf (w_p w 14 p1 16))] kX7_abbreviation_c1.2.2.2.1 (Nat.le_of_ble_eq_true rfl) ⟨⟨rfl, rfl, .inl rfl⟩, ⟨⟨rfl, rfl, .inl rfl⟩, ⟨⟨rfl, rfl, .inl rfl⟩, ⟨⟨rfl, rfl, .inr (w_cat (w_p w 14 p1 16))⟩, trivial⟩⟩⟩⟩ rfl ?_
  refine kz_aload_nv (M := kt_M254) (x := w_p w 14 p1 3) kX7_abbreviation_c1.2.2.2.2.1 rfl ?_
  refine kz_nz0 (x := w_p w 14 p1 3) hxp4 ?_
  refine kz_gfi (M := kt_M254) (c := 14) (o := p4) kX7_abbreviation_c1.2.2.2.2.2.1 wf_X7_141 (.inr (by exact hlp4)) ?_
  refine kz_if_ne (M := kt_M254) kX7_abbreviation_c1.2.2.2.2.2.2.1 (t := 42) rfl h (fun h => ?_) (fun h => ?_)
  · skip
    exact kz_weak [(0, .ref (w_adr E.2.1 6 0))] ⟨rfl, trivial⟩ rfl (zt_X7_abbreviation_p42 hL  h)
  · skip
    refine kz_aload_nv (M := kt_M254) (x := w_p w 14 p1 3) kX7_abbreviation_c1.2.2.2.2.2.2.2.1 rfl ?_
    refine kz_nz0 (x := w_p w 14 p1 3) hxp4 ?_
    refine kz_gfi (M := kt_M254) (c := 14) (o := p4) kX7_abbreviation_c2.1 wf_X7_61 (.inr (by exact hlp4)) ?_
    refine kz_if_ne (M := kt_M254) kX7_abbreviation_c2.2.1 (t := 43) rfl h (fun h => ?_) (fun h => ?_)
    · skip
      exact kz_weak [(0, .ref (w_adr E.2.1 6 0)), (1, va_rf (x1)), (2, va_rf (w_p w 14 p1 3)), (3, va_rf (w_p w 14 p1 16)), (4, va_rf (w_p w2 14 p4 16))] ⟨rfl, ⟨rfl, ⟨rfl, ⟨rfl, ⟨rfl, trivial⟩⟩⟩⟩⟩ rfl (zt_X7_abbreviation_p43 hL  h)
    · skip
      refine kz_aload_nv (M := kt_M254) (x := x1) kX7_abbreviation_c2.2.2.1 rfl ?_
      refine kz_nz0 (x := x1) hxp1 ?_
      refine kz_gfi (M := kt_M254) (c := 14) (o := p1) kX7_abbreviation_c2.2.2.2.1 wf_X7_144 (.inr (by exact hlp1)) ?_
      refine kz_if_ne (M := kt_M254) kX7_abbreviation_c2.2.2.2.2.1 (t := 43) rfl h (fun h => ?_) (fun h => ?_)
      · skip
        exact kz_weak [(0, .ref (w_adr E.2.1 6 0)), (1, va_rf (x1)), (2, va_rf (w_p w 14 p1 3)), (3, va_rf (w_p w 14 p1 16)), (4, va_rf (w_p w2 14 p4 16))] ⟨rfl, ⟨rfl, ⟨rfl, ⟨rfl, ⟨rfl, trivial⟩⟩⟩⟩⟩ rfl (zt_X7_abbreviation_p43 hL  h)
      · skip
        exact kz_weak [(0, .ref (w_adr E.2.1 6 0))] ⟨rfl, trivial⟩ rfl (zt_X7_abbreviation_p42 hL  h)
def zL_X7_parts_p6 (E : zE) (L : Nat) (Q : kx_Rs → wS → Prop) (x2 : Int32) (x4 : Int32) (x5 : Option Nat) (w : wS) : Prop := kzE E L kt_M278 6 [(0, .ref (w_adr E.2.1 6 0)), (2, .int x2), (4, .int x4), (5, va_rf (x5))] [] w Q
def zb_X7_parts_p119 (E : zE) (L : Nat) (Q : kx_Rs → wS → Prop) (w : wS) : Prop := Q (.inl none) w
theorem zt_X7_parts_p119 {E : zE} {L : Nat} {Q : kx_Rs → wS → Prop} {w : wS} (hL : 24 ≤ L) (h : zb_X7_parts_p119 E L Q  w) : kzE E L kt_M278 119 [(0, .ref (w_adr E.2.1 6 0))] [] w Q := by
  unfold zb_X7_parts_p119 at h
  exact kz_ret (M := kt_M278) kX7_parts_c6.2.2.2.2.2.1 rfl h
def zb_X7_parts_p88 (E : zE) (L : Nat) (Q : kx_Rs → wS → Prop) (x2 : Int32) (x5 : Option Nat) (y0 : Int32) (y1 : Int32) (w : wS) : Prop := (∃ p1, x5 = some p1 ∧ w_l w E.2.1 14 p1 ∧ zL_X7_parts_p6 E L Q x2 (y1 + y0) (w_p w 14 p1 7) w)
theorem zt_X7_parts_p88 {E : zE} {L : Nat} {Q : kx_Rs → wS → Prop} {x2 : Int32} {x5 : Option Nat} {y0 : Int32} {y1 : Int32} {w : wS} (hL : 24 ≤ L) (h : zb_X7_parts_p88 E L Q x2 x5 y0 y1 w) : kzE E L kt_M278 88 [(0, .ref (w_adr E.2.1 6 0)), (2, .int x2), (5, va_rf (x5))] [.int y0, .int y1] w Q := by
  unfold zb_X7_parts_p88 at h
  refine kz_iadd (M := kt_M278) kX7_parts_c4.2.2.2.2.2.2.2.1 ?_
  refine kz_sti (M := kt_M278) [(0, .ref (w_adr E.2.1 6 0)), (2, .int x2), (5, va_rf (x5))] kX7_parts_c5.1 (Nat.le_of_ble_eq_true rfl) ⟨⟨rfl, rfl, .inl rfl⟩, ⟨⟨rfl, rfl, .inl rfl⟩, ⟨⟨rfl, rfl, .inl rfl⟩, trivial⟩⟩⟩ rfl ?_
  refine kz_aloadv (M := kt_M278) (x := x5) kX7_parts_c5.2.1 rfl ?_
  obtain ⟨p1, hxp1, hlp1, h⟩ := h
  refine kz_nz0 (x := x5) hxp1 ?_
  refine kz_gfp (M := kt_M278) (c := 14) (o := p1) kX7_parts_c5.2.2.1 wf_X7_43 (.inr (by exact hlp1)) ?_
  refine kz_stv (M := kt_M278) (x := w_p w 14 p1 7) [(0, .ref (w_adr E.2.1 6 0)), (2, .int x2), (4, .int (y1 + y0))] kX7_parts_c5.2.2.2.1 (Nat.le_of_ble_eq_true rfl) ⟨⟨rfl, rfl, .inl rfl⟩, ⟨⟨rfl, rfl, .inl rfl⟩, ⟨⟨rfl, rfl, .inr rfl⟩, trivial⟩⟩⟩ rfl ?_
  refine kz_goto (M := kt_M278) kX7_parts_c5.2.2.2.2.1 (t := 6) rfl ?_
  exact kz_weak [(0, .ref (w_adr E.2.1 6 0)), (2, .int x2), (4, .int (y1 + y0)), (5, va_rf (w_p w 14 p1 7))] ⟨rfl, ⟨rfl, ⟨rfl, ⟨rfl, trivial⟩⟩⟩⟩ rfl h
def zb_X7_parts_p62 (E : zE) (L : Nat) (Q : kx_Rs → wS → Prop) (x2 : Int32) (x4 : Int32) (x5 : Option Nat) (y0 : Int32) (y1 : Option Nat) (w : wS) : Prop := (∃ p1, y1 = some p1 ∧ w_l w E.2.1 14 p1 ∧ (∃ p2, x5 = some p2 ∧ w_l (ws_i w 14 p1 18 y0) E.2.1 14 p2 ∧ (if ¬ (w_p w 14 p2 3) = none then zb_X7_parts_p88 E L Q x2 x5 (if (w_i (ws_i w 14 p1 18 y0) 14 p2 18) < 0 then 0 else (w_i (ws_i w 14 p1 18 y0) 14 p2 18)) x4 (ws_i w 14 p1 18 y0) else zb_X7_parts_p88 E L Q x2 x5 1 x4 (ws_i w 14 p1 18 y0))))
theorem zt_X7_parts_p62 {E : zE} {L : Nat} {Q : kx_Rs → wS → Prop} {x2 : Int32} {x4 : Int32} {x5 : Option Nat} {y0 : Int32} {y1 : Option Nat} {w : wS} (hL : 24 ≤ L) (h : zb_X7_parts_p62 E L Q x2 x4 x5 y0 y1 w) : kzE E L kt_M278 62 [(0, .ref (w_adr E.2.1 6 0)), (2, .int x2), (4, .int x4), (5, va_rf (x5))] [.int y0, va_rf (y1)] w Q := by
  unfold zb_X7_parts_p62 at h
  obtain ⟨p1, hxp1, hlp1, h⟩ := h
  refine kz_nz1 (x := y1) hxp1 ?_
  refine kz_pfi (M := kt_M278) (c := 14) (o := p1) kX7_parts_c3.2.2.2.2.1 wq_X7_133 (.inr (by exact hlp1)) ?_
  refine kz_iload (M := kt_M278) kX7_parts_c3.2.2.2.2.2.1 rfl ?_
  refine kz_aloadv (M := kt_M278) (x := x5) kX7_parts_c3.2.2.2.2.2.2.1 rfl ?_
  obtain ⟨p2, hxp2, hlp2, h⟩ := h
  refine kz_nz0 (x := x5) hxp2 ?_
  refine kz_gfpR (M := kt_M278) (c := 14) (o := p2) (w_p w 14 p2 3) kX7_parts_c3.2.2.2.2.2.2.2.1 wf_X7_34 (.inr (by exact hlp2)) rd_p_i ?_
  refine kz_ifnonnull (M := kt_M278) (x := w_p w 14 p2 3) kX7_parts_c4.1 (t := 79) rfl h (fun h => ?_) (fun h => ?_)
  · skip
    refine kz_aloadv (M := kt_M278) (x := x5) kX7_parts_c4.2.2.2.1 rfl ?_
    refine kz_nz0 (x := x5) hxp2 ?_
    refine kz_gfiR (M := kt_M278) (c := 14) (o := p2) (w_i (ws_i w 14 p1 18 y0) 14 p2 18) kX7_parts_c4.2.2.2.2.1 wf_X7_133 (.inr (by exact hlp2)) rfl ?_
    refine kz_ic (M := kt_M278) 0 kX7_parts_c4.2.2.2.2.2.1 rfl ?_
    refine kz_mmax (M := kt_M278) kX7_parts_c4.2.2.2.2.2.2.1 zm_l_X7_112 zm_s_max zm_i zm_c_max (Nat.le_trans (Nat.le_of_ble_eq_true rfl) hL) (Nat.le_of_ble_eq_true rfl) ?_
    exact kz_weak [(0, .ref (w_adr E.2.1 6 0)), (2, .int x2), (5, va_rf (x5))] ⟨rfl, ⟨rfl, ⟨rfl, trivial⟩⟩⟩ rfl (zt_X7_parts_p88 hL  h)
  · skip
    refine kz_ic (M := kt_M278) 1 kX7_parts_c4.2.1 rfl ?_
    refine kz_goto (M := kt_M278) kX7_parts_c4.2.2.1 (t := 88) rfl ?_
    exact kz_weak [(0, .ref (w_adr E.2.1 6 0)), (2, .int x2), (5, va_rf (x5))] ⟨rfl, ⟨rfl, ⟨rfl, trivial⟩⟩⟩ rfl (zt_X7_parts_p88 hL  h)
def zb_X7_parts_p26 (E : zE) (L : Nat) (Q : kx_Rs → wS → Prop) (x2 : Int32) (x4 : Int32) (x5 : Option Nat) (y0 : Int32) (y1 : Option Nat) (w : wS) : Prop := (∃ p1, y1 = some p1 ∧ w_l w E.2.1 14 p1 ∧ ((y0 = 0 ∨ y0 = 1) ∧ (∃ p2, x5 = some p2 ∧ w_l (ws_i w 14 p1 20 y0) E.2.1 14 p2 ∧ (if ¬ (w_p w 14 p2 3) = none then zw E (L - 21) kt_M284 [.ref (w_adr E.2.1 6 0), va_rf (w_p w 14 p2 3)] (ws_i (ws_i w 14 p1 20 y0) 14 p2 17 (w_i w 14 p2 8)) (wk1 (fun v4 w3 => wle (ws_i (ws_i w 14 p1 20 y0) 14 p2 17 (w_i w 14 p2 8)) w3 → zb_X7_parts_p62 E L Q x2 x4 x5 v4 x5 w3) (fun e w => Q (.inr e) w)) else zb_X7_parts_p62 E L Q x2 x4 x5 (-1) x5 (ws_i (ws_i w 14 p1 20 y0) 14 p2 17 (w_i w 14 p2 8))))))
theorem zt_X7_parts_p26 {E : zE} {L : Nat} {Q : kx_Rs → wS → Prop} {x2 : Int32} {x4 : Int32} {x5 : Option Nat} {y0 : Int32} {y1 : Option Nat} {w : wS} (hL : 24 ≤ L) (h : zb_X7_parts_p26 E L Q x2 x4 x5 y0 y1 w) : kzE E L kt_M278 26 [(0, .ref (w_adr E.2.1 6 0)), (2, .int x2), (4, .int x4), (5, va_rf (x5))] [.int y0, va_rf (y1)] w Q := by
  unfold zb_X7_parts_p26 at h
  obtain ⟨p1, hxp1, hlp1, h⟩ := h
  refine kz_nz1 (x := y1) hxp1 ?_
  obtain ⟨h0, h⟩ := h
  refine kz_pfz (M := kt_M278) (c := 14) (o := p1) kX7_parts_c1.2.2.2.2.2.1 wq_X7_64 (.inr (by exact hlp1)) h0 ?_
  refine kz_aloadv (M := kt_M278) (x := x5) kX7_parts_c1.2.2.2.2.2.2.1 rfl ?_
  refine kz_aloadv (M := kt_M278) (x := x5) kX7_parts_c1.2.2.2.2.2.2.2.1 rfl ?_
  obtain ⟨p2, hxp2, hlp2, h⟩ := h
  refine kz_nz0 (x := x5) hxp2 ?_
  refine kz_gfiR (M := kt_M278) (c := 14) (o := p2) (w_i w 14 p2 8) kX7_parts_c2.1 wf_X7_130 (.inr (by exact hlp2)) (rd_i_i rfl) ?_
  refine kz_nz1 (x := x5) hxp2 ?_
  refine kz_pfi (M := kt_M278) (c := 14) (o := p2) kX7_parts_c2.2.1 wq_X7_61 (.inr (by exact hlp2)) ?_
  refine kz_aloadv (M := kt_M278) (x := x5) kX7_parts_c2.2.2.1 rfl ?_
  refine kz_aloadv (M := kt_M278) (x := x5) kX7_parts_c2.2.2.2.1 rfl ?_
  refine kz_nz0 (x := x5) hxp2 ?_
  refine kz_gfpR (M := kt_M278) (c := 14) (o := p2) (w_p w 14 p2 3) kX7_parts_c2.2.2.2.2.1 wf_X7_34 (.inr (by exact hlp2)) (rd_p_i.trans rd_p_i) ?_
  refine kz_ifnonnull (M := kt_M278) (x := w_p w 14 p2 3) kX7_parts_c2.2.2.2.2.2.1 (t := 53) rfl h (fun h => ?_) (fun h => ?_)
  · skip
    refine kz_aload_n (M := kt_M278) kX7_parts_c3.1 rfl ?_
    refine kz_aloadv (M := kt_M278) (x := x5) kX7_parts_c3.2.1 rfl ?_
    refine kz_nz0 (x := x5) hxp2 ?_
    refine kz_gfpR (M := kt_M278) (c := 14) (o := p2) (w_p w 14 p2 3) kX7_parts_c3.2.2.1 wf_X7_34 (.inr (by exact hlp2)) (rd_p_i.trans rd_p_i) ?_
    refine kz_cv1 (M := kt_M278) (c := 6) (o := 0) (As := [va_rf (w_p w 14 p2 3)]) (rest := [va_rf (x5)]) kX7_parts_c3.2.2.2.1 wl_X7_99 wMv_284 rfl (.inl rfl) rfl (Nat.le_trans (Nat.le_of_ble_eq_true rfl) hL) (by simp [lg_sl, w_cat, z_ci, z_cr, z_cl, z_cn, kt_M284]) (by simp [kx_cat, w_cat, z_ci, z_cr, z_cl, z_cn]) h (fun v4 w3 hle h => ?_) (fun _ _ _ h => kzx_no rfl h)
    have h := h hle
    have hlp1 := w_l_le hlp1 hle
    have hlp2 := w_l_le hlp2 hle
    exact kz_weak [(0, .ref (w_adr E.2.1 6 0)), (2, .int x2), (4, .int x4), (5, va_rf (x5))] ⟨rfl, ⟨rfl, ⟨rfl, ⟨rfl, trivial⟩⟩⟩⟩ rfl (zt_X7_parts_p62 hL  h)
  · skip
    refine kz_ic (M := kt_M278) (-1) kX7_parts_c2.2.2.2.2.2.2.1 rfl ?_
    refine kz_goto (M := kt_M278) kX7_parts_c2.2.2.2.2.2.2.2.1 (t := 62) rfl ?_
    exact kz_weak [(0, .ref (w_adr E.2.1 6 0)), (2, .int x2), (4, .int x4), (5, va_rf (x5))] ⟨rfl, ⟨rfl, ⟨rfl, ⟨rfl, trivial⟩⟩⟩⟩ rfl (zt_X7_parts_p62 hL  h)
def zb_X7_parts_p6 (E : zE) (L : Nat) (Q : kx_Rs → wS → Prop) (x2 : Int32) (x4 : Int32) (x5 : Option Nat) (w : wS) : Prop := (if x5 = none then (if x4 ≤ 1000 then zb_X7_parts_p119 E L Q w else zw E (L - 22) kt_M56 [.ref (w_adr E.2.1 2 0), .int 9, .int x2] w (wk0 (fun w1 => wle w w1 → zb_X7_parts_p119 E L Q w1) (fun e w => Q (.inr e) w))) else (∃ p3, x5 = some p3 ∧ w_l w E.2.1 14 p3 ∧ (if (w_p w 14 p3 3) = none then zb_X7_parts_p26 E L Q x2 x4 x5 0 x5 w else zb_X7_parts_p26 E L Q x2 x4 x5 1 x5 w)))
theorem zt_X7_parts_p6 {E : zE} {L : Nat} {Q : kx_Rs → wS → Prop} {x2 : Int32} {x4 : Int32} {x5 : Option Nat} {w : wS} (hL : 24 ≤ L) (h : zb_X7_parts_p6 E L Q x2 x4 x5 w) : kzE E L kt_M278 6 [(0, .ref (w_adr E.2.1 6 0)), (2, .int x2), (4, .int x4), (5, va_rf (x5))] [] w Q := by
  unfold zb_X7_parts_p6 at h
  refine kz_aloadv (M := kt_M278) (x := x5) kX7_parts_c0.2.2.2.2.1 rfl ?_
  refine kz_ifnull (M := kt_M278) (x := x5) kX7_parts_c0.2.2.2.2.2.1 (t := 101) rfl h (fun h => ?_) (fun h => ?_)
  · skip
    refine kz_iload (M := kt_M278) kX7_parts_c5.2.2.2.2.2.1 rfl ?_
    refine kz_si (M := kt_M278) 1000 kX7_parts_c5.2.2.2.2.2.2.1 rfl ?_
    refine kz_icmp_le (M := kt_M278) kX7_parts_c5.2.2.2.2.2.2.2.1 (t := 119) rfl h (fun h => ?_) (fun h => ?_)
    · skip
      exact kz_weak [(0, .ref (w_adr E.2.1 6 0))] ⟨rfl, trivial⟩ rfl (zt_X7_parts_p119 hL  h)
    · skip
      refine kz_aload_n (M := kt_M278) kX7_parts_c6.1 rfl ?_
      refine kz_gfc (M := kt_M278) (x := 8) (c := 6) (o := 0) kX7_parts_c6.2.1 wf_X7_15 (.inl rfl) ?_
      refine kz_bi (M := kt_M278) 9 kX7_parts_c6.2.2.1 rfl ?_
      refine kz_iload_n (M := kt_M278) kX7_parts_c6.2.2.2.1 rfl ?_
      refine kz_cv0 (M := kt_M278) (c := 2) (o := 0) (As := [.int 9, .int x2]) (rest := []) kX7_parts_c6.2.2.2.2.1 wl_X7_55 wMv_56 rfl (.inl rfl) rfl (Nat.le_trans (Nat.le_of_ble_eq_true rfl) hL) (Nat.le_of_ble_eq_true rfl) (Nat.le_of_ble_eq_true rfl) h (fun w1 hle h => ?_) (fun _ _ _ h => kzx_no rfl h)
      have h := h hle
      exact kz_weak [(0, .ref (w_adr E.2.1 6 0))] ⟨rfl, trivial⟩ rfl (zt_X7_parts_p119 hL  h)
  · skip
    refine kz_aloadv (M := kt_M278) (x := x5) kX7_parts_c0.2.2.2.2.2.2.1 rfl ?_
    refine kz_aloadv (M := kt_M278) (x := x5) kX7_parts_c0.2.2.2.2.2.2.2.1 rfl ?_
    obtain ⟨p3, hxp3, hlp3, h⟩ := h
    refine kz_nz0 (x := x5) hxp3 ?_
    refine kz_gfp (M := kt_M278) (c := 14) (o := p3) kX7_parts_c1.1 wf_X7_34 (.inr (by exact hlp3)) ?_
    refine kz_ifnull (M := kt_M278) (x := w_p w 14 p3 3) kX7_parts_c1.2.1 (t := 25) rfl h (fun h => ?_) (fun h => ?_)
    · skip
      refine kz_ic (M := kt_M278) 0 kX7_parts_c1.2.2.2.2.1 rfl ?_
      exact kz_weak [(0, .ref (w_adr E.2.1 6 0)), (2, .int x2), (4, .int x4), (5, va_rf (x5))] ⟨rfl, ⟨rfl, ⟨rfl, ⟨rfl, trivial⟩⟩⟩⟩ rfl (zt_X7_parts_p26 hL  h)
    · skip
      refine kz_ic (M := kt_M278) 1 kX7_parts_c1.2.2.1 rfl ?_
      refine kz_goto (M := kt_M278) kX7_parts_c1.2.2.2.1 (t := 26) rfl ?_
      exact kz_weak [(0, .ref (w_adr E.2.1 6 0)), (2, .int x2), (4, .int x4), (5, va_rf (x5))] ⟨rfl, ⟨rfl, ⟨rfl, ⟨rfl, trivial⟩⟩⟩⟩ rfl (zt_X7_parts_p26 hL  h)
def zb_X7_parts_p0 (E : zE) (L : Nat) (Q : kx_Rs → wS → Prop) (x1 : Option Nat) (x2 : Int32) (x3 : Int32) (w : wS) : Prop := zL_X7_parts_p6 E L Q x2 x3 x1 w
theorem zt_X7_parts_p0 {E : zE} {L : Nat} {Q : kx_Rs → wS → Prop} {x1 : Option Nat} {x2 : Int32} {x3 : Int32} {w : wS} (hL : 24 ≤ L) (h : zb_X7_parts_p0 E L Q x1 x2 x3 w) : kzE E L kt_M278 0 [(0, .ref (w_adr E.2.1 6 0)), (1, va_rf (x1)), (2, .int x2), (3, .int x3)] [] w Q := by
  unfold zb_X7_parts_p0 at h
  refine kz_iload_n (M := kt_M278) kX7_parts_c0.1 rfl ?_
  refine kz_sti (M := kt_M278) [(0, .ref (w_adr E.2.1 6 0)), (1, va_rf (x1)), (2, .int x2)] kX7_parts_c0.2.1 (Nat.le_of_ble_eq_true rfl) ⟨⟨rfl, rfl, .inl rfl⟩, ⟨⟨rfl, rfl, .inl rfl⟩, ⟨⟨rfl, rfl, .inl rfl⟩, trivial⟩⟩⟩ rfl ?_
  refine kz_aload_nv (M := kt_M278) (x := x1) kX7_parts_c0.2.2.1 rfl ?_
  refine kz_stv (M := kt_M278) (x := x1) [(0, .ref (w_adr E.2.1 6 0)), (2, .int x2), (4, .int x3)] kX7_parts_c0.2.2.2.1 (Nat.le_of_ble_eq_true rfl) ⟨⟨rfl, rfl, .inl rfl⟩, ⟨⟨rfl, rfl, .inl rfl⟩, ⟨⟨rfl, rfl, .inr rfl⟩, trivial⟩⟩⟩ rfl ?_
  exact kz_weak [(0, .ref (w_adr E.2.1 6 0)), (2, .int x2), (4, .int x3), (5, va_rf (x1))] ⟨rfl, ⟨rfl, ⟨rfl, ⟨rfl, trivial⟩⟩⟩⟩ rfl h
def zL_X7_routine_p45 (E : zE) (L : Nat) (Q : kx_Rs → wS → Prop) (x1 : Option Nat) (x2 : Option Nat) (w : wS) : Prop := kzE E L kt_M283 45 [(0, .ref (w_adr E.2.1 6 0)), (1, va_rf (x1)), (2, va_rf (x2))] [] w Q
def zb_X7_routine_p79 (E : zE) (L : Nat) (Q : kx_Rs → wS → Prop) (w : wS) : Prop := Q (.inl none) w
theorem zt_X7_routine_p79 {E : zE} {L : Nat} {Q : kx_Rs → wS → Prop} {w : wS} (hL : 23 ≤ L) (h : zb_X7_routine_p79 E L Q  w) : kzE E L kt_M283 79 [(0, .ref (w_adr E.2.1 6 0))] [] w Q := by
  unfold zb_X7_routine_p79 at h
  exact kz_ret (M := kt_M283) kX7_routine_c4.2.2.2.2.2.2.2.1 rfl h
def zb_X7_routine_p45 (E : zE) (L : Nat) (Q : kx_Rs → wS → Prop) (x1 : Option Nat) (x2 : Option Nat) (w : wS) : Prop := (if x2 = none then (∃ p1, x1 = some p1 ∧ w_l w E.2.1 14 p1 ∧ zw E (L - 22) kt_M280 [.ref (w_adr E.2.1 6 0), va_rf (w_p w 14 p1 4)] w (wk0 (fun w2 => wle w w2 → zw E (L - 22) kt_M282 [.ref (w_adr E.2.1 6 0), va_rf (x1), va_rf (w_p w2 14 p1 6)] w2 (wk0 (fun w4 => wle w2 w4 → zb_X7_routine_p79 E L Q w4) (fun e w => Q (.inr e) w))) (fun e w => Q (.inr e) w))) else zw E (L - 23) kt_M264 [.ref (w_adr E.2.1 6 0), va_rf (x2)] w (wk0 (fun w6 => wle w w6 → (∃ p8, x2 = some p8 ∧ w_l w6 E.2.1 14 p8 ∧ zL_X7_routine_p45 E L Q x1 (w_p w6 14 p8 7) w6)) (fun e w => Q (.inr e) w)))
theorem zt_X7_routine_p45 {E : zE} {L : Nat} {Q : kx_Rs → wS → Prop} {x1 : Option Nat} {x2 : Option Nat} {w : wS} (hL : 23 ≤ L) (h : zb_X7_routine_p45 E L Q x1 x2 w) : kzE E L kt_M283 45 [(0, .ref (w_adr E.2.1 6 0)), (1, va_rf (x1)), (2, va_rf (x2))] [] w Q := by
  unfold zb_X7_routine_p45 at h
  refine kz_aload_nv (M := kt_M283) (x := x2) kX7_routine_c2.2.2.2.2.2.1 rfl ?_
  refine kz_ifnull (M := kt_M283) (x := x2) kX7_routine_c2.2.2.2.2.2.2.1 (t := 62) rfl h (fun h => ?_) (fun h => ?_)
  · skip
    refine kz_aload_n (M := kt_M283) kX7_routine_c3.2.2.2.2.2.2.1 rfl ?_
    refine kz_aload_nv (M := kt_M283) (x := x1) kX7_routine_c3.2.2.2.2.2.2.2.1 rfl ?_
    obtain ⟨p1, hxp1, hlp1, h⟩ := h
    refine kz_nz0 (x := x1) hxp1 ?_
    refine kz_gfp (M := kt_M283) (c := 14) (o := p1) kX7_routine_c4.1 wf_X7_46 (.inr (by exact hlp1)) ?_
    refine kz_cv0 (M := kt_M283) (c := 6) (o := 0) (As := [va_rf (w_p w 14 p1 4)]) (rest := []) kX7_routine_c4.2.1 wl_X7_30 wMv_280 rfl (.inl rfl) rfl (Nat.le_trans (Nat.le_of_ble_eq_true rfl) hL) (by simp [lg_sl, w_cat, z_ci, z_cr, z_cl, z_cn, kt_M280]) (Nat.le_of_ble_eq_true rfl) h (fun w2 hle h => ?_) (fun _ _ _ h => kzx_no rfl h)
    have h := h hle
    have hlp1 := w_l_le hlp1 hle
    refine kz_aload_n (M := kt_M283) kX7_routine_c4.2.2.1 rfl ?_
    refine kz_aload_nv (M := kt_M283) (x := x1) kX7_routine_c4.2.2.2.1 rfl ?_
    refine kz_aload_nv (M := kt_M283) (x := x1) kX7_routine_c4.2.2.2.2.1 rfl ?_
    refine kz_nz0 (x := x1) hxp1 ?_
    refine kz_gfp (M := kt_M283) (c := 14) (o := p1) kX7_routine_c4.2.2.2.2.2.1 wf_X7_164 (.inr (by exact hlp1)) ?_
    refine kz_cv0 (M := kt_M283) (c := 6) (o := 0) (As := [va_rf (x1), va_rf (w_p w2 14 p1 6)]) (rest := []) kX7_routine_c4.2.2.2.2.2.2.1 wl_X7_157 wMv_282 rfl (.inl rfl) rfl (Nat.le_trans (Nat.le_of_ble_eq_true rfl) hL) (by simp [lg_sl, w_cat, z_ci, z_cr, z_cl, z_cn, kt_M282]) (Nat.le_of_ble_eq_true rfl) h (fun w4 hle h => ?_) (fun _ _ _ h => kzx_no rfl h)
    have h := h hle
    have hlp1 := w_l_le hlp1 hle
    exact kz_weak [(0, .ref (w_adr E.2.1 6 0))] ⟨rfl, trivial⟩ rfl (zt_X7_routine_p79 hL  h)
  · skip
    refine kz_aload_n (M := kt_M283) kX7_routine_c2.2.2.2.2.2.2.2.1 rfl ?_
    refine kz_aload_nv (M := kt_M283) (x := x2) kX7_routine_c3.1 rfl ?_
    refine kz_cv0 (M := kt_M283) (c := 6) (o := 0) (As := [va_rf (x2)]) (rest := []) kX7_routine_c3.2.1 wl_X7_40 wMv_264 rfl (.inl rfl) rfl (Nat.le_trans (Nat.le_of_ble_eq_true rfl) hL) (by simp [lg_sl, w_cat, z_ci, z_cr, z_cl, z_cn, kt_M264]) (Nat.le_of_ble_eq_true rfl) h (fun w6 hle h => ?_) (fun _ _ _ h => kzx_no rfl h)
    have h := h hle
    refine kz_aload_nv (M := kt_M283) (x := x2) kX7_routine_c3.2.2.1 rfl ?_
    obtain ⟨p8, hxp8, hlp8, h⟩ := h
    refine kz_nz0 (x := x2) hxp8 ?_
    refine kz_gfp (M := kt_M283) (c := 14) (o := p8) kX7_routine_c3.2.2.2.1 wf_X7_43 (.inr (by exact hlp8)) ?_
    refine kz_stv_n (M := kt_M283) (x := w_p w6 14 p8 7) [(0, .ref (w_adr E.2.1 6 0)), (1, va_rf (x1))] kX7_routine_c3.2.2.2.2.1 (Nat.le_of_ble_eq_true rfl) ⟨⟨rfl, rfl, .inl rfl⟩, ⟨⟨rfl, rfl, .inr (w_cat (x1))⟩, trivial⟩⟩ rfl ?_
    refine kz_goto (M := kt_M283) kX7_routine_c3.2.2.2.2.2.1 (t := 45) rfl ?_
    exact kz_weak [(0, .ref (w_adr E.2.1 6 0)), (1, va_rf (x1)), (2, va_rf (w_p w6 14 p8 7))] ⟨rfl, ⟨rfl, ⟨rfl, trivial⟩⟩⟩ rfl h
def zb_X7_routine_p0 (E : zE) (L : Nat) (Q : kx_Rs → wS → Prop) (x1 : Option Nat) (w : wS) : Prop := (∃ p1, x1 = some p1 ∧ w_l w E.2.1 14 p1 ∧ (if ¬ w_p w 14 p1 0 = some (E.1.1 33) then (if w_i w 14 p1 11 = 0 then zL_X7_routine_p45 E L Q x1 (w_p w 14 p1 5) w else zw E (L - 22) kt_M282 [.ref (w_adr E.2.1 6 0), va_rf (x1), va_rf (w_p w 14 p1 4)] w (wk0 (fun w2 => wle w w2 → zb_X7_routine_p79 E L Q w2) (fun e w => Q (.inr e) w))) else zw E (L - 22) kt_M280 [.ref (w_adr E.2.1 6 0), va_rf (w_p w 14 p1 4)] w (wk0 (fun w4 => wle w w4 → zb_X7_routine_p79 E L Q w4) (fun e w => Q (.inr e) w))))
theorem zt_X7_routine_p0 {E : zE} {L : Nat} {Q : kx_Rs → wS → Prop} {x1 : Option Nat} {w : wS} (hL : 23 ≤ L) (h : zb_X7_routine_p0 E L Q x1 w) : kzE E L kt_M283 0 [(0, .ref (w_adr E.2.1 6 0)), (1, va_rf (x1))] [] w Q := by
  unfold zb_X7_routine_p0 at h
  refine kz_aload_nv (M := kt_M283) (x := x1) kX7_routine_c0.1 rfl ?_
  obtain ⟨p1, hxp1, hlp1, h⟩ := h
  refine kz_nz0 (x := x1) hxp1 ?_
  refine kz_gfp (M := kt_M283) (c := 14) (o := p1) kX7_routine_c0.2.1 wf_X7_77 (.inr (by exact hlp1)) ?_
  refine kz_getsE (M := kt_M283) (v := va_rf (some (E.1.1 33))) kX7_routine_c0.2.2.1 zs_X7_154 ?_
  refine kz_acmp_ne (M := kt_M283) (x := w_p w 14 p1 0) (y := some (E.1.1 33)) kX7_routine_c0.2.2.2.1 (t := 21) rfl h (fun h => ?_) (fun h => ?_)
  · skip
    refine kz_aload_nv (M := kt_M283) (x := x1) kX7_routine_c1.2.1 rfl ?_
    refine kz_nz0 (x := x1) hxp1 ?_
    refine kz_gfi (M := kt_M283) (c := 14) (o := p1) kX7_routine_c1.2.2.1 wf_X7_141 (.inr (by exact hlp1)) ?_
    refine kz_if_eq (M := kt_M283) kX7_routine_c1.2.2.2.1 (t := 40) rfl h (fun h => ?_) (fun h => ?_)
    · skip
      refine kz_aload_nv (M := kt_M283) (x := x1) kX7_routine_c2.2.2.1 rfl ?_
      refine kz_nz0 (x := x1) hxp1 ?_
      refine kz_gfp (M := kt_M283) (c := 14) (o := p1) kX7_routine_c2.2.2.2.1 wf_X7_161 (.inr (by exact hlp1)) ?_
      refine kz_stv_n (M := kt_M283) (x := w_p w 14 p1 5) [(0, .ref (w_adr E.2.1 6 0)), (1, va_rf (x1))] kX7_routine_c2.2.2.2.2.1 (Nat.le_of_ble_eq_true rfl) ⟨⟨rfl, rfl, .inl rfl⟩, ⟨⟨rfl, rfl, .inr (w_cat (x1))⟩, trivial⟩⟩ rfl ?_
      exact kz_weak [(0, .ref (w_adr E.2.1 6 0)), (1, va_rf (x1)), (2, va_rf (w_p w 14 p1 5))] ⟨rfl, ⟨rfl, ⟨rfl, trivial⟩⟩⟩ rfl h
    · skip
      refine kz_aload_n (M := kt_M283) kX7_routine_c1.2.2.2.2.1 rfl ?_
      refine kz_aload_nv (M := kt_M283) (x := x1) kX7_routine_c1.2.2.2.2.2.1 rfl ?_
      refine kz_aload_nv (M := kt_M283) (x := x1) kX7_routine_c1.2.2.2.2.2.2.1 rfl ?_
      refine kz_nz0 (x := x1) hxp1 ?_
      refine kz_gfp (M := kt_M283) (c := 14) (o := p1) kX7_routine_c1.2.2.2.2.2.2.2.1 wf_X7_46 (.inr (by exact hlp1)) ?_
      refine kz_cv0 (M := kt_M283) (c := 6) (o := 0) (As := [va_rf (x1), va_rf (w_p w 14 p1 4)]) (rest := []) kX7_routine_c2.1 wl_X7_157 wMv_282 rfl (.inl rfl) rfl (Nat.le_trans (Nat.le_of_ble_eq_true rfl) hL) (by simp [lg_sl, w_cat, z_ci, z_cr, z_cl, z_cn, kt_M282]) (Nat.le_of_ble_eq_true rfl) h (fun w2 hle h => ?_) (fun _ _ _ h => kzx_no rfl h)
      have h := h hle
      have hlp1 := w_l_le hlp1 hle
      refine kz_goto (M := kt_M283) kX7_routine_c2.2.1 (t := 79) rfl ?_
      exact kz_weak [(0, .ref (w_adr E.2.1 6 0))] ⟨rfl, trivial⟩ rfl (zt_X7_routine_p79 hL  h)
  · skip
    refine kz_aload_n (M := kt_M283) kX7_routine_c0.2.2.2.2.1 rfl ?_
    refine kz_aload_nv (M := kt_M283) (x := x1) kX7_routine_c0.2.2.2.2.2.1 rfl ?_
    refine kz_nz0 (x := x1) hxp1 ?_
    refine kz_gfp (M := kt_M283) (c := 14) (o := p1) kX7_routine_c0.2.2.2.2.2.2.1 wf_X7_46 (.inr (by exact hlp1)) ?_
    refine kz_cv0 (M := kt_M283) (c := 6) (o := 0) (As := [va_rf (w_p w 14 p1 4)]) (rest := []) kX7_routine_c0.2.2.2.2.2.2.2.1 wl_X7_30 wMv_280 rfl (.inl rfl) rfl (Nat.le_trans (Nat.le_of_ble_eq_true rfl) hL) (by simp [lg_sl, w_cat, z_ci, z_cr, z_cl, z_cn, kt_M280]) (Nat.le_of_ble_eq_true rfl) h (fun w4 hle h => ?_) (fun _ _ _ h => kzx_no rfl h)
    have h := h hle
    have hlp1 := w_l_le hlp1 hle
    refine kz_goto (M := kt_M283) kX7_routine_c1.1 (t := 79) rfl ?_
    exact kz_weak [(0, .ref (w_adr E.2.1 6 0))] ⟨rfl, trivial⟩ rfl (zt_X7_routine_p79 hL  h)
def zb_X7_result_p0 (E : zE) (L : Nat) (Q : kx_Rs → wS → Prop) (x1 : Option Nat) (x2 : Option Nat) (w : wS) : Prop := (∃ p1, x1 = some p1 ∧ w_l w E.2.1 14 p1 ∧ zw E (L - 22) kt_M289 [.ref (w_adr E.2.1 6 0), va_rf (x2), .int (w_i w 14 p1 8)] w (wk0 (fun w2 => wle w w2 → Q (.inl none) w2) (fun e w => Q (.inr e) w)))
theorem zt_X7_result_p0 {E : zE} {L : Nat} {Q : kx_Rs → wS → Prop} {x1 : Option Nat} {x2 : Option Nat} {w : wS} (hL : 22 ≤ L) (h : zb_X7_result_p0 E L Q x1 x2 w) : kzE E L kt_M282 0 [(0, .ref (w_adr E.2.1 6 0)), (1, va_rf (x1)), (2, va_rf (x2))] [] w Q := by
  unfold zb_X7_result_p0 at h
  refine kz_aload_n (M := kt_M282) kX7_result_c0.1 rfl ?_
  refine kz_aload_nv (M := kt_M282) (x := x2) kX7_result_c0.2.1 rfl ?_
  refine kz_aload_nv (M := kt_M282) (x := x1) kX7_result_c0.2.2.1 rfl ?_
  obtain ⟨p1, hxp1, hlp1, h⟩ := h
  refine kz_nz0 (x := x1) hxp1 ?_
  refine kz_gfi (M := kt_M282) (c := 14) (o := p1) kX7_result_c0.2.2.2.1 wf_X7_130 (.inr (by exact hlp1)) ?_
  refine kz_cv0 (M := kt_M282) (c := 6) (o := 0) (As := [va_rf (x2), .int (w_i w 14 p1 8)]) (rest := []) kX7_result_c0.2.2.2.2.1 wl_X7_167 wMv_289 rfl (.inl rfl) rfl (Nat.le_trans (Nat.le_of_ble_eq_true rfl) hL) (by simp [lg_sl, w_cat, z_ci, z_cr, z_cl, z_cn, kt_M289]) (Nat.le_of_ble_eq_true rfl) h (fun w2 hle h => ?_) (fun _ _ _ h => kzx_no rfl h)
  have h := h hle
  have hlp1 := w_l_le hlp1 hle
  exact kz_ret (M := kt_M282) kX7_result_c0.2.2.2.2.2.1 rfl h
def zb_X7_wanted_p40 (E : zE) (L : Nat) (Q : kx_Rs → wS → Prop) (w : wS) : Prop := Q (.inl none) w
theorem zt_X7_wanted_p40 {E : zE} {L : Nat} {Q : kx_Rs → wS → Prop} {w : wS} (hL : 22 ≤ L) (h : zb_X7_wanted_p40 E L Q  w) : kzE E L kt_M289 40 [(0, .ref (w_adr E.2.1 6 0))] [] w Q := by
  unfold zb_X7_wanted_p40 at h
  exact kz_ret (M := kt_M289) kX7_wanted_c2.2.2.2.1 rfl h
def zb_X7_wanted_p27 (E : zE) (L : Nat) (Q : kx_Rs → wS → Prop) (x1 : Option Nat) (w : wS) : Prop := (∃ p1, x1 = some p1 ∧ w_l w E.2.1 14 p1 ∧ zw E (L - 22) kt_M56 [.ref (w_adr E.2.1 2 0), .int 7, .int (w_i w 14 p1 2)] w (wk0 (fun w2 => wle w w2 → zb_X7_wanted_p40 E L Q w2) (fun e w => Q (.inr e) w)))
theorem zt_X7_wanted_p27 {E : zE} {L : Nat} {Q : kx_Rs → wS → Prop} {x1 : Option Nat} {w : wS} (hL : 22 ≤ L) (h : zb_X7_wanted_p27 E L Q x1 w) : kzE E L kt_M289 27 [(0, .ref (w_adr E.2.1 6 0)), (1, va_rf (x1))] [] w Q := by
  unfold zb_X7_wanted_p27 at h
  refine kz_aload_n (M := kt_M289) kX7_wanted_c1.2.2.2.2.2.1 rfl ?_
  refine kz_gfc (M := kt_M289) (x := 8) (c := 6) (o := 0) kX7_wanted_c1.2.2.2.2.2.2.1 wf_X7_15 (.inl rfl) ?_
  refine kz_bi (M := kt_M289) 7 kX7_wanted_c1.2.2.2.2.2.2.2.1 rfl ?_
  refine kz_aload_nv (M := kt_M289) (x := x1) kX7_wanted_c2.1 rfl ?_
  obtain ⟨p1, hxp1, hlp1, h⟩ := h
  refine kz_nz0 (x := x1) hxp1 ?_
  refine kz_gfi (M := kt_M289) (c := 14) (o := p1) kX7_wanted_c2.2.1 wf_X7_52 (.inr (by exact hlp1)) ?_
  refine kz_cv0 (M := kt_M289) (c := 2) (o := 0) (As := [.int 7, .int (w_i w 14 p1 2)]) (rest := []) kX7_wanted_c2.2.2.1 wl_X7_55 wMv_56 rfl (.inl rfl) rfl (Nat.le_trans (Nat.le_of_ble_eq_true rfl) hL) (Nat.le_of_ble_eq_true rfl) (Nat.le_of_ble_eq_true rfl) h (fun w2 hle h => ?_) (fun _ _ _ h => kzx_no rfl h)
  have h := h hle
  have hlp1 := w_l_le hlp1 hle
  exact kz_weak [(0, .ref (w_adr E.2.1 6 0))] ⟨rfl, trivial⟩ rfl (zt_X7_wanted_p40 hL  h)
def zb_X7_wanted_p0 (E : zE) (L : Nat) (Q : kx_Rs → wS → Prop) (x1 : Option Nat) (x2 : Int32) (w : wS) : Prop := zw E (L - 21) kt_M266 [.ref (w_adr E.2.1 6 0), va_rf (x1)] w (wk0 (fun w1 => wle w w1 → (∃ p3, x1 = some p3 ∧ w_l w1 E.2.1 14 p3 ∧ (if w_i w1 14 p3 17 = 0 then zb_X7_wanted_p40 E L Q w1 else (if ¬ w_i w1 14 p3 17 = x2 then zb_X7_wanted_p27 E L Q x1 w1 else (if w_i w1 14 p3 20 = 0 then zb_X7_wanted_p40 E L Q w1 else zb_X7_wanted_p27 E L Q x1 w1))))) (fun e w => Q (.inr e) w))
theorem zt_X7_wanted_p0 {E : zE} {L : Nat} {Q : kx_Rs → wS → Prop} {x1 : Option Nat} {x2 : Int32} {w : wS} (hL : 22 ≤ L) (h : zb_X7_wanted_p0 E L Q x1 x2 w) : kzE E L kt_M289 0 [(0, .ref (w_adr E.2.1 6 0)), (1, va_rf (x1)), (2, .int x2)] [] w Q := by
  unfold zb_X7_wanted_p0 at h
  refine kz_aload_n (M := kt_M289) kX7_wanted_c0.1 rfl ?_
  refine kz_aload_nv (M := kt_M289) (x := x1) kX7_wanted_c0.2.1 rfl ?_
  refine kz_cv0 (M := kt_M289) (c := 6) (o := 0) (As := [va_rf (x1)]) (rest := []) kX7_wanted_c0.2.2.1 wl_X7_71 wMv_266 rfl (.inl rfl) rfl (Nat.le_trans (Nat.le_of_ble_eq_true rfl) hL) (by simp [lg_sl, w_cat, z_ci, z_cr, z_cl, z_cn, kt_M266]) (Nat.le_of_ble_eq_true rfl) h (fun w1 hle h => ?_) (fun _ _ _ h => kzx_no rfl h)
  have h := h hle
  refine kz_aload_nv (M := kt_M289) (x := x1) kX7_wanted_c0.2.2.2.1 rfl ?_
  obtain ⟨p3, hxp3, hlp3, h⟩ := h
  refine kz_nz0 (x := x1) hxp3 ?_
  refine kz_gfi (M := kt_M289) (c := 14) (o := p3) kX7_wanted_c0.2.2.2.2.1 wf_X7_61 (.inr (by exact hlp3)) ?_
  refine kz_if_eq (M := kt_M289) kX7_wanted_c0.2.2.2.2.2.1 (t := 40) rfl h (fun h => ?_) (fun h => ?_)
  · skip
    exact kz_weak [(0, .ref (w_adr E.2.1 6 0))] ⟨rfl, trivial⟩ rfl (zt_X7_wanted_p40 hL  h)
  · skip
    refine kz_aload_nv (M := kt_M289) (x := x1) kX7_wanted_c0.2.2.2.2.2.2.1 rfl ?_
    refine kz_nz0 (x := x1) hxp3 ?_
    refine kz_gfi (M := kt_M289) (c := 14) (o := p3) kX7_wanted_c0.2.2.2.2.2.2.2.1 wf_X7_61 (.inr (by exact hlp3)) ?_
    refine kz_iload_n (M := kt_M289) kX7_wanted_c1.1 rfl ?_
    refine kz_icmp_ne (M := kt_M289) kX7_wanted_c1.2.1 (t := 27) rfl h (fun h => ?_) (fun h => ?_)
    · skip
      exact kz_weak [(0, .ref (w_adr E.2.1 6 0)), (1, va_rf (x1))] ⟨rfl, ⟨rfl, trivial⟩⟩ rfl (zt_X7_wanted_p27 hL  h)
    · skip
      refine kz_aload_nv (M := kt_M289) (x := x1) kX7_wanted_c1.2.2.1 rfl ?_
      refine kz_nz0 (x := x1) hxp3 ?_
      refine kz_gfi (M := kt_M289) (c := 14) (o := p3) kX7_wanted_c1.2.2.2.1 wf_X7_64 (.inr (by exact hlp3)) ?_
      refine kz_if_eq (M := kt_M289) kX7_wanted_c1.2.2.2.2.1 (t := 40) rfl h (fun h => ?_) (fun h => ?_)
      · skip
        exact kz_weak [(0, .ref (w_adr E.2.1 6 0))] ⟨rfl, trivial⟩ rfl (zt_X7_wanted_p40 hL  h)
      · skip
        exact kz_weak [(0, .ref (w_adr E.2.1 6 0)), (1, va_rf (x1))] ⟨rfl, ⟨rfl, trivial⟩⟩ rfl (zt_X7_wanted_p27 hL  h)
def zL_X7_action_p195 (E : zE) (L : Nat) (Q : kx_Rs → wS → Prop) (x2 : Option Nat) (w : wS) : Prop := kzE E L kt_M255 195 [(0, .ref (w_adr E.2.1 6 0)), (2, va_rf (x2))] [] w Q
def zL_X7_action_p161 (E : zE) (L : Nat) (Q : kx_Rs → wS → Prop) (x2 : Int64) (x4 : Option Nat) (w : wS) : Prop := kzE E L kt_M255 161 [(0, .ref (w_adr E.2.1 6 0)), (2, .long (x2)), (4, va_rf (x4))] [] w Q
def zb_X7_action_p263 (E : zE) (L : Nat) (Q : kx_Rs → wS → Prop) (w : wS) : Prop := Q (.inl none) w
theorem zt_X7_action_p263 {E : zE} {L : Nat} {Q : kx_Rs → wS → Prop} {w : wS} (hL : 26 ≤ L) (h : zb_X7_action_p263 E L Q  w) : kzE E L kt_M255 263 [(0, .ref (w_adr E.2.1 6 0))] [] w Q := by
  unfold zb_X7_action_p263 at h
  exact kz_ret (M := kt_M255) kX7_action_c12.2.2.1 rfl h
def zb_X7_action_p195 (E : zE) (L : Nat) (Q : kx_Rs → wS → Prop) (x2 : Option Nat) (w : wS) : Prop := (if x2 = none then zb_X7_action_p263 E L Q w else (∃ p1, x2 = some p1 ∧ w_l w E.2.1 14 p1 ∧ zw E (L - 22) kt_M289 [.ref (w_adr E.2.1 6 0), va_rf (w_p w 14 p1 3), .int 3] w (wk0 (fun w2 => wle w w2 → zw E (L - 22) kt_M280 [.ref (w_adr E.2.1 6 0), va_rf (w_p w2 14 p1 4)] w2 (wk0 (fun w4 => wle w2 w4 → zL_X7_action_p195 E L Q (w_p w4 14 p1 7) w4) (fun e w => Q (.inr e) w))) (fun e w => Q (.inr e) w))))
theorem zt_X7_action_p195 {E : zE} {L : Nat} {Q : kx_Rs → wS → Prop} {x2 : Option Nat} {w : wS} (hL : 26 ≤ L) (h : zb_X7_action_p195 E L Q x2 w) : kzE E L kt_M255 195 [(0, .ref (w_adr E.2.1 6 0)), (2, va_rf (x2))] [] w Q := by
  unfold zb_X7_action_p195 at h
  refine kz_aload_nv (M := kt_M255) (x := x2) kX7_action_c8.1 rfl ?_
  refine kz_ifnull (M := kt_M255) (x := x2) kX7_action_c8.2.1 (t := 224) rfl h (fun h => ?_) (fun h => ?_)
  · skip
    refine kz_goto (M := kt_M255) kX7_action_c9.2.2.2.2.2.2.2.1 (t := 263) rfl ?_
    exact kz_weak [(0, .ref (w_adr E.2.1 6 0))] ⟨rfl, trivial⟩ rfl (zt_X7_action_p263 hL  h)
  · skip
    refine kz_aload_n (M := kt_M255) kX7_action_c8.2.2.1 rfl ?_
    refine kz_aload_nv (M := kt_M255) (x := x2) kX7_action_c8.2.2.2.1 rfl ?_
    obtain ⟨p1, hxp1, hlp1, h⟩ := h
    refine kz_nz0 (x := x2) hxp1 ?_
    refine kz_gfp (M := kt_M255) (c := 14) (o := p1) kX7_action_c8.2.2.2.2.1 wf_X7_34 (.inr (by exact hlp1)) ?_
    refine kz_ic (M := kt_M255) 3 kX7_action_c8.2.2.2.2.2.1 rfl ?_
    refine kz_cv0 (M := kt_M255) (c := 6) (o := 0) (As := [va_rf (w_p w 14 p1 3), .int 3]) (rest := []) kX7_action_c8.2.2.2.2.2.2.1 wl_X7_167 wMv_289 rfl (.inl rfl) rfl (Nat.le_trans (Nat.le_of_ble_eq_true rfl) hL) (by simp [lg_sl, w_cat, z_ci, z_cr, z_cl, z_cn, kt_M289]) (Nat.le_of_ble_eq_true rfl) h (fun w2 hle h => ?_) (fun _ _ _ h => kzx_no rfl h)
    have h := h hle
    have hlp1 := w_l_le hlp1 hle
    refine kz_aload_n (M := kt_M255) kX7_action_c8.2.2.2.2.2.2.2.1 rfl ?_
    refine kz_aload_nv (M := kt_M255) (x := x2) kX7_action_c9.1 rfl ?_
    refine kz_nz0 (x := x2) hxp1 ?_
    refine kz_gfp (M := kt_M255) (c := 14) (o := p1) kX7_action_c9.2.1 wf_X7_46 (.inr (by exact hlp1)) ?_
    refine kz_cv0 (M := kt_M255) (c := 6) (o := 0) (As := [va_rf (w_p w2 14 p1 4)]) (rest := []) kX7_action_c9.2.2.1 wl_X7_30 wMv_280 rfl (.inl rfl) rfl (Nat.le_trans (Nat.le_of_ble_eq_true rfl) hL) (by simp [lg_sl, w_cat, z_ci, z_cr, z_cl, z_cn, kt_M280]) (Nat.le_of_ble_eq_true rfl) h (fun w4 hle h => ?_) (fun _ _ _ h => kzx_no rfl h)
    have h := h hle
    have hlp1 := w_l_le hlp1 hle
    refine kz_aload_nv (M := kt_M255) (x := x2) kX7_action_c9.2.2.2.1 rfl ?_
    refine kz_nz0 (x := x2) hxp1 ?_
    refine kz_gfp (M := kt_M255) (c := 14) (o := p1) kX7_action_c9.2.2.2.2.1 wf_X7_43 (.inr (by exact hlp1)) ?_
    refine kz_stv_n (M := kt_M255) (x := w_p w4 14 p1 7) [(0, .ref (w_adr E.2.1 6 0))] kX7_action_c9.2.2.2.2.2.1 (Nat.le_of_ble_eq_true rfl) ⟨⟨rfl, rfl, .inl rfl⟩, trivial⟩ rfl ?_
    refine kz_goto (M := kt_M255) kX7_action_c9.2.2.2.2.2.2.1 (t := 195) rfl ?_
    exact kz_weak [(0, .ref (w_adr E.2.1 6 0)), (2, va_rf (w_p w4 14 p1 7))] ⟨rfl, ⟨rfl, trivial⟩⟩ rfl h
def zb_X7_action_p161 (E : zE) (L : Nat) (Q : kx_Rs → wS → Prop) (x2 : Int64) (x4 : Option Nat) (w : wS) : Prop := (if x4 = none then zb_X7_action_p263 E L Q (ws_g w 6 0 5 x2) else zw E (L - 22) kt_M280 [.ref (w_adr E.2.1 6 0), va_rf (x4)] w (wk0 (fun w1 => wle w w1 → (∃ p3, x4 = some p3 ∧ w_l w1 E.2.1 14 p3 ∧ zL_X7_action_p161 E L Q x2 (w_p w1 14 p3 7) w1)) (fun e w => Q (.inr e) w)))
theorem zt_X7_action_p161 {E : zE} {L : Nat} {Q : kx_Rs → wS → Prop} {x2 : Int64} {x4 : Option Nat} {w : wS} (hL : 26 ≤ L) (h : zb_X7_action_p161 E L Q x2 x4 w) : kzE E L kt_M255 161 [(0, .ref (w_adr E.2.1 6 0)), (2, .long (x2)), (4, va_rf (x4))] [] w Q := by
  unfold zb_X7_action_p161 at h
  refine kz_aloadv (M := kt_M255) (x := x4) kX7_action_c6.1 rfl ?_
  refine kz_ifnull (M := kt_M255) (x := x4) kX7_action_c6.2.1 (t := 182) rfl h (fun h => ?_) (fun h => ?_)
  · skip
    refine kz_aload_n (M := kt_M255) kX7_action_c7.2.1 rfl ?_
    refine kz_lload_n (M := kt_M255) kX7_action_c7.2.2.1 rfl ?_
    refine kz_pfg (M := kt_M255) (c := 6) (o := 0) kX7_action_c7.2.2.2.1 wq_X7_26 (.inl rfl) ?_
    refine kz_goto (M := kt_M255) kX7_action_c7.2.2.2.2.1 (t := 263) rfl ?_
    exact kz_weak [(0, .ref (w_adr E.2.1 6 0))] ⟨rfl, trivial⟩ rfl (zt_X7_action_p263 hL  h)
  · skip
    refine kz_aload_n (M := kt_M255) kX7_action_c6.2.2.1 rfl ?_
    refine kz_aloadv (M := kt_M255) (x := x4) kX7_action_c6.2.2.2.1 rfl ?_
    refine kz_cv0 (M := kt_M255) (c := 6) (o := 0) (As := [va_rf (x4)]) (rest := []) kX7_action_c6.2.2.2.2.1 wl_X7_30 wMv_280 rfl (.inl rfl) rfl (Nat.le_trans (Nat.le_of_ble_eq_true rfl) hL) (by simp [lg_sl, w_cat, z_ci, z_cr, z_cl, z_cn, kt_M280]) (Nat.le_of_ble_eq_true rfl) h (fun w1 hle h => ?_) (fun _ _ _ h => kzx_no rfl h)
    have h := h hle
    refine kz_aloadv (M := kt_M255) (x := x4) kX7_action_c6.2.2.2.2.2.1 rfl ?_
    obtain ⟨p3, hxp3, hlp3, h⟩ := h
    refine kz_nz0 (x := x4) hxp3 ?_
    refine kz_gfp (M := kt_M255) (c := 14) (o := p3) kX7_action_c6.2.2.2.2.2.2.1 wf_X7_43 (.inr (by exact hlp3)) ?_
    refine kz_stv (M := kt_M255) (x := w_p w1 14 p3 7) [(0, .ref (w_adr E.2.1 6 0)), (2, .long (x2))] kX7_action_c6.2.2.2.2.2.2.2.1 (Nat.le_of_ble_eq_true rfl) ⟨⟨rfl, rfl, .inl rfl⟩, ⟨⟨rfl, rfl, .inl rfl⟩, trivial⟩⟩ rfl ?_
    refine kz_goto (M := kt_M255) kX7_action_c7.1 (t := 161) rfl ?_
    exact kz_weak [(0, .ref (w_adr E.2.1 6 0)), (2, .long (x2)), (4, va_rf (w_p w1 14 p3 7))] ⟨rfl, ⟨rfl, ⟨rfl, trivial⟩⟩⟩ rfl h
def zb_X7_action_p152 (E : zE) (L : Nat) (Q : kx_Rs → wS → Prop) (x1 : Option Nat) (x2 : Int64) (y0 : Int32) (y1 : Option Nat) (w : wS) : Prop := zw E (L - 23) kt_M281 [.ref (w_adr E.2.1 6 0), va_rf (y1), .int y0] w (wk0 (fun w1 => wle w w1 → (∃ p3, x1 = some p3 ∧ w_l w1 E.2.1 14 p3 ∧ zL_X7_action_p161 E L Q x2 (w_p w1 14 p3 4) w1)) (fun e w => Q (.inr e) w))
theorem zt_X7_action_p152 {E : zE} {L : Nat} {Q : kx_Rs → wS → Prop} {x1 : Option Nat} {x2 : Int64} {y0 : Int32} {y1 : Option Nat} {w : wS} (hL : 26 ≤ L) (h : zb_X7_action_p152 E L Q x1 x2 y0 y1 w) : kzE E L kt_M255 152 [(0, .ref (w_adr E.2.1 6 0)), (1, va_rf (x1)), (2, .long (x2))] [.int y0, va_rf (y1), .ref (w_adr E.2.1 6 0)] w Q := by
  unfold zb_X7_action_p152 at h
  refine kz_cv0 (M := kt_M255) (c := 6) (o := 0) (As := [va_rf (y1), .int y0]) (rest := []) kX7_action_c5.2.2.2.2.1 wl_X7_186 wMv_281 rfl (.inl rfl) rfl (Nat.le_trans (Nat.le_of_ble_eq_true rfl) hL) (by simp [lg_sl, w_cat, z_ci, z_cr, z_cl, z_cn, kt_M281]) (Nat.le_of_ble_eq_true rfl) h (fun w1 hle h => ?_) (fun _ _ _ h => kzx_no rfl h)
  have h := h hle
  refine kz_aload_nv (M := kt_M255) (x := x1) kX7_action_c5.2.2.2.2.2.1 rfl ?_
  obtain ⟨p3, hxp3, hlp3, h⟩ := h
  refine kz_nz0 (x := x1) hxp3 ?_
  refine kz_gfp (M := kt_M255) (c := 14) (o := p3) kX7_action_c5.2.2.2.2.2.2.1 wf_X7_46 (.inr (by exact hlp3)) ?_
  refine kz_stv (M := kt_M255) (x := w_p w1 14 p3 4) [(0, .ref (w_adr E.2.1 6 0)), (2, .long (x2))] kX7_action_c5.2.2.2.2.2.2.2.1 (Nat.le_of_ble_eq_true rfl) ⟨⟨rfl, rfl, .inl rfl⟩, ⟨⟨rfl, rfl, .inl rfl⟩, trivial⟩⟩ rfl ?_
  exact kz_weak [(0, .ref (w_adr E.2.1 6 0)), (2, .long (x2)), (4, va_rf (w_p w1 14 p3 4))] ⟨rfl, ⟨rfl, ⟨rfl, trivial⟩⟩⟩ rfl h
def zb_X7_action_p0 (E : zE) (L : Nat) (Q : kx_Rs → wS → Prop) (x1 : Option Nat) (w : wS) : Prop := (∃ p1, x1 = some p1 ∧ w_l w E.2.1 14 p1 ∧ (∃ i2, zO E "MeetingHouse$Kind" (w_p w 14 p1 0) i2 ∧ (if (kw_on i2) = 16 then zw E (L - 23) kt_M260 [.ref (w_adr E.2.1 6 0), va_rf (x1)] w (wk0 (fun w3 => wle w w3 → zb_X7_action_p263 E L Q w3) (fun e w => Q (.inr e) w)) else (if (kw_on i2) = 17 then zw E (L - 24) kt_M271 [.ref (w_adr E.2.1 6 0), va_rf (x1), .int 1] w (wk0 (fun w5 => wle w w5 → zb_X7_action_p263 E L Q w5) (fun e w => Q (.inr e) w)) else (if (kw_on i2) = 18 then zw E (L - 26) kt_M277 [.ref (w_adr E.2.1 6 0), va_rf (x1)] w (wk0 (fun w7 => wle w w7 → zb_X7_action_p263 E L Q w7) (fun e w => Q (.inr e) w)) else (if (kw_on i2) = 19 then zw E (L - 24) kt_M271 [.ref (w_adr E.2.1 6 0), va_rf (x1), .int 2] w (wk0 (fun w9 => wle w w9 → zb_X7_action_p263 E L Q w9) (fun e w => Q (.inr e) w)) else (if (kw_on i2) = 20 then zw E (L - 24) kt_M271 [.ref (w_adr E.2.1 6 0), va_rf (x1), .int 3] w (wk0 (fun w11 => wle w w11 → zb_X7_action_p263 E L Q w11) (fun e w => Q (.inr e) w)) else (if (kw_on i2) = 21 then zw E (L - 24) kt_M259 [.ref (w_adr E.2.1 6 0), va_rf (x1)] w (wk0 (fun w13 => wle w w13 → zb_X7_action_p263 E L Q w13) (fun e w => Q (.inr e) w)) else (if (kw_on i2) = 22 then (if ¬ w_p w 14 p1 0 = some (E.1.1 44) then zb_X7_action_p152 E L Q x1 (w_g w 6 0 5) 0 (w_p w 14 p1 3) w else zb_X7_action_p152 E L Q x1 (w_g w 6 0 5) 1 (w_p w 14 p1 3) w) else (if (kw_on i2) = 23 then (if ¬ w_p w 14 p1 0 = some (E.1.1 44) then zb_X7_action_p152 E L Q x1 (w_g w 6 0 5) 0 (w_p w 14 p1 3) w else zb_X7_action_p152 E L Q x1 (w_g w 6 0 5) 1 (w_p w 14 p1 3) w) else (if (kw_on i2) = 24 then zL_X7_action_p195 E L Q (w_p w 14 p1 4) w else (if (kw_on i2) = 26 then zw E (L - 25) kt_M276 [.ref (w_adr E.2.1 6 0), va_rf (x1)] w (wk0 (fun w15 => wle w w15 → zb_X7_action_p263 E L Q w15) (fun e w => Q (.inr e) w)) else (if (kw_on i2) = 28 then zw E (L - 22) kt_M289 [.ref (w_adr E.2.1 6 0), va_rf (w_p w 14 p1 3), .int 3] w (wk0 (fun w17 => wle w w17 → zw E (L - 22) kt_M280 [.ref (w_adr E.2.1 6 0), va_rf (w_p w17 14 p1 4)] w17 (wk0 (fun w19 => wle w17 w19 → zb_X7_action_p263 E L Q w19) (fun e w => Q (.inr e) w))) (fun e w => Q (.inr e) w)) else (if (kw_on i2) = 29 then zw E (L - 24) kt_M257 [.ref (w_adr E.2.1 6 0), va_rf (x1)] w (wk0 (fun w21 => wle w w21 → zb_X7_action_p263 E L Q w21) (fun e w => Q (.inr e) w)) else zb_X7_action_p263 E L Q w))))))))))))))
theorem zt_X7_action_p0 {E : zE} {L : Nat} {Q : kx_Rs → wS → Prop} {x1 : Option Nat} {w : wS} (hL : 26 ≤ L) (h : zb_X7_action_p0 E L Q x1 w) : kzE E L kt_M255 0 [(0, .ref (w_adr E.2.1 6 0)), (1, va_rf (x1))] [] w Q := by
  unfold zb_X7_action_p0 at h
  refine kz_aload_nv (M := kt_M255) (x := x1) kX7_action_c0.1 rfl ?_
  obtain ⟨p1, hxp1, hlp1, h⟩ := h
  refine kz_nz0 (x := x1) hxp1 ?_
  refine kz_gfp (M := kt_M255) (c := 14) (o := p1) kX7_action_c0.2.1 wf_X7_77 (.inr (by exact hlp1)) ?_
  obtain ⟨i2, ho, h⟩ := h
  refine kz_ord (M := kt_M255) (x := w_p w 14 p1 0) (i := i2) (C := "MeetingHouse$Kind") kX7_action_c0.2.2.1 zo_l_X7 zo_m_X7 zo_s_Kind zo_u_X7 (Nat.le_trans (Nat.le_of_ble_eq_true rfl) hL) (Nat.le_of_ble_eq_true rfl) ho ?_
  refine kz_tsw (M := kt_M255) [(16, 76), (17, 84), (18, 111), (19, 93), (20, 102), (21, 119), (22, 127), (23, 127), (24, 190), (26, 227), (28, 235), (29, 255)] [_, _, _, _, _, _, _, _, _, _, _, _] 263 dX7_action_p7 (by decide +kernel) h ⟨fun h => ?_, fun h => ?_, fun h => ?_, fun h => ?_, fun h => ?_, fun h => ?_, fun h => ?_, fun h => ?_, fun h => ?_, fun h => ?_, fun h => ?_, fun h => ?_, trivial⟩ (fun h => ?_)
  · skip
    refine kz_aload_n (M := kt_M255) kX7_action_c0.2.2.2.2.1 rfl ?_
    refine kz_aload_nv (M := kt_M255) (x := x1) kX7_action_c0.2.2.2.2.2.1 rfl ?_
    refine kz_cv0 (M := kt_M255) (c := 6) (o := 0) (As := [va_rf (x1)]) (rest := []) kX7_action_c0.2.2.2.2.2.2.1 wl_X7_171 wMv_260 rfl (.inl rfl) rfl (Nat.le_trans (Nat.le_of_ble_eq_true rfl) hL) (by simp [lg_sl, w_cat, z_ci, z_cr, z_cl, z_cn, kt_M260]) (Nat.le_of_ble_eq_true rfl) h (fun w3 hle h => ?_) (fun _ _ _ h => kzx_no rfl h)
    have h := h hle
    have hlp1 := w_l_le hlp1 hle
    refine kz_goto (M := kt_M255) kX7_action_c0.2.2.2.2.2.2.2.1 (t := 263) rfl ?_
    exact kz_weak [(0, .ref (w_adr E.2.1 6 0))] ⟨rfl, trivial⟩ rfl (zt_X7_action_p263 hL  h)
  · skip
    refine kz_aload_n (M := kt_M255) kX7_action_c1.1 rfl ?_
    refine kz_aload_nv (M := kt_M255) (x := x1) kX7_action_c1.2.1 rfl ?_
    refine kz_ic (M := kt_M255) 1 kX7_action_c1.2.2.1 rfl ?_
    refine kz_cv0 (M := kt_M255) (c := 6) (o := 0) (As := [va_rf (x1), .int 1]) (rest := []) kX7_action_c1.2.2.2.1 wl_X7_174 wMv_271 rfl (.inl rfl) rfl (Nat.le_trans (Nat.le_of_ble_eq_true rfl) hL) (by simp [lg_sl, w_cat, z_ci, z_cr, z_cl, z_cn, kt_M271]) (Nat.le_of_ble_eq_true rfl) h (fun w5 hle h => ?_) (fun _ _ _ h => kzx_no rfl h)
    have h := h hle
    have hlp1 := w_l_le hlp1 hle
    refine kz_goto (M := kt_M255) kX7_action_c1.2.2.2.2.1 (t := 263) rfl ?_
    exact kz_weak [(0, .ref (w_adr E.2.1 6 0))] ⟨rfl, trivial⟩ rfl (zt_X7_action_p263 hL  h)
  · skip
    refine kz_aload_n (M := kt_M255) kX7_action_c2.2.2.2.2.2.2.2.1 rfl ?_
    refine kz_aload_nv (M := kt_M255) (x := x1) kX7_action_c3.1 rfl ?_
    refine kz_cv0 (M := kt_M255) (c := 6) (o := 0) (As := [va_rf (x1)]) (rest := []) kX7_action_c3.2.1 wl_X7_177 wMv_277 rfl (.inl rfl) rfl (Nat.le_trans (Nat.le_of_ble_eq_true rfl) hL) (by simp [lg_sl, w_cat, z_ci, z_cr, z_cl, z_cn, kt_M277]) (Nat.le_of_ble_eq_true rfl) h (fun w7 hle h => ?_) (fun _ _ _ h => kzx_no rfl h)
    have h := h hle
    have hlp1 := w_l_le hlp1 hle
    refine kz_goto (M := kt_M255) kX7_action_c3.2.2.1 (t := 263) rfl ?_
    exact kz_weak [(0, .ref (w_adr E.2.1 6 0))] ⟨rfl, trivial⟩ rfl (zt_X7_action_p263 hL  h)
  · skip
    refine kz_aload_n (M := kt_M255) kX7_action_c1.2.2.2.2.2.1 rfl ?_
    refine kz_aload_nv (M := kt_M255) (x := x1) kX7_action_c1.2.2.2.2.2.2.1 rfl ?_
    refine kz_ic (M := kt_M255) 2 kX7_action_c1.2.2.2.2.2.2.2.1 rfl ?_
    refine kz_cv0 (M := kt_M255) (c := 6) (o := 0) (As := [va_rf (x1), .int 2]) (rest := []) kX7_action_c2.1 wl_X7_174 wMv_271 rfl (.inl rfl) rfl (Nat.le_trans (Nat.le_of_ble_eq_true rfl) hL) (by simp [lg_sl, w_cat, z_ci, z_cr, z_cl, z_cn, kt_M271]) (Nat.le_of_ble_eq_true rfl) h (fun w9 hle h => ?_) (fun _ _ _ h => kzx_no rfl h)
    have h := h hle
    have hlp1 := w_l_le hlp1 hle
    refine kz_goto (M := kt_M255) kX7_action_c2.2.1 (t := 263) rfl ?_
    exact kz_weak [(0, .ref (w_adr E.2.1 6 0))] ⟨rfl, trivial⟩ rfl (zt_X7_action_p263 hL  h)
  · skip
    refine kz_aload_n (M := kt_M255) kX7_action_c2.2.2.1 rfl ?_
    refine kz_aload_nv (M := kt_M255) (x := x1) kX7_action_c2.2.2.2.1 rfl ?_
    refine kz_ic (M := kt_M255) 3 kX7_action_c2.2.2.2.2.1 rfl ?_
    refine kz_cv0 (M := kt_M255) (c := 6) (o := 0) (As := [va_rf (x1), .int 3]) (rest := []) kX7_action_c2.2.2.2.2.2.1 wl_X7_174 wMv_271 rfl (.inl rfl) rfl (Nat.le_trans (Nat.le_of_ble_eq_true rfl) hL) (by simp [lg_sl, w_cat, z_ci, z_cr, z_cl, z_cn, kt_M271]) (Nat.le_of_ble_eq_true rfl) h (fun w11 hle h => ?_) (fun _ _ _ h => kzx_no rfl h)
    have h := h hle
    have hlp1 := w_l_le hlp1 hle
    refine kz_goto (M := kt_M255) kX7_action_c2.2.2.2.2.2.2.1 (t := 263) rfl ?_
    exact kz_weak [(0, .ref (w_adr E.2.1 6 0))] ⟨rfl, trivial⟩ rfl (zt_X7_action_p263 hL  h)
  · skip
    refine kz_aload_n (M := kt_M255) kX7_action_c3.2.2.2.1 rfl ?_
    refine kz_aload_nv (M := kt_M255) (x := x1) kX7_action_c3.2.2.2.2.1 rfl ?_
    refine kz_cv0 (M := kt_M255) (c := 6) (o := 0) (As := [va_rf (x1)]) (rest := []) kX7_action_c3.2.2.2.2.2.1 wl_X7_180 wMv_259 rfl (.inl rfl) rfl (Nat.le_trans (Nat.le_of_ble_eq_true rfl) hL) (by simp [lg_sl, w_cat, z_ci, z_cr, z_cl, z_cn, kt_M259]) (Nat.le_of_ble_eq_true rfl) h (fun w13 hle h => ?_) (fun _ _ _ h => kzx_no rfl h)
    have h := h hle
    have hlp1 := w_l_le hlp1 hle
    refine kz_goto (M := kt_M255) kX7_action_c3.2.2.2.2.2.2.1 (t := 263) rfl ?_
    exact kz_weak [(0, .ref (w_adr E.2.1 6 0))] ⟨rfl, trivial⟩ rfl (zt_X7_action_p263 hL  h)
  · skip
    refine kz_aload_n (M := kt_M255) kX7_action_c3.2.2.2.2.2.2.2.1 rfl ?_
    refine kz_gfg (M := kt_M255) (c := 6) (o := 0) kX7_action_c4.1 wf_X7_26 (.inl rfl) ?_
    refine kz_stl_n (M := kt_M255) [(0, .ref (w_adr E.2.1 6 0)), (1, va_rf (x1))] kX7_action_c4.2.1 (Nat.le_of_ble_eq_true rfl) ⟨⟨rfl, rfl, .inl rfl⟩, ⟨⟨rfl, rfl, .inr (w_cat (x1))⟩, trivial⟩⟩ rfl rfl ?_
    refine kz_aload_n (M := kt_M255) kX7_action_c4.2.2.1 rfl ?_
    refine kz_aload_nv (M := kt_M255) (x := x1) kX7_action_c4.2.2.2.1 rfl ?_
    refine kz_nz0 (x := x1) hxp1 ?_
    refine kz_gfp (M := kt_M255) (c := 14) (o := p1) kX7_action_c4.2.2.2.2.1 wf_X7_34 (.inr (by exact hlp1)) ?_
    refine kz_aload_nv (M := kt_M255) (x := x1) kX7_action_c4.2.2.2.2.2.1 rfl ?_
    refine kz_nz0 (x := x1) hxp1 ?_
    refine kz_gfp (M := kt_M255) (c := 14) (o := p1) kX7_action_c4.2.2.2.2.2.2.1 wf_X7_77 (.inr (by exact hlp1)) ?_
    refine kz_getsE (M := kt_M255) (v := va_rf (some (E.1.1 44))) kX7_action_c4.2.2.2.2.2.2.2.1 zs_X7_183 ?_
    refine kz_acmp_ne (M := kt_M255) (x := w_p w 14 p1 0) (y := some (E.1.1 44)) kX7_action_c5.1 (t := 151) rfl h (fun h => ?_) (fun h => ?_)
    · skip
      refine kz_ic (M := kt_M255) 0 kX7_action_c5.2.2.2.1 rfl ?_
      exact kz_weak [(0, .ref (w_adr E.2.1 6 0)), (1, va_rf (x1)), (2, .long (w_g w 6 0 5))] ⟨rfl, ⟨rfl, ⟨rfl, trivial⟩⟩⟩ rfl (zt_X7_action_p152 hL  h)
    · skip
      refine kz_ic (M := kt_M255) 1 kX7_action_c5.2.1 rfl ?_
      refine kz_goto (M := kt_M255) kX7_action_c5.2.2.1 (t := 152) rfl ?_
      exact kz_weak [(0, .ref (w_adr E.2.1 6 0)), (1, va_rf (x1)), (2, .long (w_g w 6 0 5))] ⟨rfl, ⟨rfl, ⟨rfl, trivial⟩⟩⟩ rfl (zt_X7_action_p152 hL  h)
  · skip
    refine kz_aload_n (M := kt_M255) kX7_action_c3.2.2.2.2.2.2.2.1 rfl ?_
    refine kz_gfg (M := kt_M255) (c := 6) (o := 0) kX7_action_c4.1 wf_X7_26 (.inl rfl) ?_
    refine kz_stl_n (M := kt_M255) [(0, .ref (w_adr E.2.1 6 0)), (1, va_rf (x1))] kX7_action_c4.2.1 (Nat.le_of_ble_eq_true rfl) ⟨⟨rfl, rfl, .inl rfl⟩, ⟨⟨rfl, rfl, .inr (w_cat (x1))⟩, trivial⟩⟩ rfl rfl ?_
    refine kz_aload_n (M := kt_M255) kX7_action_c4.2.2.1 rfl ?_
    refine kz_aload_nv (M := kt_M255) (x := x1) kX7_action_c4.2.2.2.1 rfl ?_
    refine kz_nz0 (x := x1) hxp1 ?_
    refine kz_gfp (M := kt_M255) (c := 14) (o := p1) kX7_action_c4.2.2.2.2.1 wf_X7_34 (.inr (by exact hlp1)) ?_
    refine kz_aload_nv (M := kt_M255) (x := x1) kX7_action_c4.2.2.2.2.2.1 rfl ?_
    refine kz_nz0 (x := x1) hxp1 ?_
    refine kz_gfp (M := kt_M255) (c := 14) (o := p1) kX7_action_c4.2.2.2.2.2.2.1 wf_X7_77 (.inr (by exact hlp1)) ?_
    refine kz_getsE (M := kt_M255) (v := va_rf (some (E.1.1 44))) kX7_action_c4.2.2.2.2.2.2.2.1 zs_X7_183 ?_
    refine kz_acmp_ne (M := kt_M255) (x := w_p w 14 p1 0) (y := some (E.1.1 44)) kX7_action_c5.1 (t := 151) rfl h (fun h => ?_) (fun h => ?_)
    · skip
      refine kz_ic (M := kt_M255) 0 kX7_action_c5.2.2.2.1 rfl ?_
      exact kz_weak [(0, .ref (w_adr E.2.1 6 0)), (1, va_rf (x1)), (2, .long (w_g w 6 0 5))] ⟨rfl, ⟨rfl, ⟨rfl, trivial⟩⟩⟩ rfl (zt_X7_action_p152 hL  h)
    · skip
      refine kz_ic (M := kt_M255) 1 kX7_action_c5.2.1 rfl ?_
      refine kz_goto (M := kt_M255) kX7_action_c5.2.2.1 (t := 152) rfl ?_
      exact kz_weak [(0, .ref (w_adr E.2.1 6 0)), (1, va_rf (x1)), (2, .long (w_g w 6 0 5))] ⟨rfl, ⟨rfl, ⟨rfl, trivial⟩⟩⟩ rfl (zt_X7_action_p152 hL  h)
  · skip
    refine kz_aload_nv (M := kt_M255) (x := x1) kX7_action_c7.2.2.2.2.2.1 rfl ?_
    refine kz_nz0 (x := x1) hxp1 ?_
    refine kz_gfp (M := kt_M255) (c := 14) (o := p1) kX7_action_c7.2.2.2.2.2.2.1 wf_X7_46 (.inr (by exact hlp1)) ?_
    refine kz_stv_n (M := kt_M255) (x := w_p w 14 p1 4) [(0, .ref (w_adr E.2.1 6 0))] kX7_action_c7.2.2.2.2.2.2.2.1 (Nat.le_of_ble_eq_true rfl) ⟨⟨rfl, rfl, .inl rfl⟩, trivial⟩ rfl ?_
    exact kz_weak [(0, .ref (w_adr E.2.1 6 0)), (2, va_rf (w_p w 14 p1 4))] ⟨rfl, ⟨rfl, trivial⟩⟩ rfl h
  · skip
    refine kz_aload_n (M := kt_M255) kX7_action_c10.1 rfl ?_
    refine kz_aload_nv (M := kt_M255) (x := x1) kX7_action_c10.2.1 rfl ?_
    refine kz_cv0 (M := kt_M255) (c := 6) (o := 0) (As := [va_rf (x1)]) (rest := []) kX7_action_c10.2.2.1 wl_X7_190 wMv_276 rfl (.inl rfl) rfl (Nat.le_trans (Nat.le_of_ble_eq_true rfl) hL) (by simp [lg_sl, w_cat, z_ci, z_cr, z_cl, z_cn, kt_M276]) (Nat.le_of_ble_eq_true rfl) h (fun w15 hle h => ?_) (fun _ _ _ h => kzx_no rfl h)
    have h := h hle
    have hlp1 := w_l_le hlp1 hle
    refine kz_goto (M := kt_M255) kX7_action_c10.2.2.2.1 (t := 263) rfl ?_
    exact kz_weak [(0, .ref (w_adr E.2.1 6 0))] ⟨rfl, trivial⟩ rfl (zt_X7_action_p263 hL  h)
  · skip
    refine kz_aload_n (M := kt_M255) kX7_action_c10.2.2.2.2.1 rfl ?_
    refine kz_aload_nv (M := kt_M255) (x := x1) kX7_action_c10.2.2.2.2.2.1 rfl ?_
    refine kz_nz0 (x := x1) hxp1 ?_
    refine kz_gfp (M := kt_M255) (c := 14) (o := p1) kX7_action_c10.2.2.2.2.2.2.1 wf_X7_34 (.inr (by exact hlp1)) ?_
    refine kz_ic (M := kt_M255) 3 kX7_action_c10.2.2.2.2.2.2.2.1 rfl ?_
    refine kz_cv0 (M := kt_M255) (c := 6) (o := 0) (As := [va_rf (w_p w 14 p1 3), .int 3]) (rest := []) kX7_action_c11.1 wl_X7_167 wMv_289 rfl (.inl rfl) rfl (Nat.le_trans (Nat.le_of_ble_eq_true rfl) hL) (by simp [lg_sl, w_cat, z_ci, z_cr, z_cl, z_cn, kt_M289]) (Nat.le_of_ble_eq_true rfl) h (fun w17 hle h => ?_) (fun _ _ _ h => kzx_no rfl h)
    have h := h hle
    have hlp1 := w_l_le hlp1 hle
    refine kz_aload_n (M := kt_M255) kX7_action_c11.2.1 rfl ?_
    refine kz_aload_nv (M := kt_M255) (x := x1) kX7_action_c11.2.2.1 rfl ?_
    refine kz_nz0 (x := x1) hxp1 ?_
    refine kz_gfp (M := kt_M255) (c := 14) (o := p1) kX7_action_c11.2.2.2.1 wf_X7_46 (.inr (by exact hlp1)) ?_
    refine kz_cv0 (M := kt_M255) (c := 6) (o := 0) (As := [va_rf (w_p w17 14 p1 4)]) (rest := []) kX7_action_c11.2.2.2.2.1 wl_X7_30 wMv_280 rfl (.inl rfl) rfl (Nat.le_trans (Nat.le_of_ble_eq_true rfl) hL) (by simp [lg_sl, w_cat, z_ci, z_cr, z_cl, z_cn, kt_M280]) (Nat.le_of_ble_eq_true rfl) h (fun w19 hle h => ?_) (fun _ _ _ h => kzx_no rfl h)
    have h := h hle
    have hlp1 := w_l_le hlp1 hle
    refine kz_goto (M := kt_M255) kX7_action_c11.2.2.2.2.2.1 (t := 263) rfl ?_
    exact kz_weak [(0, .ref (w_adr E.2.1 6 0))] ⟨rfl, trivial⟩ rfl (zt_X7_action_p263 hL  h)
  · skip
    refine kz_aload_n (M := kt_M255) kX7_action_c11.2.2.2.2.2.2.1 rfl ?_
    refine kz_aload_nv (M := kt_M255) (x := x1) kX7_action_c11.2.2.2.2.2.2.2.1 rfl ?_
    refine kz_cv0 (M := kt_M255) (c := 6) (o := 0) (As := [va_rf (x1)]) (rest := []) kX7_action_c12.1 wl_X7_192 wMv_257 rfl (.inl rfl) rfl (Nat.le_trans (Nat.le_of_ble_eq_true rfl) hL) (by simp [lg_sl, w_cat, z_ci, z_cr, z_cl, z_cn, kt_M257]) (Nat.le_of_ble_eq_true rfl) h (fun w21 hle h => ?_) (fun _ _ _ h => kzx_no rfl h)
    have h := h hle
    have hlp1 := w_l_le hlp1 hle
    refine kz_goto (M := kt_M255) kX7_action_c12.2.1 (t := 263) rfl ?_
    exact kz_weak [(0, .ref (w_adr E.2.1 6 0))] ⟨rfl, trivial⟩ rfl (zt_X7_action_p263 hL  h)
  · skip
    exact kz_weak [(0, .ref (w_adr E.2.1 6 0))] ⟨rfl, trivial⟩ rfl (zt_X7_action_p263 hL  h)
def zL_X7_assign_p10 (E : zE) (L : Nat) (Q : kx_Rs → wS → Prop) (x1 : Option Nat) (x2 : Option Nat) (x3 : Option Nat) (w : wS) : Prop := kzE E L kt_M260 10 [(0, .ref (w_adr E.2.1 6 0)), (1, va_rf (x1)), (2, va_rf (x2)), (3, va_rf (x3))] [] w Q
def zb_X7_assign_p95 (E : zE) (L : Nat) (Q : kx_Rs → wS → Prop) (x1 : Option Nat) (x2 : Option Nat) (y0 : Option Nat) (w : wS) : Prop := zL_X7_assign_p10 E L Q x1 x2 y0 w
theorem zt_X7_assign_p95 {E : zE} {L : Nat} {Q : kx_Rs → wS → Prop} {x1 : Option Nat} {x2 : Option Nat} {y0 : Option Nat} {w : wS} (hL : 23 ≤ L) (h : zb_X7_assign_p95 E L Q x1 x2 y0 w) : kzE E L kt_M260 95 [(0, .ref (w_adr E.2.1 6 0)), (1, va_rf (x1)), (2, va_rf (x2))] [va_rf (y0)] w Q := by
  unfold zb_X7_assign_p95 at h
  refine kz_stv_n (M := kt_M260) (x := y0) [(0, .ref (w_adr E.2.1 6 0)), (1, va_rf (x1)), (2, va_rf (x2))] kX7_assign_c6.2.2.1 (Nat.le_of_ble_eq_true rfl) ⟨⟨rfl, rfl, .inl rfl⟩, ⟨⟨rfl, rfl, .inl rfl⟩, ⟨⟨rfl, rfl, .inr (w_cat (x2))⟩, trivial⟩⟩⟩ rfl ?_
  refine kz_goto (M := kt_M260) kX7_assign_c6.2.2.2.1 (t := 10) rfl ?_
  exact kz_weak [(0, .ref (w_adr E.2.1 6 0)), (1, va_rf (x1)), (2, va_rf (x2)), (3, va_rf (y0))] ⟨rfl, ⟨rfl, ⟨rfl, ⟨rfl, trivial⟩⟩⟩⟩ rfl h
def zb_X7_assign_p82 (E : zE) (L : Nat) (Q : kx_Rs → wS → Prop) (x1 : Option Nat) (x3 : Option Nat) (y0 : Option Nat) (w : wS) : Prop := (if ¬ x3 = none then (∃ p1, x3 = some p1 ∧ w_l w E.2.1 14 p1 ∧ zb_X7_assign_p95 E L Q x1 y0 (w_p w 14 p1 7) w) else zb_X7_assign_p95 E L Q x1 y0 none w)
theorem zt_X7_assign_p82 {E : zE} {L : Nat} {Q : kx_Rs → wS → Prop} {x1 : Option Nat} {x3 : Option Nat} {y0 : Option Nat} {w : wS} (hL : 23 ≤ L) (h : zb_X7_assign_p82 E L Q x1 x3 y0 w) : kzE E L kt_M260 82 [(0, .ref (w_adr E.2.1 6 0)), (1, va_rf (x1)), (3, va_rf (x3))] [va_rf (y0)] w Q := by
  unfold zb_X7_assign_p82 at h
  refine kz_stv_n (M := kt_M260) (x := y0) [(0, .ref (w_adr E.2.1 6 0)), (1, va_rf (x1)), (3, va_rf (x3))] kX7_assign_c5.2.2.2.1 (Nat.le_of_ble_eq_true rfl) ⟨⟨rfl, rfl, .inl rfl⟩, ⟨⟨rfl, rfl, .inr (w_cat (x1))⟩, ⟨⟨rfl, rfl, .inl rfl⟩, trivial⟩⟩⟩ rfl ?_
  refine kz_aload_nv (M := kt_M260) (x := x3) kX7_assign_c5.2.2.2.2.1 rfl ?_
  refine kz_ifnonnull (M := kt_M260) (x := x3) kX7_assign_c5.2.2.2.2.2.1 (t := 91) rfl h (fun h => ?_) (fun h => ?_)
  · skip
    refine kz_aload_nv (M := kt_M260) (x := x3) kX7_assign_c6.1 rfl ?_
    obtain ⟨p1, hxp1, hlp1, h⟩ := h
    refine kz_nz0 (x := x3) hxp1 ?_
    refine kz_gfp (M := kt_M260) (c := 14) (o := p1) kX7_assign_c6.2.1 wf_X7_43 (.inr (by exact hlp1)) ?_
    exact kz_weak [(0, .ref (w_adr E.2.1 6 0)), (1, va_rf (x1)), (2, va_rf (y0))] ⟨rfl, ⟨rfl, ⟨rfl, trivial⟩⟩⟩ rfl (zt_X7_assign_p95 hL  h)
  · skip
    refine kz_null (M := kt_M260) kX7_assign_c5.2.2.2.2.2.2.1 ?_
    refine kz_goto (M := kt_M260) kX7_assign_c5.2.2.2.2.2.2.2.1 (t := 95) rfl ?_
    exact kz_weak [(0, .ref (w_adr E.2.1 6 0)), (1, va_rf (x1)), (2, va_rf (y0))] ⟨rfl, ⟨rfl, ⟨rfl, trivial⟩⟩⟩ rfl (zt_X7_assign_p95 hL  h)
def zb_X7_assign_p70 (E : zE) (L : Nat) (Q : kx_Rs → wS → Prop) (x1 : Option Nat) (x2 : Option Nat) (x3 : Option Nat) (w : wS) : Prop := (if ¬ x2 = none then (∃ p1, x2 = some p1 ∧ w_l w E.2.1 14 p1 ∧ zb_X7_assign_p82 E L Q x1 x3 (w_p w 14 p1 7) w) else zb_X7_assign_p82 E L Q x1 x3 none w)
theorem zt_X7_assign_p70 {E : zE} {L : Nat} {Q : kx_Rs → wS → Prop} {x1 : Option Nat} {x2 : Option Nat} {x3 : Option Nat} {w : wS} (hL : 23 ≤ L) (h : zb_X7_assign_p70 E L Q x1 x2 x3 w) : kzE E L kt_M260 70 [(0, .ref (w_adr E.2.1 6 0)), (1, va_rf (x1)), (2, va_rf (x2)), (3, va_rf (x3))] [] w Q := by
  unfold zb_X7_assign_p70 at h
  refine kz_aload_nv (M := kt_M260) (x := x2) kX7_assign_c4.2.2.2.2.2.1 rfl ?_
  refine kz_ifnonnull (M := kt_M260) (x := x2) kX7_assign_c4.2.2.2.2.2.2.1 (t := 78) rfl h (fun h => ?_) (fun h => ?_)
  · skip
    refine kz_aload_nv (M := kt_M260) (x := x2) kX7_assign_c5.2.1 rfl ?_
    obtain ⟨p1, hxp1, hlp1, h⟩ := h
    refine kz_nz0 (x := x2) hxp1 ?_
    refine kz_gfp (M := kt_M260) (c := 14) (o := p1) kX7_assign_c5.2.2.1 wf_X7_43 (.inr (by exact hlp1)) ?_
    exact kz_weak [(0, .ref (w_adr E.2.1 6 0)), (1, va_rf (x1)), (3, va_rf (x3))] ⟨rfl, ⟨rfl, ⟨rfl, trivial⟩⟩⟩ rfl (zt_X7_assign_p82 hL  h)
  · skip
    refine kz_null (M := kt_M260) kX7_assign_c4.2.2.2.2.2.2.2.1 ?_
    refine kz_goto (M := kt_M260) kX7_assign_c5.1 (t := 82) rfl ?_
    exact kz_weak [(0, .ref (w_adr E.2.1 6 0)), (1, va_rf (x1)), (3, va_rf (x3))] ⟨rfl, ⟨rfl, ⟨rfl, trivial⟩⟩⟩ rfl (zt_X7_assign_p82 hL  h)
def zb_X7_assign_p44 (E : zE) (L : Nat) (Q : kx_Rs → wS → Prop) (x1 : Option Nat) (x2 : Option Nat) (x3 : Option Nat) (w : wS) : Prop := (∃ p1, x1 = some p1 ∧ w_l w E.2.1 14 p1 ∧ zw E (L - 22) kt_M56 [.ref (w_adr E.2.1 2 0), .int 8, .int (w_i w 14 p1 2)] w (wk0 (fun w2 => wle w w2 → zb_X7_assign_p70 E L Q x1 x2 x3 w2) (fun e w => Q (.inr e) w)))
theorem zt_X7_assign_p44 {E : zE} {L : Nat} {Q : kx_Rs → wS → Prop} {x1 : Option Nat} {x2 : Option Nat} {x3 : Option Nat} {w : wS} (hL : 23 ≤ L) (h : zb_X7_assign_p44 E L Q x1 x2 x3 w) : kzE E L kt_M260 44 [(0, .ref (w_adr E.2.1 6 0)), (1, va_rf (x1)), (2, va_rf (x2)), (3, va_rf (x3))] [] w Q := by
  unfold zb_X7_assign_p44 at h
  refine kz_aload_n (M := kt_M260) kX7_assign_c3.1 rfl ?_
  refine kz_gfc (M := kt_M260) (x := 8) (c := 6) (o := 0) kX7_assign_c3.2.1 wf_X7_15 (.inl rfl) ?_
  refine kz_bi (M := kt_M260) 8 kX7_assign_c3.2.2.1 rfl ?_
  refine kz_aload_nv (M := kt_M260) (x := x1) kX7_assign_c3.2.2.2.1 rfl ?_
  obtain ⟨p1, hxp1, hlp1, h⟩ := h
  refine kz_nz0 (x := x1) hxp1 ?_
  refine kz_gfi (M := kt_M260) (c := 14) (o := p1) kX7_assign_c3.2.2.2.2.1 wf_X7_52 (.inr (by exact hlp1)) ?_
  refine kz_cv0 (M := kt_M260) (c := 2) (o := 0) (As := [.int 8, .int (w_i w 14 p1 2)]) (rest := []) kX7_assign_c3.2.2.2.2.2.1 wl_X7_55 wMv_56 rfl (.inl rfl) rfl (Nat.le_trans (Nat.le_of_ble_eq_true rfl) hL) (Nat.le_of_ble_eq_true rfl) (Nat.le_of_ble_eq_true rfl) h (fun w2 hle h => ?_) (fun _ _ _ h => kzx_no rfl h)
  have h := h hle
  have hlp1 := w_l_le hlp1 hle
  refine kz_goto (M := kt_M260) kX7_assign_c3.2.2.2.2.2.2.1 (t := 70) rfl ?_
  exact kz_weak [(0, .ref (w_adr E.2.1 6 0)), (1, va_rf (x1)), (2, va_rf (x2)), (3, va_rf (x3))] ⟨rfl, ⟨rfl, ⟨rfl, ⟨rfl, trivial⟩⟩⟩⟩ rfl (zt_X7_assign_p70 hL  h)
def zb_X7_assign_p36 (E : zE) (L : Nat) (Q : kx_Rs → wS → Prop) (x1 : Option Nat) (x2 : Option Nat) (x3 : Option Nat) (w : wS) : Prop := (if x2 = none then zb_X7_assign_p44 E L Q x1 x2 x3 w else (if ¬ x3 = none then (∃ p1, x1 = some p1 ∧ w_l w E.2.1 14 p1 ∧ zw E (L - 23) kt_M268 [.ref (w_adr E.2.1 6 0), va_rf (x2), va_rf (x3), .int (w_i w 14 p1 2)] w (wk0 (fun w2 => wle w w2 → zb_X7_assign_p70 E L Q x1 x2 x3 w2) (fun e w => Q (.inr e) w))) else zb_X7_assign_p44 E L Q x1 x2 x3 w))
theorem zt_X7_assign_p36 {E : zE} {L : Nat} {Q : kx_Rs → wS → Prop} {x1 : Option Nat} {x2 : Option Nat} {x3 : Option Nat} {w : wS} (hL : 23 ≤ L) (h : zb_X7_assign_p36 E L Q x1 x2 x3 w) : kzE E L kt_M260 36 [(0, .ref (w_adr E.2.1 6 0)), (1, va_rf (x1)), (2, va_rf (x2)), (3, va_rf (x3))] [] w Q := by
  unfold zb_X7_assign_p36 at h
  refine kz_aload_nv (M := kt_M260) (x := x2) kX7_assign_c2.2.2.2.2.1 rfl ?_
  refine kz_ifnull (M := kt_M260) (x := x2) kX7_assign_c2.2.2.2.2.2.1 (t := 44) rfl h (fun h => ?_) (fun h => ?_)
  · skip
    exact kz_weak [(0, .ref (w_adr E.2.1 6 0)), (1, va_rf (x1)), (2, va_rf (x2)), (3, va_rf (x3))] ⟨rfl, ⟨rfl, ⟨rfl, ⟨rfl, trivial⟩⟩⟩⟩ rfl (zt_X7_assign_p44 hL  h)
  · skip
    refine kz_aload_nv (M := kt_M260) (x := x3) kX7_assign_c2.2.2.2.2.2.2.1 rfl ?_
    refine kz_ifnonnull (M := kt_M260) (x := x3) kX7_assign_c2.2.2.2.2.2.2.2.1 (t := 60) rfl h (fun h => ?_) (fun h => ?_)
    · skip
      refine kz_aload_n (M := kt_M260) kX7_assign_c3.2.2.2.2.2.2.2.1 rfl ?_
      refine kz_aload_nv (M := kt_M260) (x := x2) kX7_assign_c4.1 rfl ?_
      refine kz_aload_nv (M := kt_M260) (x := x3) kX7_assign_c4.2.1 rfl ?_
      refine kz_aload_nv (M := kt_M260) (x := x1) kX7_assign_c4.2.2.1 rfl ?_
      obtain ⟨p1, hxp1, hlp1, h⟩ := h
      refine kz_nz0 (x := x1) hxp1 ?_
      refine kz_gfi (M := kt_M260) (c := 14) (o := p1) kX7_assign_c4.2.2.2.1 wf_X7_52 (.inr (by exact hlp1)) ?_
      refine kz_cv0 (M := kt_M260) (c := 6) (o := 0) (As := [va_rf (x2), va_rf (x3), .int (w_i w 14 p1 2)]) (rest := []) kX7_assign_c4.2.2.2.2.1 wl_X7_195 wMv_268 rfl (.inl rfl) rfl (Nat.le_trans (Nat.le_of_ble_eq_true rfl) hL) (by simp [lg_sl, w_cat, z_ci, z_cr, z_cl, z_cn, kt_M268]) (Nat.le_of_ble_eq_true rfl) h (fun w2 hle h => ?_) (fun _ _ _ h => kzx_no rfl h)
      have h := h hle
      have hlp1 := w_l_le hlp1 hle
      exact kz_weak [(0, .ref (w_adr E.2.1 6 0)), (1, va_rf (x1)), (2, va_rf (x2)), (3, va_rf (x3))] ⟨rfl, ⟨rfl, ⟨rfl, ⟨rfl, trivial⟩⟩⟩⟩ rfl (zt_X7_assign_p70 hL  h)
    · skip
      exact kz_weak [(0, .ref (w_adr E.2.1 6 0)), (1, va_rf (x1)), (2, va_rf (x2)), (3, va_rf (x3))] ⟨rfl, ⟨rfl, ⟨rfl, ⟨rfl, trivial⟩⟩⟩⟩ rfl (zt_X7_assign_p44 hL  h)
def zb_X7_assign_p27 (E : zE) (L : Nat) (Q : kx_Rs → wS → Prop) (x1 : Option Nat) (x2 : Option Nat) (x3 : Option Nat) (w : wS) : Prop := (if x3 = none then zb_X7_assign_p36 E L Q x1 x2 x3 w else zw E (L - 21) kt_M266 [.ref (w_adr E.2.1 6 0), va_rf (x3)] w (wk0 (fun w1 => wle w w1 → zb_X7_assign_p36 E L Q x1 x2 x3 w1) (fun e w => Q (.inr e) w)))
theorem zt_X7_assign_p27 {E : zE} {L : Nat} {Q : kx_Rs → wS → Prop} {x1 : Option Nat} {x2 : Option Nat} {x3 : Option Nat} {w : wS} (hL : 23 ≤ L) (h : zb_X7_assign_p27 E L Q x1 x2 x3 w) : kzE E L kt_M260 27 [(0, .ref (w_adr E.2.1 6 0)), (1, va_rf (x1)), (2, va_rf (x2)), (3, va_rf (x3))] [] w Q := by
  unfold zb_X7_assign_p27 at h
  refine kz_aload_nv (M := kt_M260) (x := x3) kX7_assign_c1.2.2.2.2.2.2.2.1 rfl ?_
  refine kz_ifnull (M := kt_M260) (x := x3) kX7_assign_c2.1 (t := 36) rfl h (fun h => ?_) (fun h => ?_)
  · skip
    exact kz_weak [(0, .ref (w_adr E.2.1 6 0)), (1, va_rf (x1)), (2, va_rf (x2)), (3, va_rf (x3))] ⟨rfl, ⟨rfl, ⟨rfl, ⟨rfl, trivial⟩⟩⟩⟩ rfl (zt_X7_assign_p36 hL  h)
  · skip
    refine kz_aload_n (M := kt_M260) kX7_assign_c2.2.1 rfl ?_
    refine kz_aload_nv (M := kt_M260) (x := x3) kX7_assign_c2.2.2.1 rfl ?_
    refine kz_cv0 (M := kt_M260) (c := 6) (o := 0) (As := [va_rf (x3)]) (rest := []) kX7_assign_c2.2.2.2.1 wl_X7_71 wMv_266 rfl (.inl rfl) rfl (Nat.le_trans (Nat.le_of_ble_eq_true rfl) hL) (by simp [lg_sl, w_cat, z_ci, z_cr, z_cl, z_cn, kt_M266]) (Nat.le_of_ble_eq_true rfl) h (fun w1 hle h => ?_) (fun _ _ _ h => kzx_no rfl h)
    have h := h hle
    exact kz_weak [(0, .ref (w_adr E.2.1 6 0)), (1, va_rf (x1)), (2, va_rf (x2)), (3, va_rf (x3))] ⟨rfl, ⟨rfl, ⟨rfl, ⟨rfl, trivial⟩⟩⟩⟩ rfl (zt_X7_assign_p36 hL  h)
def zb_X7_assign_p18 (E : zE) (L : Nat) (Q : kx_Rs → wS → Prop) (x1 : Option Nat) (x2 : Option Nat) (x3 : Option Nat) (w : wS) : Prop := (if x2 = none then zb_X7_assign_p27 E L Q x1 x2 x3 w else zw E (L - 22) kt_M279 [.ref (w_adr E.2.1 6 0), va_rf (x2)] w (wk0 (fun w1 => wle w w1 → zb_X7_assign_p27 E L Q x1 x2 x3 w1) (fun e w => Q (.inr e) w)))
theorem zt_X7_assign_p18 {E : zE} {L : Nat} {Q : kx_Rs → wS → Prop} {x1 : Option Nat} {x2 : Option Nat} {x3 : Option Nat} {w : wS} (hL : 23 ≤ L) (h : zb_X7_assign_p18 E L Q x1 x2 x3 w) : kzE E L kt_M260 18 [(0, .ref (w_adr E.2.1 6 0)), (1, va_rf (x1)), (2, va_rf (x2)), (3, va_rf (x3))] [] w Q := by
  unfold zb_X7_assign_p18 at h
  refine kz_aload_nv (M := kt_M260) (x := x2) kX7_assign_c1.2.2.1 rfl ?_
  refine kz_ifnull (M := kt_M260) (x := x2) kX7_assign_c1.2.2.2.1 (t := 27) rfl h (fun h => ?_) (fun h => ?_)
  · skip
    exact kz_weak [(0, .ref (w_adr E.2.1 6 0)), (1, va_rf (x1)), (2, va_rf (x2)), (3, va_rf (x3))] ⟨rfl, ⟨rfl, ⟨rfl, ⟨rfl, trivial⟩⟩⟩⟩ rfl (zt_X7_assign_p27 hL  h)
  · skip
    refine kz_aload_n (M := kt_M260) kX7_assign_c1.2.2.2.2.1 rfl ?_
    refine kz_aload_nv (M := kt_M260) (x := x2) kX7_assign_c1.2.2.2.2.2.1 rfl ?_
    refine kz_cv0 (M := kt_M260) (c := 6) (o := 0) (As := [va_rf (x2)]) (rest := []) kX7_assign_c1.2.2.2.2.2.2.1 wl_X7_138 wMv_279 rfl (.inl rfl) rfl (Nat.le_trans (Nat.le_of_ble_eq_true rfl) hL) (by simp [lg_sl, w_cat, z_ci, z_cr, z_cl, z_cn, kt_M279]) (Nat.le_of_ble_eq_true rfl) h (fun w1 hle h => ?_) (fun _ _ _ h => kzx_no rfl h)
    have h := h hle
    exact kz_weak [(0, .ref (w_adr E.2.1 6 0)), (1, va_rf (x1)), (2, va_rf (x2)), (3, va_rf (x3))] ⟨rfl, ⟨rfl, ⟨rfl, ⟨rfl, trivial⟩⟩⟩⟩ rfl (zt_X7_assign_p27 hL  h)
def zb_X7_assign_p10 (E : zE) (L : Nat) (Q : kx_Rs → wS → Prop) (x1 : Option Nat) (x2 : Option Nat) (x3 : Option Nat) (w : wS) : Prop := (if ¬ x2 = none then zb_X7_assign_p18 E L Q x1 x2 x3 w else (if x3 = none then Q (.inl none) w else zb_X7_assign_p18 E L Q x1 x2 x3 w))
theorem zt_X7_assign_p10 {E : zE} {L : Nat} {Q : kx_Rs → wS → Prop} {x1 : Option Nat} {x2 : Option Nat} {x3 : Option Nat} {w : wS} (hL : 23 ≤ L) (h : zb_X7_assign_p10 E L Q x1 x2 x3 w) : kzE E L kt_M260 10 [(0, .ref (w_adr E.2.1 6 0)), (1, va_rf (x1)), (2, va_rf (x2)), (3, va_rf (x3))] [] w Q := by
  unfold zb_X7_assign_p10 at h
  refine kz_aload_nv (M := kt_M260) (x := x2) kX7_assign_c0.2.2.2.2.2.2.1 rfl ?_
  refine kz_ifnonnull (M := kt_M260) (x := x2) kX7_assign_c0.2.2.2.2.2.2.2.1 (t := 18) rfl h (fun h => ?_) (fun h => ?_)
  · skip
    exact kz_weak [(0, .ref (w_adr E.2.1 6 0)), (1, va_rf (x1)), (2, va_rf (x2)), (3, va_rf (x3))] ⟨rfl, ⟨rfl, ⟨rfl, ⟨rfl, trivial⟩⟩⟩⟩ rfl (zt_X7_assign_p18 hL  h)
  · skip
    refine kz_aload_nv (M := kt_M260) (x := x3) kX7_assign_c1.1 rfl ?_
    refine kz_ifnull (M := kt_M260) (x := x3) kX7_assign_c1.2.1 (t := 99) rfl h (fun h => ?_) (fun h => ?_)
    · skip
      exact kz_ret (M := kt_M260) kX7_assign_c6.2.2.2.2.1 rfl h
    · skip
      exact kz_weak [(0, .ref (w_adr E.2.1 6 0)), (1, va_rf (x1)), (2, va_rf (x2)), (3, va_rf (x3))] ⟨rfl, ⟨rfl, ⟨rfl, ⟨rfl, trivial⟩⟩⟩⟩ rfl (zt_X7_assign_p18 hL  h)
def zb_X7_assign_p0 (E : zE) (L : Nat) (Q : kx_Rs → wS → Prop) (x1 : Option Nat) (w : wS) : Prop := (∃ p1, x1 = some p1 ∧ w_l w E.2.1 14 p1 ∧ zL_X7_assign_p10 E L Q x1 (w_p w 14 p1 3) (w_p w 14 p1 4) w)
theorem zt_X7_assign_p0 {E : zE} {L : Nat} {Q : kx_Rs → wS → Prop} {x1 : Option Nat} {w : wS} (hL : 23 ≤ L) (h : zb_X7_assign_p0 E L Q x1 w) : kzE E L kt_M260 0 [(0, .ref (w_adr E.2.1 6 0)), (1, va_rf (x1))] [] w Q := by
  unfold zb_X7_assign_p0 at h
  refine kz_aload_nv (M := kt_M260) (x := x1) kX7_assign_c0.1 rfl ?_
  obtain ⟨p1, hxp1, hlp1, h⟩ := h
  refine kz_nz0 (x := x1) hxp1 ?_
  refine kz_gfp (M := kt_M260) (c := 14) (o := p1) kX7_assign_c0.2.1 wf_X7_34 (.inr (by exact hlp1)) ?_
  refine kz_stv_n (M := kt_M260) (x := w_p w 14 p1 3) [(0, .ref (w_adr E.2.1 6 0)), (1, va_rf (x1))] kX7_assign_c0.2.2.1 (Nat.le_of_ble_eq_true rfl) ⟨⟨rfl, rfl, .inl rfl⟩, ⟨⟨rfl, rfl, .inr (w_cat (x1))⟩, trivial⟩⟩ rfl ?_
  refine kz_aload_nv (M := kt_M260) (x := x1) kX7_assign_c0.2.2.2.1 rfl ?_
  refine kz_nz0 (x := x1) hxp1 ?_
  refine kz_gfp (M := kt_M260) (c := 14) (o := p1) kX7_assign_c0.2.2.2.2.1 wf_X7_46 (.inr (by exact hlp1)) ?_
  refine kz_stv_n (M := kt_M260) (x := w_p w 14 p1 4) [(0, .ref (w_adr E.2.1 6 0)), (1, va_rf (x1)), (2, va_rf (w_p w 14 p1 3))] kX7_assign_c0.2.2.2.2.2.1 (Nat.le_of_ble_eq_true rfl) ⟨⟨rfl, rfl, .inl rfl⟩, ⟨⟨rfl, rfl, .inl rfl⟩, ⟨⟨rfl, rfl, .inr (w_cat (w_p w 14 p1 3))⟩, trivial⟩⟩⟩ rfl ?_
  exact kz_weak [(0, .ref (w_adr E.2.1 6 0)), (1, va_rf (x1)), (2, va_rf (w_p w 14 p1 3)), (3, va_rf (w_p w 14 p1 4))] ⟨rfl, ⟨rfl, ⟨rfl, ⟨rfl, trivial⟩⟩⟩⟩ rfl h
def zb_X7_fit_p74 (E : zE) (L : Nat) (Q : kx_Rs → wS → Prop) (w : wS) : Prop := Q (.inl none) w
theorem zt_X7_fit_p74 {E : zE} {L : Nat} {Q : kx_Rs → wS → Prop} {w : wS} (hL : 22 ≤ L) (h : zb_X7_fit_p74 E L Q  w) : kzE E L kt_M268 74 [(0, .ref (w_adr E.2.1 6 0))] [] w Q := by
  unfold zb_X7_fit_p74 at h
  exact kz_ret (M := kt_M268) kX7_fit_c4.2.2.2.1 rfl h
def zb_X7_fit_p64 (E : zE) (L : Nat) (Q : kx_Rs → wS → Prop) (x3 : Int32) (w : wS) : Prop := zw E (L - 22) kt_M56 [.ref (w_adr E.2.1 2 0), .int 7, .int x3] w (wk0 (fun w1 => wle w w1 → zb_X7_fit_p74 E L Q w1) (fun e w => Q (.inr e) w))
theorem zt_X7_fit_p64 {E : zE} {L : Nat} {Q : kx_Rs → wS → Prop} {x3 : Int32} {w : wS} (hL : 22 ≤ L) (h : zb_X7_fit_p64 E L Q x3 w) : kzE E L kt_M268 64 [(0, .ref (w_adr E.2.1 6 0)), (3, .int x3)] [] w Q := by
  unfold zb_X7_fit_p64 at h
  refine kz_aload_n (M := kt_M268) kX7_fit_c3.2.2.2.2.2.2.1 rfl ?_
  refine kz_gfc (M := kt_M268) (x := 8) (c := 6) (o := 0) kX7_fit_c3.2.2.2.2.2.2.2.1 wf_X7_15 (.inl rfl) ?_
  refine kz_bi (M := kt_M268) 7 kX7_fit_c4.1 rfl ?_
  refine kz_iload_n (M := kt_M268) kX7_fit_c4.2.1 rfl ?_
  refine kz_cv0 (M := kt_M268) (c := 2) (o := 0) (As := [.int 7, .int x3]) (rest := []) kX7_fit_c4.2.2.1 wl_X7_55 wMv_56 rfl (.inl rfl) rfl (Nat.le_trans (Nat.le_of_ble_eq_true rfl) hL) (Nat.le_of_ble_eq_true rfl) (Nat.le_of_ble_eq_true rfl) h (fun w1 hle h => ?_) (fun _ _ _ h => kzx_no rfl h)
  have h := h hle
  exact kz_weak [(0, .ref (w_adr E.2.1 6 0))] ⟨rfl, trivial⟩ rfl (zt_X7_fit_p74 hL  h)
def zb_X7_fit_p14 (E : zE) (L : Nat) (Q : kx_Rs → wS → Prop) (w : wS) : Prop := Q (.inl none) w
theorem zt_X7_fit_p14 {E : zE} {L : Nat} {Q : kx_Rs → wS → Prop} {w : wS} (hL : 22 ≤ L) (h : zb_X7_fit_p14 E L Q  w) : kzE E L kt_M268 14 [(0, .ref (w_adr E.2.1 6 0))] [] w Q := by
  unfold zb_X7_fit_p14 at h
  exact kz_ret (M := kt_M268) kX7_fit_c0.2.2.2.2.2.2.1 rfl h
def zb_X7_fit_p0 (E : zE) (L : Nat) (Q : kx_Rs → wS → Prop) (x1 : Option Nat) (x2 : Option Nat) (x3 : Int32) (w : wS) : Prop := (∃ p1, x1 = some p1 ∧ w_l w E.2.1 14 p1 ∧ (if w_i w 14 p1 17 = 0 then zb_X7_fit_p14 E L Q w else (∃ p2, x2 = some p2 ∧ w_l w E.2.1 14 p2 ∧ (if ¬ w_i w 14 p2 17 = 0 then (if ¬ w_i w 14 p1 17 = w_i w 14 p2 17 then zb_X7_fit_p64 E L Q x3 w else (if ¬ w_i w 14 p1 20 = w_i w 14 p2 20 then zb_X7_fit_p64 E L Q x3 w else (if w_i w 14 p1 18 = (-1) then zb_X7_fit_p74 E L Q w else (if w_i w 14 p2 18 = (-1) then zb_X7_fit_p74 E L Q w else (if w_i w 14 p1 18 = w_i w 14 p2 18 then zb_X7_fit_p74 E L Q w else zb_X7_fit_p64 E L Q x3 w))))) else zb_X7_fit_p14 E L Q w))))
theorem zt_X7_fit_p0 {E : zE} {L : Nat} {Q : kx_Rs → wS → Prop} {x1 : Option Nat} {x2 : Option Nat} {x3 : Int32} {w : wS} (hL : 22 ≤ L) (h : zb_X7_fit_p0 E L Q x1 x2 x3 w) : kzE E L kt_M268 0 [(0, .ref (w_adr E.2.1 6 0)), (1, va_rf (x1)), (2, va_rf (x2)), (3, .int x3)] [] w Q := by
  unfold zb_X7_fit_p0 at h
  refine kz_aload_nv (M := kt_M268) (x := x1) kX7_fit_c0.1 rfl ?_
  obtain ⟨p1, hxp1, hlp1, h⟩ := h
  refine kz_nz0 (x := x1) hxp1 ?_
  refine kz_gfi (M := kt_M268) (c := 14) (o := p1) kX7_fit_c0.2.1 wf_X7_61 (.inr (by exact hlp1)) ?_
  refine kz_if_eq (M := kt_M268) kX7_fit_c0.2.2.1 (t := 14) rfl h (fun h => ?_) (fun h => ?_)
  · skip
    exact kz_weak [(0, .ref (w_adr E.2.1 6 0))] ⟨rfl, trivial⟩ rfl (zt_X7_fit_p14 hL  h)
  · skip
    refine kz_aload_nv (M := kt_M268) (x := x2) kX7_fit_c0.2.2.2.1 rfl ?_
    obtain ⟨p2, hxp2, hlp2, h⟩ := h
    refine kz_nz0 (x := x2) hxp2 ?_
    refine kz_gfi (M := kt_M268) (c := 14) (o := p2) kX7_fit_c0.2.2.2.2.1 wf_X7_61 (.inr (by exact hlp2)) ?_
    refine kz_if_ne (M := kt_M268) kX7_fit_c0.2.2.2.2.2.1 (t := 15) rfl h (fun h => ?_) (fun h => ?_)
    · skip
      refine kz_aload_nv (M := kt_M268) (x := x1) kX7_fit_c0.2.2.2.2.2.2.2.1 rfl ?_
      refine kz_nz0 (x := x1) hxp1 ?_
      refine kz_gfi (M := kt_M268) (c := 14) (o := p1) kX7_fit_c1.1 wf_X7_61 (.inr (by exact hlp1)) ?_
      refine kz_aload_nv (M := kt_M268) (x := x2) kX7_fit_c1.2.1 rfl ?_
      refine kz_nz0 (x := x2) hxp2 ?_
      refine kz_gfi (M := kt_M268) (c := 14) (o := p2) kX7_fit_c1.2.2.1 wf_X7_61 (.inr (by exact hlp2)) ?_
      refine kz_icmp_ne (M := kt_M268) kX7_fit_c1.2.2.2.1 (t := 64) rfl h (fun h => ?_) (fun h => ?_)
      · skip
        exact kz_weak [(0, .ref (w_adr E.2.1 6 0)), (3, .int x3)] ⟨rfl, ⟨rfl, trivial⟩⟩ rfl (zt_X7_fit_p64 hL  h)
      · skip
        refine kz_aload_nv (M := kt_M268) (x := x1) kX7_fit_c1.2.2.2.2.1 rfl ?_
        refine kz_nz0 (x := x1) hxp1 ?_
        refine kz_gfi (M := kt_M268) (c := 14) (o := p1) kX7_fit_c1.2.2.2.2.2.1 wf_X7_64 (.inr (by exact hlp1)) ?_
        refine kz_aload_nv (M := kt_M268) (x := x2) kX7_fit_c1.2.2.2.2.2.2.1 rfl ?_
        refine kz_nz0 (x := x2) hxp2 ?_
        refine kz_gfi (M := kt_M268) (c := 14) (o := p2) kX7_fit_c1.2.2.2.2.2.2.2.1 wf_X7_64 (.inr (by exact hlp2)) ?_
        refine kz_icmp_ne (M := kt_M268) kX7_fit_c2.1 (t := 64) rfl h (fun h => ?_) (fun h => ?_)
        · skip
          exact kz_weak [(0, .ref (w_adr E.2.1 6 0)), (3, .int x3)] ⟨rfl, ⟨rfl, trivial⟩⟩ rfl (zt_X7_fit_p64 hL  h)
        · skip
          refine kz_aload_nv (M := kt_M268) (x := x1) kX7_fit_c2.2.1 rfl ?_
          refine kz_nz0 (x := x1) hxp1 ?_
          refine kz_gfi (M := kt_M268) (c := 14) (o := p1) kX7_fit_c2.2.2.1 wf_X7_133 (.inr (by exact hlp1)) ?_
          refine kz_ic (M := kt_M268) (-1) kX7_fit_c2.2.2.2.1 rfl ?_
          refine kz_icmp_eq (M := kt_M268) kX7_fit_c2.2.2.2.2.1 (t := 74) rfl h (fun h => ?_) (fun h => ?_)
          · skip
            exact kz_weak [(0, .ref (w_adr E.2.1 6 0))] ⟨rfl, trivial⟩ rfl (zt_X7_fit_p74 hL  h)
          · skip
            refine kz_aload_nv (M := kt_M268) (x := x2) kX7_fit_c2.2.2.2.2.2.1 rfl ?_
            refine kz_nz0 (x := x2) hxp2 ?_
            refine kz_gfi (M := kt_M268) (c := 14) (o := p2) kX7_fit_c2.2.2.2.2.2.2.1 wf_X7_133 (.inr (by exact hlp2)) ?_
            refine kz_ic (M := kt_M268) (-1) kX7_fit_c2.2.2.2.2.2.2.2.1 rfl ?_
            refine kz_icmp_eq (M := kt_M268) kX7_fit_c3.1 (t := 74) rfl h (fun h => ?_) (fun h => ?_)
            · skip
              exact kz_weak [(0, .ref (w_adr E.2.1 6 0))] ⟨rfl, trivial⟩ rfl (zt_X7_fit_p74 hL  h)
            · skip
              refine kz_aload_nv (M := kt_M268) (x := x1) kX7_fit_c3.2.1 rfl ?_
              refine kz_nz0 (x := x1) hxp1 ?_
              refine kz_gfi (M := kt_M268) (c := 14) (o := p1) kX7_fit_c3.2.2.1 wf_X7_133 (.inr (by exact hlp1)) ?_
              refine kz_aload_nv (M := kt_M268) (x := x2) kX7_fit_c3.2.2.2.1 rfl ?_
              refine kz_nz0 (x := x2) hxp2 ?_
              refine kz_gfi (M := kt_M268) (c := 14) (o := p2) kX7_fit_c3.2.2.2.2.1 wf_X7_133 (.inr (by exact hlp2)) ?_
              refine kz_icmp_eq (M := kt_M268) kX7_fit_c3.2.2.2.2.2.1 (t := 74) rfl h (fun h => ?_) (fun h => ?_)
              · skip
                exact kz_weak [(0, .ref (w_adr E.2.1 6 0))] ⟨rfl, trivial⟩ rfl (zt_X7_fit_p74 hL  h)
              · skip
                exact kz_weak [(0, .ref (w_adr E.2.1 6 0)), (3, .int x3)] ⟨rfl, ⟨rfl, trivial⟩⟩ rfl (zt_X7_fit_p64 hL  h)
    · skip
      exact kz_weak [(0, .ref (w_adr E.2.1 6 0))] ⟨rfl, trivial⟩ rfl (zt_X7_fit_p14 hL  h)
def zL_X7_input_p79 (E : zE) (L : Nat) (Q : kx_Rs → wS → Prop) (x1 : Option Nat) (x3 : Option Nat) (x4 : Option Nat) (w : wS) : Prop := kzE E L kt_M271 79 [(0, .ref (w_adr E.2.1 6 0)), (1, va_rf (x1)), (3, va_rf (x3)), (4, va_rf (x4))] [] w Q
def zb_X7_input_p273 (E : zE) (L : Nat) (Q : kx_Rs → wS → Prop) (w : wS) : Prop := Q (.inl none) w
theorem zt_X7_input_p273 {E : zE} {L : Nat} {Q : kx_Rs → wS → Prop} {w : wS} (hL : 25 ≤ L) (h : zb_X7_input_p273 E L Q  w) : kzE E L kt_M271 273 [(0, .ref (w_adr E.2.1 6 0))] [] w Q := by
  unfold zb_X7_input_p273 at h
  exact kz_ret (M := kt_M271) kX7_input_c15.2.2.2.2.2.1 rfl h
def zb_X7_input_p225 (E : zE) (L : Nat) (Q : kx_Rs → wS → Prop) (w : wS) : Prop := zb_X7_input_p273 E L Q w
theorem zt_X7_input_p225 {E : zE} {L : Nat} {Q : kx_Rs → wS → Prop} {w : wS} (hL : 25 ≤ L) (h : zb_X7_input_p225 E L Q  w) : kzE E L kt_M271 225 [(0, .ref (w_adr E.2.1 6 0))] [] w Q := by
  unfold zb_X7_input_p225 at h
  refine kz_goto (M := kt_M271) kX7_input_c13.1 (t := 273) rfl ?_
  exact kz_weak [(0, .ref (w_adr E.2.1 6 0))] ⟨rfl, trivial⟩ rfl (zt_X7_input_p273 hL  h)
def zb_X7_input_p202 (E : zE) (L : Nat) (Q : kx_Rs → wS → Prop) (x1 : Option Nat) (w : wS) : Prop := (∃ p1, x1 = some p1 ∧ w_l w E.2.1 14 p1 ∧ (∃ p2, w_p w 14 p1 4 = some p2 ∧ w_l w E.2.1 14 p2 ∧ (if (w_p w 14 p2 7) = none then zb_X7_input_p225 E L Q w else zw E (L - 22) kt_M56 [.ref (w_adr E.2.1 2 0), .int 8, .int (w_i w 14 p1 2)] w (wk0 (fun w3 => wle w w3 → zb_X7_input_p225 E L Q w3) (fun e w => Q (.inr e) w)))))
theorem zt_X7_input_p202 {E : zE} {L : Nat} {Q : kx_Rs → wS → Prop} {x1 : Option Nat} {w : wS} (hL : 25 ≤ L) (h : zb_X7_input_p202 E L Q x1 w) : kzE E L kt_M271 202 [(0, .ref (w_adr E.2.1 6 0)), (1, va_rf (x1))] [] w Q := by
  unfold zb_X7_input_p202 at h
  refine kz_aload_nv (M := kt_M271) (x := x1) kX7_input_c11.2.2.2.2.2.2.1 rfl ?_
  obtain ⟨p1, hxp1, hlp1, h⟩ := h
  refine kz_nz0 (x := x1) hxp1 ?_
  refine kz_gfp (M := kt_M271) (c := 14) (o := p1) kX7_input_c11.2.2.2.2.2.2.2.1 wf_X7_46 (.inr (by exact hlp1)) ?_
  obtain ⟨p2, hxp2, hlp2, h⟩ := h
  refine kz_nz0 (x := w_p w 14 p1 4) hxp2 ?_
  refine kz_gfp (M := kt_M271) (c := 14) (o := p2) kX7_input_c12.1 wf_X7_43 (.inr (by exact hlp2)) ?_
  refine kz_ifnull (M := kt_M271) (x := w_p w 14 p2 7) kX7_input_c12.2.1 (t := 225) rfl h (fun h => ?_) (fun h => ?_)
  · skip
    exact kz_weak [(0, .ref (w_adr E.2.1 6 0))] ⟨rfl, trivial⟩ rfl (zt_X7_input_p225 hL  h)
  · skip
    refine kz_aload_n (M := kt_M271) kX7_input_c12.2.2.1 rfl ?_
    refine kz_gfc (M := kt_M271) (x := 8) (c := 6) (o := 0) kX7_input_c12.2.2.2.1 wf_X7_15 (.inl rfl) ?_
    refine kz_bi (M := kt_M271) 8 kX7_input_c12.2.2.2.2.1 rfl ?_
    refine kz_aload_nv (M := kt_M271) (x := x1) kX7_input_c12.2.2.2.2.2.1 rfl ?_
    refine kz_nz0 (x := x1) hxp1 ?_
    refine kz_gfi (M := kt_M271) (c := 14) (o := p1) kX7_input_c12.2.2.2.2.2.2.1 wf_X7_52 (.inr (by exact hlp1)) ?_
    refine kz_cv0 (M := kt_M271) (c := 2) (o := 0) (As := [.int 8, .int (w_i w 14 p1 2)]) (rest := []) kX7_input_c12.2.2.2.2.2.2.2.1 wl_X7_55 wMv_56 rfl (.inl rfl) rfl (Nat.le_trans (Nat.le_of_ble_eq_true rfl) hL) (Nat.le_of_ble_eq_true rfl) (Nat.le_of_ble_eq_true rfl) h (fun w3 hle h => ?_) (fun _ _ _ h => kzx_no rfl h)
    have h := h hle
    have hlp1 := w_l_le hlp1 hle
    have hlp2 := w_l_le hlp2 hle
    exact kz_weak [(0, .ref (w_adr E.2.1 6 0))] ⟨rfl, trivial⟩ rfl (zt_X7_input_p225 hL  h)
def zb_X7_input_p186 (E : zE) (L : Nat) (Q : kx_Rs → wS → Prop) (x1 : Option Nat) (w : wS) : Prop := (∃ p1, x1 = some p1 ∧ w_l w E.2.1 14 p1 ∧ (∃ p2, w_p w 14 p1 4 = some p2 ∧ w_l w E.2.1 14 p2 ∧ zw E (L - 22) kt_M56 [.ref (w_adr E.2.1 2 0), .int 7, .int (w_i w 14 p2 2)] w (wk0 (fun w3 => wle w w3 → zb_X7_input_p202 E L Q x1 w3) (fun e w => Q (.inr e) w))))
theorem zt_X7_input_p186 {E : zE} {L : Nat} {Q : kx_Rs → wS → Prop} {x1 : Option Nat} {w : wS} (hL : 25 ≤ L) (h : zb_X7_input_p186 E L Q x1 w) : kzE E L kt_M271 186 [(0, .ref (w_adr E.2.1 6 0)), (1, va_rf (x1))] [] w Q := by
  unfold zb_X7_input_p186 at h
  refine kz_aload_n (M := kt_M271) kX7_input_c10.2.2.2.2.2.2.2.1 rfl ?_
  refine kz_gfc (M := kt_M271) (x := 8) (c := 6) (o := 0) kX7_input_c11.1 wf_X7_15 (.inl rfl) ?_
  refine kz_bi (M := kt_M271) 7 kX7_input_c11.2.1 rfl ?_
  refine kz_aload_nv (M := kt_M271) (x := x1) kX7_input_c11.2.2.1 rfl ?_
  obtain ⟨p1, hxp1, hlp1, h⟩ := h
  refine kz_nz0 (x := x1) hxp1 ?_
  refine kz_gfp (M := kt_M271) (c := 14) (o := p1) kX7_input_c11.2.2.2.1 wf_X7_46 (.inr (by exact hlp1)) ?_
  obtain ⟨p2, hxp2, hlp2, h⟩ := h
  refine kz_nz0 (x := w_p w 14 p1 4) hxp2 ?_
  refine kz_gfi (M := kt_M271) (c := 14) (o := p2) kX7_input_c11.2.2.2.2.1 wf_X7_52 (.inr (by exact hlp2)) ?_
  refine kz_cv0 (M := kt_M271) (c := 2) (o := 0) (As := [.int 7, .int (w_i w 14 p2 2)]) (rest := []) kX7_input_c11.2.2.2.2.2.1 wl_X7_55 wMv_56 rfl (.inl rfl) rfl (Nat.le_trans (Nat.le_of_ble_eq_true rfl) hL) (Nat.le_of_ble_eq_true rfl) (Nat.le_of_ble_eq_true rfl) h (fun w3 hle h => ?_) (fun _ _ _ h => kzx_no rfl h)
  have h := h hle
  have hlp1 := w_l_le hlp1 hle
  have hlp2 := w_l_le hlp2 hle
  exact kz_weak [(0, .ref (w_adr E.2.1 6 0)), (1, va_rf (x1))] ⟨rfl, ⟨rfl, trivial⟩⟩ rfl (zt_X7_input_p202 hL  h)
def zb_X7_input_p146 (E : zE) (L : Nat) (Q : kx_Rs → wS → Prop) (x1 : Option Nat) (y0 : Int32) (w : wS) : Prop := (if ¬ y0 = 0 then (∃ p1, x1 = some p1 ∧ w_l w E.2.1 14 p1 ∧ (∃ p2, w_p w 14 p1 4 = some p2 ∧ w_l w E.2.1 14 p2 ∧ (if w_i w 14 p2 17 = 0 then zb_X7_input_p202 E L Q x1 w else (if ¬ w_i w 14 p2 17 = y0 then zb_X7_input_p186 E L Q x1 w else (if w_i w 14 p2 20 = 0 then zb_X7_input_p202 E L Q x1 w else zb_X7_input_p186 E L Q x1 w))))) else Q (.inl none) w)
theorem zt_X7_input_p146 {E : zE} {L : Nat} {Q : kx_Rs → wS → Prop} {x1 : Option Nat} {y0 : Int32} {w : wS} (hL : 25 ≤ L) (h : zb_X7_input_p146 E L Q x1 y0 w) : kzE E L kt_M271 146 [(0, .ref (w_adr E.2.1 6 0)), (1, va_rf (x1))] [.int y0] w Q := by
  unfold zb_X7_input_p146 at h
  refine kz_sti (M := kt_M271) [(0, .ref (w_adr E.2.1 6 0)), (1, va_rf (x1))] kX7_input_c8.2.2.2.2.2.2.1 (Nat.le_of_ble_eq_true rfl) ⟨⟨rfl, rfl, .inl rfl⟩, ⟨⟨rfl, rfl, .inl rfl⟩, trivial⟩⟩ rfl ?_
  refine kz_iload (M := kt_M271) kX7_input_c8.2.2.2.2.2.2.2.1 rfl ?_
  refine kz_if_ne (M := kt_M271) kX7_input_c9.1 (t := 154) rfl h (fun h => ?_) (fun h => ?_)
  · skip
    refine kz_aload_nv (M := kt_M271) (x := x1) kX7_input_c9.2.2.1 rfl ?_
    obtain ⟨p1, hxp1, hlp1, h⟩ := h
    refine kz_nz0 (x := x1) hxp1 ?_
    refine kz_gfp (M := kt_M271) (c := 14) (o := p1) kX7_input_c9.2.2.2.1 wf_X7_46 (.inr (by exact hlp1)) ?_
    obtain ⟨p2, hxp2, hlp2, h⟩ := h
    refine kz_nz0 (x := w_p w 14 p1 4) hxp2 ?_
    refine kz_gfi (M := kt_M271) (c := 14) (o := p2) kX7_input_c9.2.2.2.2.1 wf_X7_61 (.inr (by exact hlp2)) ?_
    refine kz_if_eq (M := kt_M271) kX7_input_c9.2.2.2.2.2.1 (t := 202) rfl h (fun h => ?_) (fun h => ?_)
    · skip
      exact kz_weak [(0, .ref (w_adr E.2.1 6 0)), (1, va_rf (x1))] ⟨rfl, ⟨rfl, trivial⟩⟩ rfl (zt_X7_input_p202 hL  h)
    · skip
      refine kz_aload_nv (M := kt_M271) (x := x1) kX7_input_c9.2.2.2.2.2.2.1 rfl ?_
      refine kz_nz0 (x := x1) hxp1 ?_
      refine kz_gfp (M := kt_M271) (c := 14) (o := p1) kX7_input_c9.2.2.2.2.2.2.2.1 wf_X7_46 (.inr (by exact hlp1)) ?_
      refine kz_nz0 (x := w_p w 14 p1 4) hxp2 ?_
      refine kz_gfi (M := kt_M271) (c := 14) (o := p2) kX7_input_c10.1 wf_X7_61 (.inr (by exact hlp2)) ?_
      refine kz_iload (M := kt_M271) kX7_input_c10.2.1 rfl ?_
      refine kz_icmp_ne (M := kt_M271) kX7_input_c10.2.2.1 (t := 186) rfl h (fun h => ?_) (fun h => ?_)
      · skip
        exact kz_weak [(0, .ref (w_adr E.2.1 6 0)), (1, va_rf (x1))] ⟨rfl, ⟨rfl, trivial⟩⟩ rfl (zt_X7_input_p186 hL  h)
      · skip
        refine kz_aload_nv (M := kt_M271) (x := x1) kX7_input_c10.2.2.2.1 rfl ?_
        refine kz_nz0 (x := x1) hxp1 ?_
        refine kz_gfp (M := kt_M271) (c := 14) (o := p1) kX7_input_c10.2.2.2.2.1 wf_X7_46 (.inr (by exact hlp1)) ?_
        refine kz_nz0 (x := w_p w 14 p1 4) hxp2 ?_
        refine kz_gfi (M := kt_M271) (c := 14) (o := p2) kX7_input_c10.2.2.2.2.2.1 wf_X7_64 (.inr (by exact hlp2)) ?_
        refine kz_if_eq (M := kt_M271) kX7_input_c10.2.2.2.2.2.2.1 (t := 202) rfl h (fun h => ?_) (fun h => ?_)
        · skip
          exact kz_weak [(0, .ref (w_adr E.2.1 6 0)), (1, va_rf (x1))] ⟨rfl, ⟨rfl, trivial⟩⟩ rfl (zt_X7_input_p202 hL  h)
        · skip
          exact kz_weak [(0, .ref (w_adr E.2.1 6 0)), (1, va_rf (x1))] ⟨rfl, ⟨rfl, trivial⟩⟩ rfl (zt_X7_input_p186 hL  h)
  · skip
    exact kz_ret (M := kt_M271) kX7_input_c9.2.1 rfl h
def zb_X7_input_p128 (E : zE) (L : Nat) (Q : kx_Rs → wS → Prop) (x1 : Option Nat) (x3 : Option Nat) (w : wS) : Prop := (∃ p1, x3 = some p1 ∧ w_l w E.2.1 15 p1 ∧ (if ¬ w_p w 15 p1 0 = some (E.1.1 58) then zb_X7_input_p146 E L Q x1 (w_i w 15 p1 5) w else zb_X7_input_p146 E L Q x1 1 w))
theorem zt_X7_input_p128 {E : zE} {L : Nat} {Q : kx_Rs → wS → Prop} {x1 : Option Nat} {x3 : Option Nat} {w : wS} (hL : 25 ≤ L) (h : zb_X7_input_p128 E L Q x1 x3 w) : kzE E L kt_M271 128 [(0, .ref (w_adr E.2.1 6 0)), (1, va_rf (x1)), (3, va_rf (x3))] [] w Q := by
  unfold zb_X7_input_p128 at h
  refine kz_aload_nv (M := kt_M271) (x := x3) kX7_input_c7.2.2.2.2.2.2.1 rfl ?_
  obtain ⟨p1, hxp1, hlp1, h⟩ := h
  refine kz_nz0 (x := x3) hxp1 ?_
  refine kz_gfp (M := kt_M271) (c := 15) (o := p1) kX7_input_c7.2.2.2.2.2.2.2.1 wf_X7_238 (.inr (by exact hlp1)) ?_
  refine kz_getsE (M := kt_M271) (v := va_rf (some (E.1.1 58))) kX7_input_c8.1 zs_X7_242 ?_
  refine kz_acmp_ne (M := kt_M271) (x := w_p w 15 p1 0) (y := some (E.1.1 58)) kX7_input_c8.2.1 (t := 142) rfl h (fun h => ?_) (fun h => ?_)
  · skip
    refine kz_aload_nv (M := kt_M271) (x := x3) kX7_input_c8.2.2.2.2.1 rfl ?_
    refine kz_nz0 (x := x3) hxp1 ?_
    refine kz_gfi (M := kt_M271) (c := 15) (o := p1) kX7_input_c8.2.2.2.2.2.1 wf_X7_134 (.inr (by exact hlp1)) ?_
    exact kz_weak [(0, .ref (w_adr E.2.1 6 0)), (1, va_rf (x1))] ⟨rfl, ⟨rfl, trivial⟩⟩ rfl (zt_X7_input_p146 hL  h)
  · skip
    refine kz_ic (M := kt_M271) 1 kX7_input_c8.2.2.1 rfl ?_
    refine kz_goto (M := kt_M271) kX7_input_c8.2.2.2.1 (t := 146) rfl ?_
    exact kz_weak [(0, .ref (w_adr E.2.1 6 0)), (1, va_rf (x1))] ⟨rfl, ⟨rfl, trivial⟩⟩ rfl (zt_X7_input_p146 hL  h)
def zb_X7_input_p79 (E : zE) (L : Nat) (Q : kx_Rs → wS → Prop) (x1 : Option Nat) (x3 : Option Nat) (x4 : Option Nat) (w : wS) : Prop := (if x4 = none then (∃ p1, x1 = some p1 ∧ w_l w E.2.1 14 p1 ∧ (∃ p2, w_p w 14 p1 3 = some p2 ∧ w_l w E.2.1 14 p2 ∧ (if w_i w 14 p2 11 = 0 then (∃ p3, x3 = some p3 ∧ w_l w E.2.1 15 p3 ∧ (if w_p w 15 p3 0 = some (E.1.1 58) then zb_X7_input_p128 E L Q x1 x3 w else (if ¬ (w_p w 15 p3 15) = none then (∃ p4, w_p w 15 p3 15 = some p4 ∧ w_l w E.2.1 15 p4 ∧ (if w_i w 15 p4 16 = 0 then zw E (L - 25) kt_M273 [.ref (w_adr E.2.1 6 0), va_rf (w_p w 14 p1 4), va_rf (w_p w 15 p4 17), .int (w_i w 14 p1 2)] w (wk0 (fun w5 => wle w w5 → zb_X7_input_p273 E L Q w5) (fun e w => Q (.inr e) w)) else zw E (L - 22) kt_M56 [.ref (w_adr E.2.1 2 0), .int 7, .int (w_i w 14 p1 2)] w (wk0 (fun w7 => wle w w7 → zb_X7_input_p273 E L Q w7) (fun e w => Q (.inr e) w)))) else zb_X7_input_p128 E L Q x1 x3 w))) else Q (.inl none) w))) else zw E (L - 22) kt_M279 [.ref (w_adr E.2.1 6 0), va_rf (x4)] w (wk0 (fun w9 => wle w w9 → (∃ p11, x4 = some p11 ∧ w_l w9 E.2.1 14 p11 ∧ zL_X7_input_p79 E L Q x1 x3 (w_p w9 14 p11 7) w9)) (fun e w => Q (.inr e) w)))
theorem zt_X7_input_p79 {E : zE} {L : Nat} {Q : kx_Rs → wS → Prop} {x1 : Option Nat} {x3 : Option Nat} {x4 : Option Nat} {w : wS} (hL : 25 ≤ L) (h : zb_X7_input_p79 E L Q x1 x3 x4 w) : kzE E L kt_M271 79 [(0, .ref (w_adr E.2.1 6 0)), (1, va_rf (x1)), (3, va_rf (x3)), (4, va_rf (x4))] [] w Q := by
  unfold zb_X7_input_p79 at h
  refine kz_aloadv (M := kt_M271) (x := x4) kX7_input_c5.2.1 rfl ?_
  refine kz_ifnull (M := kt_M271) (x := x4) kX7_input_c5.2.2.1 (t := 100) rfl h (fun h => ?_) (fun h => ?_)
  · skip
    refine kz_aload_nv (M := kt_M271) (x := x1) kX7_input_c6.2.2.1 rfl ?_
    obtain ⟨p1, hxp1, hlp1, h⟩ := h
    refine kz_nz0 (x := x1) hxp1 ?_
    refine kz_gfp (M := kt_M271) (c := 14) (o := p1) kX7_input_c6.2.2.2.1 wf_X7_34 (.inr (by exact hlp1)) ?_
    obtain ⟨p2, hxp2, hlp2, h⟩ := h
    refine kz_nz0 (x := w_p w 14 p1 3) hxp2 ?_
    refine kz_gfi (M := kt_M271) (c := 14) (o := p2) kX7_input_c6.2.2.2.2.1 wf_X7_141 (.inr (by exact hlp2)) ?_
    refine kz_if_eq (M := kt_M271) kX7_input_c6.2.2.2.2.2.1 (t := 111) rfl h (fun h => ?_) (fun h => ?_)
    · skip
      refine kz_aload_nv (M := kt_M271) (x := x3) kX7_input_c6.2.2.2.2.2.2.2.1 rfl ?_
      obtain ⟨p3, hxp3, hlp3, h⟩ := h
      refine kz_nz0 (x := x3) hxp3 ?_
      refine kz_gfp (M := kt_M271) (c := 15) (o := p3) kX7_input_c7.1 wf_X7_238 (.inr (by exact hlp3)) ?_
      refine kz_getsE (M := kt_M271) (v := va_rf (some (E.1.1 58))) kX7_input_c7.2.1 zs_X7_242 ?_
      refine kz_acmp_eq (M := kt_M271) (x := w_p w 15 p3 0) (y := some (E.1.1 58)) kX7_input_c7.2.2.1 (t := 128) rfl h (fun h => ?_) (fun h => ?_)
      · skip
        exact kz_weak [(0, .ref (w_adr E.2.1 6 0)), (1, va_rf (x1)), (3, va_rf (x3))] ⟨rfl, ⟨rfl, ⟨rfl, trivial⟩⟩⟩ rfl (zt_X7_input_p128 hL  h)
      · skip
        refine kz_aload_nv (M := kt_M271) (x := x3) kX7_input_c7.2.2.2.1 rfl ?_
        refine kz_nz0 (x := x3) hxp3 ?_
        refine kz_gfp (M := kt_M271) (c := 15) (o := p3) kX7_input_c7.2.2.2.2.1 wf_X7_151 (.inr (by exact hlp3)) ?_
        refine kz_ifnonnull (M := kt_M271) (x := w_p w 15 p3 15) kX7_input_c7.2.2.2.2.2.1 (t := 228) rfl h (fun h => ?_) (fun h => ?_)
        · skip
          refine kz_aload_nv (M := kt_M271) (x := x3) kX7_input_c13.2.1 rfl ?_
          refine kz_nz0 (x := x3) hxp3 ?_
          refine kz_gfp (M := kt_M271) (c := 15) (o := p3) kX7_input_c13.2.2.1 wf_X7_151 (.inr (by exact hlp3)) ?_
          obtain ⟨p4, hxp4, hlp4, h⟩ := h
          refine kz_nz0 (x := w_p w 15 p3 15) hxp4 ?_
          refine kz_gfi (M := kt_M271) (c := 15) (o := p4) kX7_input_c13.2.2.2.1 wf_X7_247 (.inr (by exact hlp4)) ?_
          refine kz_if_eq (M := kt_M271) kX7_input_c13.2.2.2.2.1 (t := 254) rfl h (fun h => ?_) (fun h => ?_)
          · skip
            refine kz_aload_n (M := kt_M271) kX7_input_c14.2.2.2.2.1 rfl ?_
            refine kz_aload_nv (M := kt_M271) (x := x1) kX7_input_c14.2.2.2.2.2.1 rfl ?_
            refine kz_nz0 (x := x1) hxp1 ?_
            refine kz_gfp (M := kt_M271) (c := 14) (o := p1) kX7_input_c14.2.2.2.2.2.2.1 wf_X7_46 (.inr (by exact hlp1)) ?_
            refine kz_aload_nv (M := kt_M271) (x := x3) kX7_input_c14.2.2.2.2.2.2.2.1 rfl ?_
            refine kz_nz0 (x := x3) hxp3 ?_
            refine kz_gfp (M := kt_M271) (c := 15) (o := p3) kX7_input_c15.1 wf_X7_151 (.inr (by exact hlp3)) ?_
            refine kz_nz0 (x := w_p w 15 p3 15) hxp4 ?_
            refine kz_gfp (M := kt_M271) (c := 15) (o := p4) kX7_input_c15.2.1 wf_X7_250 (.inr (by exact hlp4)) ?_
            refine kz_aload_nv (M := kt_M271) (x := x1) kX7_input_c15.2.2.1 rfl ?_
            refine kz_nz0 (x := x1) hxp1 ?_
            refine kz_gfi (M := kt_M271) (c := 14) (o := p1) kX7_input_c15.2.2.2.1 wf_X7_52 (.inr (by exact hlp1)) ?_
            refine kz_cv0 (M := kt_M271) (c := 6) (o := 0) (As := [va_rf (w_p w 14 p1 4), va_rf (w_p w 15 p4 17), .int (w_i w 14 p1 2)]) (rest := []) kX7_input_c15.2.2.2.2.1 wl_X7_252 wMv_273 rfl (.inl rfl) rfl (Nat.le_trans (Nat.le_of_ble_eq_true rfl) hL) (by simp [lg_sl, w_cat, z_ci, z_cr, z_cl, z_cn, kt_M273]) (Nat.le_of_ble_eq_true rfl) h (fun w5 hle h => ?_) (fun _ _ _ h => kzx_no rfl h)
            have h := h hle
            have hlp1 := w_l_le hlp1 hle
            have hlp2 := w_l_le hlp2 hle
            have hlp3 := w_l_le hlp3 hle
            have hlp4 := w_l_le hlp4 hle
            exact kz_weak [(0, .ref (w_adr E.2.1 6 0))] ⟨rfl, trivial⟩ rfl (zt_X7_input_p273 hL  h)
          · skip
            refine kz_aload_n (M := kt_M271) kX7_input_c13.2.2.2.2.2.1 rfl ?_
            refine kz_gfc (M := kt_M271) (x := 8) (c := 6) (o := 0) kX7_input_c13.2.2.2.2.2.2.1 wf_X7_15 (.inl rfl) ?_
            refine kz_bi (M := kt_M271) 7 kX7_input_c13.2.2.2.2.2.2.2.1 rfl ?_
            refine kz_aload_nv (M := kt_M271) (x := x1) kX7_input_c14.1 rfl ?_
            refine kz_nz0 (x := x1) hxp1 ?_
            refine kz_gfi (M := kt_M271) (c := 14) (o := p1) kX7_input_c14.2.1 wf_X7_52 (.inr (by exact hlp1)) ?_
            refine kz_cv0 (M := kt_M271) (c := 2) (o := 0) (As := [.int 7, .int (w_i w 14 p1 2)]) (rest := []) kX7_input_c14.2.2.1 wl_X7_55 wMv_56 rfl (.inl rfl) rfl (Nat.le_trans (Nat.le_of_ble_eq_true rfl) hL) (Nat.le_of_ble_eq_true rfl) (Nat.le_of_ble_eq_true rfl) h (fun w7 hle h => ?_) (fun _ _ _ h => kzx_no rfl h)
            have h := h hle
            have hlp1 := w_l_le hlp1 hle
            have hlp2 := w_l_le hlp2 hle
            have hlp3 := w_l_le hlp3 hle
            have hlp4 := w_l_le hlp4 hle
            refine kz_goto (M := kt_M271) kX7_input_c14.2.2.2.1 (t := 273) rfl ?_
            exact kz_weak [(0, .ref (w_adr E.2.1 6 0))] ⟨rfl, trivial⟩ rfl (zt_X7_input_p273 hL  h)
        · skip
          exact kz_weak [(0, .ref (w_adr E.2.1 6 0)), (1, va_rf (x1)), (3, va_rf (x3))] ⟨rfl, ⟨rfl, ⟨rfl, trivial⟩⟩⟩ rfl (zt_X7_input_p128 hL  h)
    · skip
      exact kz_ret (M := kt_M271) kX7_input_c6.2.2.2.2.2.2.1 rfl h
  · skip
    refine kz_aload_n (M := kt_M271) kX7_input_c5.2.2.2.1 rfl ?_
    refine kz_aloadv (M := kt_M271) (x := x4) kX7_input_c5.2.2.2.2.1 rfl ?_
    refine kz_cv0 (M := kt_M271) (c := 6) (o := 0) (As := [va_rf (x4)]) (rest := []) kX7_input_c5.2.2.2.2.2.1 wl_X7_138 wMv_279 rfl (.inl rfl) rfl (Nat.le_trans (Nat.le_of_ble_eq_true rfl) hL) (by simp [lg_sl, w_cat, z_ci, z_cr, z_cl, z_cn, kt_M279]) (Nat.le_of_ble_eq_true rfl) h (fun w9 hle h => ?_) (fun _ _ _ h => kzx_no rfl h)
    have h := h hle
    refine kz_aloadv (M := kt_M271) (x := x4) kX7_input_c5.2.2.2.2.2.2.1 rfl ?_
    obtain ⟨p11, hxp11, hlp11, h⟩ := h
    refine kz_nz0 (x := x4) hxp11 ?_
    refine kz_gfp (M := kt_M271) (c := 14) (o := p11) kX7_input_c5.2.2.2.2.2.2.2.1 wf_X7_43 (.inr (by exact hlp11)) ?_
    refine kz_stv (M := kt_M271) (x := w_p w9 14 p11 7) [(0, .ref (w_adr E.2.1 6 0)), (1, va_rf (x1)), (3, va_rf (x3))] kX7_input_c6.1 (Nat.le_of_ble_eq_true rfl) ⟨⟨rfl, rfl, .inl rfl⟩, ⟨⟨rfl, rfl, .inl rfl⟩, ⟨⟨rfl, rfl, .inr (w_cat (x3))⟩, trivial⟩⟩⟩ rfl ?_
    refine kz_goto (M := kt_M271) kX7_input_c6.2.1 (t := 79) rfl ?_
    exact kz_weak [(0, .ref (w_adr E.2.1 6 0)), (1, va_rf (x1)), (3, va_rf (x3)), (4, va_rf (w_p w9 14 p11 7))] ⟨rfl, ⟨rfl, ⟨rfl, ⟨rfl, trivial⟩⟩⟩⟩ rfl h
def zb_X7_input_p46 (E : zE) (L : Nat) (Q : kx_Rs → wS → Prop) (x1 : Option Nat) (x2 : Int32) (x3 : Option Nat) (w : wS) : Prop := (if ¬ x2 = 2 then (if ¬ x2 = 3 then (∃ p1, x1 = some p1 ∧ w_l w E.2.1 14 p1 ∧ zL_X7_input_p79 E L Q x1 x3 (w_p w 14 p1 4) w) else zw E (L - 25) kt_M288 [.ref (w_adr E.2.1 6 0), va_rf (x1), va_rf (x3)] w (wk0 (fun w2 => wle w w2 → Q (.inl none) w2) (fun e w => Q (.inr e) w))) else (∃ p4, x1 = some p4 ∧ w_l w E.2.1 14 p4 ∧ zw E (L - 22) kt_M289 [.ref (w_adr E.2.1 6 0), va_rf (w_p w 14 p4 4), .int 1] w (wk0 (fun w5 => wle w w5 → Q (.inl none) w5) (fun e w => Q (.inr e) w))))
theorem zt_X7_input_p46 {E : zE} {L : Nat} {Q : kx_Rs → wS → Prop} {x1 : Option Nat} {x2 : Int32} {x3 : Option Nat} {w : wS} (hL : 25 ≤ L) (h : zb_X7_input_p46 E L Q x1 x2 x3 w) : kzE E L kt_M271 46 [(0, .ref (w_adr E.2.1 6 0)), (1, va_rf (x1)), (2, .int x2), (3, va_rf (x3))] [] w Q := by
  unfold zb_X7_input_p46 at h
  refine kz_iload_n (M := kt_M271) kX7_input_c2.2.2.2.2.2.1 rfl ?_
  refine kz_ic (M := kt_M271) 2 kX7_input_c2.2.2.2.2.2.2.1 rfl ?_
  refine kz_icmp_ne (M := kt_M271) kX7_input_c2.2.2.2.2.2.2.2.1 (t := 61) rfl h (fun h => ?_) (fun h => ?_)
  · skip
    refine kz_iload_n (M := kt_M271) kX7_input_c3.2.2.2.2.2.2.1 rfl ?_
    refine kz_ic (M := kt_M271) 3 kX7_input_c3.2.2.2.2.2.2.2.1 rfl ?_
    refine kz_icmp_ne (M := kt_M271) kX7_input_c4.1 (t := 73) rfl h (fun h => ?_) (fun h => ?_)
    · skip
      refine kz_aload_nv (M := kt_M271) (x := x1) kX7_input_c4.2.2.2.2.2.2.1 rfl ?_
      obtain ⟨p1, hxp1, hlp1, h⟩ := h
      refine kz_nz0 (x := x1) hxp1 ?_
      refine kz_gfp (M := kt_M271) (c := 14) (o := p1) kX7_input_c4.2.2.2.2.2.2.2.1 wf_X7_46 (.inr (by exact hlp1)) ?_
      refine kz_stv (M := kt_M271) (x := w_p w 14 p1 4) [(0, .ref (w_adr E.2.1 6 0)), (1, va_rf (x1)), (3, va_rf (x3))] kX7_input_c5.1 (Nat.le_of_ble_eq_true rfl) ⟨⟨rfl, rfl, .inl rfl⟩, ⟨⟨rfl, rfl, .inl rfl⟩, ⟨⟨rfl, rfl, .inr (w_cat (x3))⟩, trivial⟩⟩⟩ rfl ?_
      exact kz_weak [(0, .ref (w_adr E.2.1 6 0)), (1, va_rf (x1)), (3, va_rf (x3)), (4, va_rf (w_p w 14 p1 4))] ⟨rfl, ⟨rfl, ⟨rfl, ⟨rfl, trivial⟩⟩⟩⟩ rfl h
    · skip
      refine kz_aload_n (M := kt_M271) kX7_input_c4.2.1 rfl ?_
      refine kz_aload_nv (M := kt_M271) (x := x1) kX7_input_c4.2.2.1 rfl ?_
      refine kz_aload_nv (M := kt_M271) (x := x3) kX7_input_c4.2.2.2.1 rfl ?_
      refine kz_cv0 (M := kt_M271) (c := 6) (o := 0) (As := [va_rf (x1), va_rf (x3)]) (rest := []) kX7_input_c4.2.2.2.2.1 wl_X7_234 wMv_288 rfl (.inl rfl) rfl (Nat.le_trans (Nat.le_of_ble_eq_true rfl) hL) (by simp [lg_sl, w_cat, z_ci, z_cr, z_cl, z_cn, kt_M288]) (Nat.le_of_ble_eq_true rfl) h (fun w2 hle h => ?_) (fun _ _ _ h => kzx_no rfl h)
      have h := h hle
      exact kz_ret (M := kt_M271) kX7_input_c4.2.2.2.2.2.1 rfl h
  · skip
    refine kz_aload_n (M := kt_M271) kX7_input_c3.1 rfl ?_
    refine kz_aload_nv (M := kt_M271) (x := x1) kX7_input_c3.2.1 rfl ?_
    obtain ⟨p4, hxp4, hlp4, h⟩ := h
    refine kz_nz0 (x := x1) hxp4 ?_
    refine kz_gfp (M := kt_M271) (c := 14) (o := p4) kX7_input_c3.2.2.1 wf_X7_46 (.inr (by exact hlp4)) ?_
    refine kz_ic (M := kt_M271) 1 kX7_input_c3.2.2.2.1 rfl ?_
    refine kz_cv0 (M := kt_M271) (c := 6) (o := 0) (As := [va_rf (w_p w 14 p4 4), .int 1]) (rest := []) kX7_input_c3.2.2.2.2.1 wl_X7_167 wMv_289 rfl (.inl rfl) rfl (Nat.le_trans (Nat.le_of_ble_eq_true rfl) hL) (by simp [lg_sl, w_cat, z_ci, z_cr, z_cl, z_cn, kt_M289]) (Nat.le_of_ble_eq_true rfl) h (fun w5 hle h => ?_) (fun _ _ _ h => kzx_no rfl h)
    have h := h hle
    have hlp4 := w_l_le hlp4 hle
    exact kz_ret (M := kt_M271) kX7_input_c3.2.2.2.2.2.1 rfl h
def zb_X7_input_p0 (E : zE) (L : Nat) (Q : kx_Rs → wS → Prop) (x1 : Option Nat) (x2 : Int32) (w : wS) : Prop := (∃ p1, x1 = some p1 ∧ w_l w E.2.1 14 p1 ∧ zw E (L - 22) kt_M279 [.ref (w_adr E.2.1 6 0), va_rf (w_p w 14 p1 3)] w (wk0 (fun w2 => wle w w2 → (∃ p4, w_p w2 14 p1 3 = some p4 ∧ w_l w2 E.2.1 14 p4 ∧ (if (w_p w2 14 p4 16) = none then zb_X7_input_p46 E L Q x1 x2 (w_p w2 14 p4 16) w2 else (if w_i w2 14 p4 20 = 0 then zb_X7_input_p46 E L Q x1 x2 (w_p w2 14 p4 16) w2 else zw E (L - 22) kt_M56 [.ref (w_adr E.2.1 2 0), .int 7, .int (w_i w2 14 p4 2)] w2 (wk0 (fun w5 => wle w2 w5 → zb_X7_input_p46 E L Q x1 x2 (w_p w2 14 p4 16) w5) (fun e w => Q (.inr e) w)))))) (fun e w => Q (.inr e) w)))
theorem zt_X7_input_p0 {E : zE} {L : Nat} {Q : kx_Rs → wS → Prop} {x1 : Option Nat} {x2 : Int32} {w : wS} (hL : 25 ≤ L) (h : zb_X7_input_p0 E L Q x1 x2 w) : kzE E L kt_M271 0 [(0, .ref (w_adr E.2.1 6 0)), (1, va_rf (x1)), (2, .int x2)] [] w Q := by
  unfold zb_X7_input_p0 at h
  refine kz_aload_n (M := kt_M271) kX7_input_c0.1 rfl ?_
  refine kz_aload_nv (M := kt_M271) (x := x1) kX7_input_c0.2.1 rfl ?_
  obtain ⟨p1, hxp1, hlp1, h⟩ := h
  refine kz_nz0 (x := x1) hxp1 ?_
  refine kz_gfp (M := kt_M271) (c := 14) (o := p1) kX7_input_c0.2.2.1 wf_X7_34 (.inr (by exact hlp1)) ?_
  refine kz_cv0 (M := kt_M271) (c := 6) (o := 0) (As := [va_rf (w_p w 14 p1 3)]) (rest := []) kX7_input_c0.2.2.2.1 wl_X7_138 wMv_279 rfl (.inl rfl) rfl (Nat.le_trans (Nat.le_of_ble_eq_true rfl) hL) (by simp [lg_sl, w_cat, z_ci, z_cr, z_cl, z_cn, kt_M279]) (Nat.le_of_ble_eq_true rfl) h (fun w2 hle h => ?_) (fun _ _ _ h => kzx_no rfl h)
  have h := h hle
  have hlp1 := w_l_le hlp1 hle
  refine kz_aload_nv (M := kt_M271) (x := x1) kX7_input_c0.2.2.2.2.1 rfl ?_
  refine kz_nz0 (x := x1) hxp1 ?_
  refine kz_gfp (M := kt_M271) (c := 14) (o := p1) kX7_input_c0.2.2.2.2.2.1 wf_X7_34 (.inr (by exact hlp1)) ?_
  obtain ⟨p4, hxp4, hlp4, h⟩ := h
  refine kz_nz0 (x := w_p w2 14 p1 3) hxp4 ?_
  refine kz_gfp (M := kt_M271) (c := 14) (o := p4) kX7_input_c0.2.2.2.2.2.2.1 wf_X7_103 (.inr (by exact hlp4)) ?_
  refine kz_stv_n (M := kt_M271) (x := w_p w2 14 p4 16) [(0, .ref (w_adr E.2.1 6 0)), (1, va_rf (x1)), (2, .int x2)] kX7_input_c0.2.2.2.2.2.2.2.1 (Nat.le_of_ble_eq_true rfl) ⟨⟨rfl, rfl, .inl rfl⟩, ⟨⟨rfl, rfl, .inl rfl⟩, ⟨⟨rfl, rfl, .inr rfl⟩, trivial⟩⟩⟩ rfl ?_
  refine kz_aload_nv (M := kt_M271) (x := w_p w2 14 p4 16) kX7_input_c1.1 rfl ?_
  refine kz_ifnull (M := kt_M271) (x := w_p w2 14 p4 16) kX7_input_c1.2.1 (t := 46) rfl h (fun h => ?_) (fun h => ?_)
  · skip
    exact kz_weak [(0, .ref (w_adr E.2.1 6 0)), (1, va_rf (x1)), (2, .int x2), (3, va_rf (w_p w2 14 p4 16))] ⟨rfl, ⟨rfl, ⟨rfl, ⟨rfl, trivial⟩⟩⟩⟩ rfl (zt_X7_input_p46 hL  h)
  · skip
    refine kz_aload_nv (M := kt_M271) (x := x1) kX7_input_c1.2.2.1 rfl ?_
    refine kz_nz0 (x := x1) hxp1 ?_
    refine kz_gfp (M := kt_M271) (c := 14) (o := p1) kX7_input_c1.2.2.2.1 wf_X7_34 (.inr (by exact hlp1)) ?_
    refine kz_nz0 (x := w_p w2 14 p1 3) hxp4 ?_
    refine kz_gfi (M := kt_M271) (c := 14) (o := p4) kX7_input_c1.2.2.2.2.1 wf_X7_64 (.inr (by exact hlp4)) ?_
    refine kz_if_eq (M := kt_M271) kX7_input_c1.2.2.2.2.2.1 (t := 46) rfl h (fun h => ?_) (fun h => ?_)
    · skip
      exact kz_weak [(0, .ref (w_adr E.2.1 6 0)), (1, va_rf (x1)), (2, .int x2), (3, va_rf (w_p w2 14 p4 16))] ⟨rfl, ⟨rfl, ⟨rfl, ⟨rfl, trivial⟩⟩⟩⟩ rfl (zt_X7_input_p46 hL  h)
    · skip
      refine kz_aload_n (M := kt_M271) kX7_input_c1.2.2.2.2.2.2.1 rfl ?_
      refine kz_gfc (M := kt_M271) (x := 8) (c := 6) (o := 0) kX7_input_c1.2.2.2.2.2.2.2.1 wf_X7_15 (.inl rfl) ?_
      refine kz_bi (M := kt_M271) 7 kX7_input_c2.1 rfl ?_
      refine kz_aload_nv (M := kt_M271) (x := x1) kX7_input_c2.2.1 rfl ?_
      refine kz_nz0 (x := x1) hxp1 ?_
      refine kz_gfp (M := kt_M271) (c := 14) (o := p1) kX7_input_c2.2.2.1 wf_X7_34 (.inr (by exact hlp1)) ?_
      refine kz_nz0 (x := w_p w2 14 p1 3) hxp4 ?_
      refine kz_gfi (M := kt_M271) (c := 14) (o := p4) kX7_input_c2.2.2.2.1 wf_X7_52 (.inr (by exact hlp4)) ?_
      refine kz_cv0 (M := kt_M271) (c := 2) (o := 0) (As := [.int 7, .int (w_i w2 14 p4 2)]) (rest := []) kX7_input_c2.2.2.2.2.1 wl_X7_55 wMv_56 rfl (.inl rfl) rfl (Nat.le_trans (Nat.le_of_ble_eq_true rfl) hL) (Nat.le_of_ble_eq_true rfl) (Nat.le_of_ble_eq_true rfl) h (fun w5 hle h => ?_) (fun _ _ _ h => kzx_no rfl h)
      have h := h hle
      have hlp1 := w_l_le hlp1 hle
      have hlp4 := w_l_le hlp4 hle
      exact kz_weak [(0, .ref (w_adr E.2.1 6 0)), (1, va_rf (x1)), (2, .int x2), (3, va_rf (w_p w2 14 p4 16))] ⟨rfl, ⟨rfl, ⟨rfl, ⟨rfl, trivial⟩⟩⟩⟩ rfl (zt_X7_input_p46 hL  h)
def zL_X7_variants_p185 (E : zE) (L : Nat) (Q : kx_Rs → wS → Prop) (x1 : Option Nat) (x2 : Option Nat) (x3 : Int32) (x4 : Option Nat) (x5 : Option Nat) (w : wS) : Prop := kzE E L kt_M288 185 [(0, .ref (w_adr E.2.1 6 0)), (1, va_rf (x1)), (2, va_rf (x2)), (3, .int x3), (4, va_rf (x4)), (5, va_rf (x5))] [] w Q
def zL_X7_variants_p78 (E : zE) (L : Nat) (Q : kx_Rs → wS → Prop) (x1 : Option Nat) (x2 : Option Nat) (x3 : Int32) (x4 : Option Nat) (x5 : Option Nat) (w : wS) : Prop := kzE E L kt_M288 78 [(0, .ref (w_adr E.2.1 6 0)), (1, va_rf (x1)), (2, va_rf (x2)), (3, .int x3), (4, va_rf (x4)), (5, va_rf (x5))] [] w Q
def zL_X7_variants_p66 (E : zE) (L : Nat) (Q : kx_Rs → wS → Prop) (x1 : Option Nat) (x2 : Option Nat) (x3 : Int32) (x4 : Option Nat) (w : wS) : Prop := kzE E L kt_M288 66 [(0, .ref (w_adr E.2.1 6 0)), (1, va_rf (x1)), (2, va_rf (x2)), (3, .int x3), (4, va_rf (x4))] [] w Q
def zb_X7_variants_p229 (E : zE) (L : Nat) (Q : kx_Rs → wS → Prop) (x1 : Option Nat) (x2 : Option Nat) (x3 : Int32) (x4 : Option Nat) (w : wS) : Prop := (∃ p1, x4 = some p1 ∧ w_l w E.2.1 14 p1 ∧ zw E (L - 22) kt_M280 [.ref (w_adr E.2.1 6 0), va_rf (w_p w 14 p1 6)] w (wk0 (fun w2 => wle w w2 → zL_X7_variants_p66 E L Q x1 x2 x3 (w_p w2 14 p1 7) w2) (fun e w => Q (.inr e) w)))
theorem zt_X7_variants_p229 {E : zE} {L : Nat} {Q : kx_Rs → wS → Prop} {x1 : Option Nat} {x2 : Option Nat} {x3 : Int32} {x4 : Option Nat} {w : wS} (hL : 25 ≤ L) (h : zb_X7_variants_p229 E L Q x1 x2 x3 x4 w) : kzE E L kt_M288 229 [(0, .ref (w_adr E.2.1 6 0)), (1, va_rf (x1)), (2, va_rf (x2)), (3, .int x3), (4, va_rf (x4))] [] w Q := by
  unfold zb_X7_variants_p229 at h
  refine kz_aload_n (M := kt_M288) kX7_variants_c12.2.2.1 rfl ?_
  refine kz_aloadv (M := kt_M288) (x := x4) kX7_variants_c12.2.2.2.1 rfl ?_
  obtain ⟨p1, hxp1, hlp1, h⟩ := h
  refine kz_nz0 (x := x4) hxp1 ?_
  refine kz_gfp (M := kt_M288) (c := 14) (o := p1) kX7_variants_c12.2.2.2.2.1 wf_X7_164 (.inr (by exact hlp1)) ?_
  refine kz_cv0 (M := kt_M288) (c := 6) (o := 0) (As := [va_rf (w_p w 14 p1 6)]) (rest := []) kX7_variants_c12.2.2.2.2.2.1 wl_X7_30 wMv_280 rfl (.inl rfl) rfl (Nat.le_trans (Nat.le_of_ble_eq_true rfl) hL) (by simp [lg_sl, w_cat, z_ci, z_cr, z_cl, z_cn, kt_M280]) (Nat.le_of_ble_eq_true rfl) h (fun w2 hle h => ?_) (fun _ _ _ h => kzx_no rfl h)
  have h := h hle
  have hlp1 := w_l_le hlp1 hle
  refine kz_aloadv (M := kt_M288) (x := x4) kX7_variants_c12.2.2.2.2.2.2.1 rfl ?_
  refine kz_nz0 (x := x4) hxp1 ?_
  refine kz_gfp (M := kt_M288) (c := 14) (o := p1) kX7_variants_c12.2.2.2.2.2.2.2.1 wf_X7_43 (.inr (by exact hlp1)) ?_
  refine kz_stv (M := kt_M288) (x := w_p w2 14 p1 7) [(0, .ref (w_adr E.2.1 6 0)), (1, va_rf (x1)), (2, va_rf (x2)), (3, .int x3)] kX7_variants_c13.1 (Nat.le_of_ble_eq_true rfl) ⟨⟨rfl, rfl, .inl rfl⟩, ⟨⟨rfl, rfl, .inl rfl⟩, ⟨⟨rfl, rfl, .inl rfl⟩, ⟨⟨rfl, rfl, .inr rfl⟩, trivial⟩⟩⟩⟩ rfl ?_
  refine kz_goto (M := kt_M288) kX7_variants_c13.2.1 (t := 66) rfl ?_
  exact kz_weak [(0, .ref (w_adr E.2.1 6 0)), (1, va_rf (x1)), (2, va_rf (x2)), (3, .int x3), (4, va_rf (w_p w2 14 p1 7))] ⟨rfl, ⟨rfl, ⟨rfl, ⟨rfl, ⟨rfl, trivial⟩⟩⟩⟩⟩ rfl h
def zb_X7_variants_p219 (E : zE) (L : Nat) (Q : kx_Rs → wS → Prop) (x1 : Option Nat) (x2 : Option Nat) (x3 : Int32) (x4 : Option Nat) (x5 : Option Nat) (w : wS) : Prop := (∃ p1, x5 = some p1 ∧ w_l w E.2.1 14 p1 ∧ zL_X7_variants_p185 E L Q x1 x2 x3 x4 (w_p w 14 p1 7) w)
theorem zt_X7_variants_p219 {E : zE} {L : Nat} {Q : kx_Rs → wS → Prop} {x1 : Option Nat} {x2 : Option Nat} {x3 : Int32} {x4 : Option Nat} {x5 : Option Nat} {w : wS} (hL : 25 ≤ L) (h : zb_X7_variants_p219 E L Q x1 x2 x3 x4 x5 w) : kzE E L kt_M288 219 [(0, .ref (w_adr E.2.1 6 0)), (1, va_rf (x1)), (2, va_rf (x2)), (3, .int x3), (4, va_rf (x4)), (5, va_rf (x5))] [] w Q := by
  unfold zb_X7_variants_p219 at h
  refine kz_aloadv (M := kt_M288) (x := x5) kX7_variants_c11.2.2.2.2.2.2.1 rfl ?_
  obtain ⟨p1, hxp1, hlp1, h⟩ := h
  refine kz_nz0 (x := x5) hxp1 ?_
  refine kz_gfp (M := kt_M288) (c := 14) (o := p1) kX7_variants_c11.2.2.2.2.2.2.2.1 wf_X7_43 (.inr (by exact hlp1)) ?_
  refine kz_stv (M := kt_M288) (x := w_p w 14 p1 7) [(0, .ref (w_adr E.2.1 6 0)), (1, va_rf (x1)), (2, va_rf (x2)), (3, .int x3), (4, va_rf (x4))] kX7_variants_c12.1 (Nat.le_of_ble_eq_true rfl) ⟨⟨rfl, rfl, .inl rfl⟩, ⟨⟨rfl, rfl, .inl rfl⟩, ⟨⟨rfl, rfl, .inl rfl⟩, ⟨⟨rfl, rfl, .inl rfl⟩, ⟨⟨rfl, rfl, .inr (w_cat (x4))⟩, trivial⟩⟩⟩⟩⟩ rfl ?_
  refine kz_goto (M := kt_M288) kX7_variants_c12.2.1 (t := 185) rfl ?_
  exact kz_weak [(0, .ref (w_adr E.2.1 6 0)), (1, va_rf (x1)), (2, va_rf (x2)), (3, .int x3), (4, va_rf (x4)), (5, va_rf (w_p w 14 p1 7))] ⟨rfl, ⟨rfl, ⟨rfl, ⟨rfl, ⟨rfl, ⟨rfl, trivial⟩⟩⟩⟩⟩⟩ rfl h
def zb_X7_variants_p185 (E : zE) (L : Nat) (Q : kx_Rs → wS → Prop) (x1 : Option Nat) (x2 : Option Nat) (x3 : Int32) (x4 : Option Nat) (x5 : Option Nat) (w : wS) : Prop := (if x5 = x4 then zb_X7_variants_p229 E L Q x1 x2 x3 x4 w else (∃ p1, x5 = some p1 ∧ w_l w E.2.1 14 p1 ∧ (∃ p2, x4 = some p2 ∧ w_l w E.2.1 14 p2 ∧ (if ¬ w_p w 14 p1 16 = w_p w 14 p2 16 then zb_X7_variants_p219 E L Q x1 x2 x3 x4 x5 w else zw E (L - 22) kt_M56 [.ref (w_adr E.2.1 2 0), .int 10, .int (w_i w 14 p2 2)] w (wk0 (fun w3 => wle w w3 → zb_X7_variants_p219 E L Q x1 x2 x3 x4 x5 w3) (fun e w => Q (.inr e) w))))))
theorem zt_X7_variants_p185 {E : zE} {L : Nat} {Q : kx_Rs → wS → Prop} {x1 : Option Nat} {x2 : Option Nat} {x3 : Int32} {x4 : Option Nat} {x5 : Option Nat} {w : wS} (hL : 25 ≤ L) (h : zb_X7_variants_p185 E L Q x1 x2 x3 x4 x5 w) : kzE E L kt_M288 185 [(0, .ref (w_adr E.2.1 6 0)), (1, va_rf (x1)), (2, va_rf (x2)), (3, .int x3), (4, va_rf (x4)), (5, va_rf (x5))] [] w Q := by
  unfold zb_X7_variants_p185 at h
  refine kz_aloadv (M := kt_M288) (x := x5) kX7_variants_c10.1 rfl ?_
  refine kz_aloadv (M := kt_M288) (x := x4) kX7_variants_c10.2.1 rfl ?_
  refine kz_acmp_eq (M := kt_M288) (x := x5) (y := x4) kX7_variants_c10.2.2.1 (t := 229) rfl h (fun h => ?_) (fun h => ?_)
  · skip
    exact kz_weak [(0, .ref (w_adr E.2.1 6 0)), (1, va_rf (x1)), (2, va_rf (x2)), (3, .int x3), (4, va_rf (x4))] ⟨rfl, ⟨rfl, ⟨rfl, ⟨rfl, ⟨rfl, trivial⟩⟩⟩⟩⟩ rfl (zt_X7_variants_p229 hL  h)
  · skip
    refine kz_aloadv (M := kt_M288) (x := x5) kX7_variants_c10.2.2.2.1 rfl ?_
    obtain ⟨p1, hxp1, hlp1, h⟩ := h
    refine kz_nz0 (x := x5) hxp1 ?_
    refine kz_gfp (M := kt_M288) (c := 14) (o := p1) kX7_variants_c10.2.2.2.2.1 wf_X7_103 (.inr (by exact hlp1)) ?_
    refine kz_aloadv (M := kt_M288) (x := x4) kX7_variants_c10.2.2.2.2.2.1 rfl ?_
    obtain ⟨p2, hxp2, hlp2, h⟩ := h
    refine kz_nz0 (x := x4) hxp2 ?_
    refine kz_gfp (M := kt_M288) (c := 14) (o := p2) kX7_variants_c10.2.2.2.2.2.2.1 wf_X7_103 (.inr (by exact hlp2)) ?_
    refine kz_acmp_ne (M := kt_M288) (x := w_p w 14 p1 16) (y := w_p w 14 p2 16) kX7_variants_c10.2.2.2.2.2.2.2.1 (t := 219) rfl h (fun h => ?_) (fun h => ?_)
    · skip
      exact kz_weak [(0, .ref (w_adr E.2.1 6 0)), (1, va_rf (x1)), (2, va_rf (x2)), (3, .int x3), (4, va_rf (x4)), (5, va_rf (x5))] ⟨rfl, ⟨rfl, ⟨rfl, ⟨rfl, ⟨rfl, ⟨rfl, trivial⟩⟩⟩⟩⟩⟩ rfl (zt_X7_variants_p219 hL  h)
    · skip
      refine kz_aload_n (M := kt_M288) kX7_variants_c11.1 rfl ?_
      refine kz_gfc (M := kt_M288) (x := 8) (c := 6) (o := 0) kX7_variants_c11.2.1 wf_X7_15 (.inl rfl) ?_
      refine kz_bi (M := kt_M288) 10 kX7_variants_c11.2.2.1 rfl ?_
      refine kz_aloadv (M := kt_M288) (x := x4) kX7_variants_c11.2.2.2.1 rfl ?_
      refine kz_nz0 (x := x4) hxp2 ?_
      refine kz_gfi (M := kt_M288) (c := 14) (o := p2) kX7_variants_c11.2.2.2.2.1 wf_X7_52 (.inr (by exact hlp2)) ?_
      refine kz_cv0 (M := kt_M288) (c := 2) (o := 0) (As := [.int 10, .int (w_i w 14 p2 2)]) (rest := []) kX7_variants_c11.2.2.2.2.2.1 wl_X7_55 wMv_56 rfl (.inl rfl) rfl (Nat.le_trans (Nat.le_of_ble_eq_true rfl) hL) (Nat.le_of_ble_eq_true rfl) (Nat.le_of_ble_eq_true rfl) h (fun w3 hle h => ?_) (fun _ _ _ h => kzx_no rfl h)
      have h := h hle
      have hlp1 := w_l_le hlp1 hle
      have hlp2 := w_l_le hlp2 hle
      exact kz_weak [(0, .ref (w_adr E.2.1 6 0)), (1, va_rf (x1)), (2, va_rf (x2)), (3, .int x3), (4, va_rf (x4)), (5, va_rf (x5))] ⟨rfl, ⟨rfl, ⟨rfl, ⟨rfl, ⟨rfl, ⟨rfl, trivial⟩⟩⟩⟩⟩⟩ rfl (zt_X7_variants_p219 hL  h)
def zb_X7_variants_p157 (E : zE) (L : Nat) (Q : kx_Rs → wS → Prop) (x1 : Option Nat) (x2 : Option Nat) (x3 : Int32) (x4 : Option Nat) (w : wS) : Prop := (∃ p1, x4 = some p1 ∧ w_l w E.2.1 14 p1 ∧ (∃ p2, w_p w 14 p1 16 = some p2 ∧ w_l w E.2.1 15 p2 ∧ zw E (L - 25) kt_M273 [.ref (w_adr E.2.1 6 0), va_rf (w_p w 14 p1 4), va_rf (w_p w 15 p2 17), .int (w_i w 14 p1 2)] w (wk0 (fun w3 => wle w w3 → (∃ p5, x1 = some p5 ∧ w_l w3 E.2.1 14 p5 ∧ zL_X7_variants_p185 E L Q x1 x2 x3 x4 (w_p w3 14 p5 4) w3)) (fun e w => Q (.inr e) w))))
theorem zt_X7_variants_p157 {E : zE} {L : Nat} {Q : kx_Rs → wS → Prop} {x1 : Option Nat} {x2 : Option Nat} {x3 : Int32} {x4 : Option Nat} {w : wS} (hL : 25 ≤ L) (h : zb_X7_variants_p157 E L Q x1 x2 x3 x4 w) : kzE E L kt_M288 157 [(0, .ref (w_adr E.2.1 6 0)), (1, va_rf (x1)), (2, va_rf (x2)), (3, .int x3), (4, va_rf (x4))] [] w Q := by
  unfold zb_X7_variants_p157 at h
  refine kz_aload_n (M := kt_M288) kX7_variants_c8.2.2.2.2.1 rfl ?_
  refine kz_aloadv (M := kt_M288) (x := x4) kX7_variants_c8.2.2.2.2.2.1 rfl ?_
  obtain ⟨p1, hxp1, hlp1, h⟩ := h
  refine kz_nz0 (x := x4) hxp1 ?_
  refine kz_gfp (M := kt_M288) (c := 14) (o := p1) kX7_variants_c8.2.2.2.2.2.2.1 wf_X7_46 (.inr (by exact hlp1)) ?_
  refine kz_aloadv (M := kt_M288) (x := x4) kX7_variants_c8.2.2.2.2.2.2.2.1 rfl ?_
  refine kz_nz0 (x := x4) hxp1 ?_
  refine kz_gfp (M := kt_M288) (c := 14) (o := p1) kX7_variants_c9.1 wf_X7_103 (.inr (by exact hlp1)) ?_
  obtain ⟨p2, hxp2, hlp2, h⟩ := h
  refine kz_nz0 (x := w_p w 14 p1 16) hxp2 ?_
  refine kz_gfp (M := kt_M288) (c := 15) (o := p2) kX7_variants_c9.2.1 wf_X7_250 (.inr (by exact hlp2)) ?_
  refine kz_aloadv (M := kt_M288) (x := x4) kX7_variants_c9.2.2.1 rfl ?_
  refine kz_nz0 (x := x4) hxp1 ?_
  refine kz_gfi (M := kt_M288) (c := 14) (o := p1) kX7_variants_c9.2.2.2.1 wf_X7_52 (.inr (by exact hlp1)) ?_
  refine kz_cv0 (M := kt_M288) (c := 6) (o := 0) (As := [va_rf (w_p w 14 p1 4), va_rf (w_p w 15 p2 17), .int (w_i w 14 p1 2)]) (rest := []) kX7_variants_c9.2.2.2.2.1 wl_X7_252 wMv_273 rfl (.inl rfl) rfl (Nat.le_trans (Nat.le_of_ble_eq_true rfl) hL) (by simp [lg_sl, w_cat, z_ci, z_cr, z_cl, z_cn, kt_M273]) (Nat.le_of_ble_eq_true rfl) h (fun w3 hle h => ?_) (fun _ _ _ h => kzx_no rfl h)
  have h := h hle
  have hlp1 := w_l_le hlp1 hle
  have hlp2 := w_l_le hlp2 hle
  refine kz_aload_nv (M := kt_M288) (x := x1) kX7_variants_c9.2.2.2.2.2.1 rfl ?_
  obtain ⟨p5, hxp5, hlp5, h⟩ := h
  refine kz_nz0 (x := x1) hxp5 ?_
  refine kz_gfp (M := kt_M288) (c := 14) (o := p5) kX7_variants_c9.2.2.2.2.2.2.1 wf_X7_46 (.inr (by exact hlp5)) ?_
  refine kz_stv (M := kt_M288) (x := w_p w3 14 p5 4) [(0, .ref (w_adr E.2.1 6 0)), (1, va_rf (x1)), (2, va_rf (x2)), (3, .int x3), (4, va_rf (x4))] kX7_variants_c9.2.2.2.2.2.2.2.1 (Nat.le_of_ble_eq_true rfl) ⟨⟨rfl, rfl, .inl rfl⟩, ⟨⟨rfl, rfl, .inl rfl⟩, ⟨⟨rfl, rfl, .inl rfl⟩, ⟨⟨rfl, rfl, .inl rfl⟩, ⟨⟨rfl, rfl, .inr (w_cat (x4))⟩, trivial⟩⟩⟩⟩⟩ rfl ?_
  exact kz_weak [(0, .ref (w_adr E.2.1 6 0)), (1, va_rf (x1)), (2, va_rf (x2)), (3, .int x3), (4, va_rf (x4)), (5, va_rf (w_p w3 14 p5 4))] ⟨rfl, ⟨rfl, ⟨rfl, ⟨rfl, ⟨rfl, ⟨rfl, trivial⟩⟩⟩⟩⟩⟩ rfl h
def zb_X7_variants_p78 (E : zE) (L : Nat) (Q : kx_Rs → wS → Prop) (x1 : Option Nat) (x2 : Option Nat) (x3 : Int32) (x4 : Option Nat) (x5 : Option Nat) (w : wS) : Prop := (if x5 = none then (∃ p1, x4 = some p1 ∧ w_l w E.2.1 14 p1 ∧ (if (w_p w 14 p1 16) = none then zb_X7_variants_p229 E L Q x1 x2 x3 x4 w else (if x3 = 0 then zb_X7_variants_p157 E L Q x1 x2 x3 x4 w else (∃ p2, x2 = some p2 ∧ w_l w E.2.1 15 p2 ∧ (if (w_p w 15 p2 15) = none then zb_X7_variants_p157 E L Q x1 x2 x3 x4 w else (∃ p3, w_p w 15 p2 15 = some p3 ∧ w_l w E.2.1 15 p3 ∧ (if w_i w 15 p3 16 = 0 then zb_X7_variants_p157 E L Q x1 x2 x3 x4 w else (∃ p4, w_p w 14 p1 16 = some p4 ∧ w_l w E.2.1 15 p4 ∧ (if w_p w 15 p4 15 = w_p w 15 p2 15 then zb_X7_variants_p157 E L Q x1 x2 x3 x4 w else zw E (L - 22) kt_M56 [.ref (w_adr E.2.1 2 0), .int 7, .int (w_i w 14 p1 2)] w (wk0 (fun w5 => wle w w5 → zb_X7_variants_p157 E L Q x1 x2 x3 x4 w5) (fun e w => Q (.inr e) w))))))))))) else zw E (L - 22) kt_M279 [.ref (w_adr E.2.1 6 0), va_rf (x5)] w (wk0 (fun w7 => wle w w7 → (∃ p9, x5 = some p9 ∧ w_l w7 E.2.1 14 p9 ∧ zL_X7_variants_p78 E L Q x1 x2 x3 x4 (w_p w7 14 p9 7) w7)) (fun e w => Q (.inr e) w)))
theorem zt_X7_variants_p78 {E : zE} {L : Nat} {Q : kx_Rs → wS → Prop} {x1 : Option Nat} {x2 : Option Nat} {x3 : Int32} {x4 : Option Nat} {x5 : Option Nat} {w : wS} (hL : 25 ≤ L) (h : zb_X7_variants_p78 E L Q x1 x2 x3 x4 x5 w) : kzE E L kt_M288 78 [(0, .ref (w_adr E.2.1 6 0)), (1, va_rf (x1)), (2, va_rf (x2)), (3, .int x3), (4, va_rf (x4)), (5, va_rf (x5))] [] w Q := by
  unfold zb_X7_variants_p78 at h
  refine kz_aloadv (M := kt_M288) (x := x5) kX7_variants_c4.2.2.2.1 rfl ?_
  refine kz_ifnull (M := kt_M288) (x := x5) kX7_variants_c4.2.2.2.2.1 (t := 99) rfl h (fun h => ?_) (fun h => ?_)
  · skip
    refine kz_aloadv (M := kt_M288) (x := x4) kX7_variants_c5.2.2.2.2.1 rfl ?_
    obtain ⟨p1, hxp1, hlp1, h⟩ := h
    refine kz_nz0 (x := x4) hxp1 ?_
    refine kz_gfp (M := kt_M288) (c := 14) (o := p1) kX7_variants_c5.2.2.2.2.2.1 wf_X7_103 (.inr (by exact hlp1)) ?_
    refine kz_ifnull (M := kt_M288) (x := w_p w 14 p1 16) kX7_variants_c5.2.2.2.2.2.2.1 (t := 229) rfl h (fun h => ?_) (fun h => ?_)
    · skip
      exact kz_weak [(0, .ref (w_adr E.2.1 6 0)), (1, va_rf (x1)), (2, va_rf (x2)), (3, .int x3), (4, va_rf (x4))] ⟨rfl, ⟨rfl, ⟨rfl, ⟨rfl, ⟨rfl, trivial⟩⟩⟩⟩⟩ rfl (zt_X7_variants_p229 hL  h)
    · skip
      refine kz_iload_n (M := kt_M288) kX7_variants_c5.2.2.2.2.2.2.2.1 rfl ?_
      refine kz_if_eq (M := kt_M288) kX7_variants_c6.1 (t := 157) rfl h (fun h => ?_) (fun h => ?_)
      · skip
        exact kz_weak [(0, .ref (w_adr E.2.1 6 0)), (1, va_rf (x1)), (2, va_rf (x2)), (3, .int x3), (4, va_rf (x4))] ⟨rfl, ⟨rfl, ⟨rfl, ⟨rfl, ⟨rfl, trivial⟩⟩⟩⟩⟩ rfl (zt_X7_variants_p157 hL  h)
      · skip
        refine kz_aload_nv (M := kt_M288) (x := x2) kX7_variants_c6.2.1 rfl ?_
        obtain ⟨p2, hxp2, hlp2, h⟩ := h
        refine kz_nz0 (x := x2) hxp2 ?_
        refine kz_gfp (M := kt_M288) (c := 15) (o := p2) kX7_variants_c6.2.2.1 wf_X7_151 (.inr (by exact hlp2)) ?_
        refine kz_ifnull (M := kt_M288) (x := w_p w 15 p2 15) kX7_variants_c6.2.2.2.1 (t := 157) rfl h (fun h => ?_) (fun h => ?_)
        · skip
          exact kz_weak [(0, .ref (w_adr E.2.1 6 0)), (1, va_rf (x1)), (2, va_rf (x2)), (3, .int x3), (4, va_rf (x4))] ⟨rfl, ⟨rfl, ⟨rfl, ⟨rfl, ⟨rfl, trivial⟩⟩⟩⟩⟩ rfl (zt_X7_variants_p157 hL  h)
        · skip
          refine kz_aload_nv (M := kt_M288) (x := x2) kX7_variants_c6.2.2.2.2.1 rfl ?_
          refine kz_nz0 (x := x2) hxp2 ?_
          refine kz_gfp (M := kt_M288) (c := 15) (o := p2) kX7_variants_c6.2.2.2.2.2.1 wf_X7_151 (.inr (by exact hlp2)) ?_
          obtain ⟨p3, hxp3, hlp3, h⟩ := h
          refine kz_nz0 (x := w_p w 15 p2 15) hxp3 ?_
          refine kz_gfi (M := kt_M288) (c := 15) (o := p3) kX7_variants_c6.2.2.2.2.2.2.1 wf_X7_247 (.inr (by exact hlp3)) ?_
          refine kz_if_eq (M := kt_M288) kX7_variants_c6.2.2.2.2.2.2.2.1 (t := 157) rfl h (fun h => ?_) (fun h => ?_)
          · skip
            exact kz_weak [(0, .ref (w_adr E.2.1 6 0)), (1, va_rf (x1)), (2, va_rf (x2)), (3, .int x3), (4, va_rf (x4))] ⟨rfl, ⟨rfl, ⟨rfl, ⟨rfl, ⟨rfl, trivial⟩⟩⟩⟩⟩ rfl (zt_X7_variants_p157 hL  h)
          · skip
            refine kz_aloadv (M := kt_M288) (x := x4) kX7_variants_c7.1 rfl ?_
            refine kz_nz0 (x := x4) hxp1 ?_
            refine kz_gfp (M := kt_M288) (c := 14) (o := p1) kX7_variants_c7.2.1 wf_X7_103 (.inr (by exact hlp1)) ?_
            obtain ⟨p4, hxp4, hlp4, h⟩ := h
            refine kz_nz0 (x := w_p w 14 p1 16) hxp4 ?_
            refine kz_gfp (M := kt_M288) (c := 15) (o := p4) kX7_variants_c7.2.2.1 wf_X7_151 (.inr (by exact hlp4)) ?_
            refine kz_aload_nv (M := kt_M288) (x := x2) kX7_variants_c7.2.2.2.1 rfl ?_
            refine kz_nz0 (x := x2) hxp2 ?_
            refine kz_gfp (M := kt_M288) (c := 15) (o := p2) kX7_variants_c7.2.2.2.2.1 wf_X7_151 (.inr (by exact hlp2)) ?_
            refine kz_acmp_eq (M := kt_M288) (x := w_p w 15 p4 15) (y := w_p w 15 p2 15) kX7_variants_c7.2.2.2.2.2.1 (t := 157) rfl h (fun h => ?_) (fun h => ?_)
            · skip
              exact kz_weak [(0, .ref (w_adr E.2.1 6 0)), (1, va_rf (x1)), (2, va_rf (x2)), (3, .int x3), (4, va_rf (x4))] ⟨rfl, ⟨rfl, ⟨rfl, ⟨rfl, ⟨rfl, trivial⟩⟩⟩⟩⟩ rfl (zt_X7_variants_p157 hL  h)
            · skip
              refine kz_aload_n (M := kt_M288) kX7_variants_c7.2.2.2.2.2.2.1 rfl ?_
              refine kz_gfc (M := kt_M288) (x := 8) (c := 6) (o := 0) kX7_variants_c7.2.2.2.2.2.2.2.1 wf_X7_15 (.inl rfl) ?_
              refine kz_bi (M := kt_M288) 7 kX7_variants_c8.1 rfl ?_
              refine kz_aloadv (M := kt_M288) (x := x4) kX7_variants_c8.2.1 rfl ?_
              refine kz_nz0 (x := x4) hxp1 ?_
              refine kz_gfi (M := kt_M288) (c := 14) (o := p1) kX7_variants_c8.2.2.1 wf_X7_52 (.inr (by exact hlp1)) ?_
              refine kz_cv0 (M := kt_M288) (c := 2) (o := 0) (As := [.int 7, .int (w_i w 14 p1 2)]) (rest := []) kX7_variants_c8.2.2.2.1 wl_X7_55 wMv_56 rfl (.inl rfl) rfl (Nat.le_trans (Nat.le_of_ble_eq_true rfl) hL) (Nat.le_of_ble_eq_true rfl) (Nat.le_of_ble_eq_true rfl) h (fun w5 hle h => ?_) (fun _ _ _ h => kzx_no rfl h)
              have h := h hle
              have hlp1 := w_l_le hlp1 hle
              have hlp2 := w_l_le hlp2 hle
              have hlp3 := w_l_le hlp3 hle
              have hlp4 := w_l_le hlp4 hle
              exact kz_weak [(0, .ref (w_adr E.2.1 6 0)), (1, va_rf (x1)), (2, va_rf (x2)), (3, .int x3), (4, va_rf (x4))] ⟨rfl, ⟨rfl, ⟨rfl, ⟨rfl, ⟨rfl, trivial⟩⟩⟩⟩⟩ rfl (zt_X7_variants_p157 hL  h)
  · skip
    refine kz_aload_n (M := kt_M288) kX7_variants_c4.2.2.2.2.2.1 rfl ?_
    refine kz_aloadv (M := kt_M288) (x := x5) kX7_variants_c4.2.2.2.2.2.2.1 rfl ?_
    refine kz_cv0 (M := kt_M288) (c := 6) (o := 0) (As := [va_rf (x5)]) (rest := []) kX7_variants_c4.2.2.2.2.2.2.2.1 wl_X7_138 wMv_279 rfl (.inl rfl) rfl (Nat.le_trans (Nat.le_of_ble_eq_true rfl) hL) (by simp [lg_sl, w_cat, z_ci, z_cr, z_cl, z_cn, kt_M279]) (Nat.le_of_ble_eq_true rfl) h (fun w7 hle h => ?_) (fun _ _ _ h => kzx_no rfl h)
    have h := h hle
    refine kz_aloadv (M := kt_M288) (x := x5) kX7_variants_c5.1 rfl ?_
    obtain ⟨p9, hxp9, hlp9, h⟩ := h
    refine kz_nz0 (x := x5) hxp9 ?_
    refine kz_gfp (M := kt_M288) (c := 14) (o := p9) kX7_variants_c5.2.1 wf_X7_43 (.inr (by exact hlp9)) ?_
    refine kz_stv (M := kt_M288) (x := w_p w7 14 p9 7) [(0, .ref (w_adr E.2.1 6 0)), (1, va_rf (x1)), (2, va_rf (x2)), (3, .int x3), (4, va_rf (x4))] kX7_variants_c5.2.2.1 (Nat.le_of_ble_eq_true rfl) ⟨⟨rfl, rfl, .inl rfl⟩, ⟨⟨rfl, rfl, .inl rfl⟩, ⟨⟨rfl, rfl, .inl rfl⟩, ⟨⟨rfl, rfl, .inl rfl⟩, ⟨⟨rfl, rfl, .inr (w_cat (x4))⟩, trivial⟩⟩⟩⟩⟩ rfl ?_
    refine kz_goto (M := kt_M288) kX7_variants_c5.2.2.2.1 (t := 78) rfl ?_
    exact kz_weak [(0, .ref (w_adr E.2.1 6 0)), (1, va_rf (x1)), (2, va_rf (x2)), (3, .int x3), (4, va_rf (x4)), (5, va_rf (w_p w7 14 p9 7))] ⟨rfl, ⟨rfl, ⟨rfl, ⟨rfl, ⟨rfl, ⟨rfl, trivial⟩⟩⟩⟩⟩⟩ rfl h
def zb_X7_variants_p66 (E : zE) (L : Nat) (Q : kx_Rs → wS → Prop) (x1 : Option Nat) (x2 : Option Nat) (x3 : Int32) (x4 : Option Nat) (w : wS) : Prop := (if x4 = none then Q (.inl none) w else (∃ p1, x4 = some p1 ∧ w_l w E.2.1 14 p1 ∧ zL_X7_variants_p78 E L Q x1 x2 x3 x4 (w_p w 14 p1 4) w))
theorem zt_X7_variants_p66 {E : zE} {L : Nat} {Q : kx_Rs → wS → Prop} {x1 : Option Nat} {x2 : Option Nat} {x3 : Int32} {x4 : Option Nat} {w : wS} (hL : 25 ≤ L) (h : zb_X7_variants_p66 E L Q x1 x2 x3 x4 w) : kzE E L kt_M288 66 [(0, .ref (w_adr E.2.1 6 0)), (1, va_rf (x1)), (2, va_rf (x2)), (3, .int x3), (4, va_rf (x4))] [] w Q := by
  unfold zb_X7_variants_p66 at h
  refine kz_aloadv (M := kt_M288) (x := x4) kX7_variants_c3.2.2.2.2.2.2.1 rfl ?_
  refine kz_ifnull (M := kt_M288) (x := x4) kX7_variants_c3.2.2.2.2.2.2.2.1 (t := 248) rfl h (fun h => ?_) (fun h => ?_)
  · skip
    exact kz_ret (M := kt_M288) kX7_variants_c13.2.2.1 rfl h
  · skip
    refine kz_aloadv (M := kt_M288) (x := x4) kX7_variants_c4.1 rfl ?_
    obtain ⟨p1, hxp1, hlp1, h⟩ := h
    refine kz_nz0 (x := x4) hxp1 ?_
    refine kz_gfp (M := kt_M288) (c := 14) (o := p1) kX7_variants_c4.2.1 wf_X7_46 (.inr (by exact hlp1)) ?_
    refine kz_stv (M := kt_M288) (x := w_p w 14 p1 4) [(0, .ref (w_adr E.2.1 6 0)), (1, va_rf (x1)), (2, va_rf (x2)), (3, .int x3), (4, va_rf (x4))] kX7_variants_c4.2.2.1 (Nat.le_of_ble_eq_true rfl) ⟨⟨rfl, rfl, .inl rfl⟩, ⟨⟨rfl, rfl, .inl rfl⟩, ⟨⟨rfl, rfl, .inl rfl⟩, ⟨⟨rfl, rfl, .inl rfl⟩, ⟨⟨rfl, rfl, .inr (w_cat (x4))⟩, trivial⟩⟩⟩⟩⟩ rfl ?_
    exact kz_weak [(0, .ref (w_adr E.2.1 6 0)), (1, va_rf (x1)), (2, va_rf (x2)), (3, .int x3), (4, va_rf (x4)), (5, va_rf (w_p w 14 p1 4))] ⟨rfl, ⟨rfl, ⟨rfl, ⟨rfl, ⟨rfl, ⟨rfl, trivial⟩⟩⟩⟩⟩⟩ rfl h
def zb_X7_variants_p60 (E : zE) (L : Nat) (Q : kx_Rs → wS → Prop) (x1 : Option Nat) (x2 : Option Nat) (x3 : Int32) (w : wS) : Prop := (∃ p1, x1 = some p1 ∧ w_l w E.2.1 14 p1 ∧ zL_X7_variants_p66 E L Q x1 x2 x3 (w_p w 14 p1 4) w)
theorem zt_X7_variants_p60 {E : zE} {L : Nat} {Q : kx_Rs → wS → Prop} {x1 : Option Nat} {x2 : Option Nat} {x3 : Int32} {w : wS} (hL : 25 ≤ L) (h : zb_X7_variants_p60 E L Q x1 x2 x3 w) : kzE E L kt_M288 60 [(0, .ref (w_adr E.2.1 6 0)), (1, va_rf (x1)), (2, va_rf (x2)), (3, .int x3)] [] w Q := by
  unfold zb_X7_variants_p60 at h
  refine kz_aload_nv (M := kt_M288) (x := x1) kX7_variants_c3.2.2.2.1 rfl ?_
  obtain ⟨p1, hxp1, hlp1, h⟩ := h
  refine kz_nz0 (x := x1) hxp1 ?_
  refine kz_gfp (M := kt_M288) (c := 14) (o := p1) kX7_variants_c3.2.2.2.2.1 wf_X7_46 (.inr (by exact hlp1)) ?_
  refine kz_stv (M := kt_M288) (x := w_p w 14 p1 4) [(0, .ref (w_adr E.2.1 6 0)), (1, va_rf (x1)), (2, va_rf (x2)), (3, .int x3)] kX7_variants_c3.2.2.2.2.2.1 (Nat.le_of_ble_eq_true rfl) ⟨⟨rfl, rfl, .inl rfl⟩, ⟨⟨rfl, rfl, .inl rfl⟩, ⟨⟨rfl, rfl, .inl rfl⟩, ⟨⟨rfl, rfl, .inr rfl⟩, trivial⟩⟩⟩⟩ rfl ?_
  exact kz_weak [(0, .ref (w_adr E.2.1 6 0)), (1, va_rf (x1)), (2, va_rf (x2)), (3, .int x3), (4, va_rf (w_p w 14 p1 4))] ⟨rfl, ⟨rfl, ⟨rfl, ⟨rfl, ⟨rfl, trivial⟩⟩⟩⟩⟩ rfl h
def zb_X7_variants_p47 (E : zE) (L : Nat) (Q : kx_Rs → wS → Prop) (x1 : Option Nat) (x2 : Option Nat) (x3 : Int32) (w : wS) : Prop := (∃ p1, x1 = some p1 ∧ w_l w E.2.1 14 p1 ∧ zw E (L - 22) kt_M56 [.ref (w_adr E.2.1 2 0), .int 7, .int (w_i w 14 p1 2)] w (wk0 (fun w2 => wle w w2 → zb_X7_variants_p60 E L Q x1 x2 x3 w2) (fun e w => Q (.inr e) w)))
theorem zt_X7_variants_p47 {E : zE} {L : Nat} {Q : kx_Rs → wS → Prop} {x1 : Option Nat} {x2 : Option Nat} {x3 : Int32} {w : wS} (hL : 25 ≤ L) (h : zb_X7_variants_p47 E L Q x1 x2 x3 w) : kzE E L kt_M288 47 [(0, .ref (w_adr E.2.1 6 0)), (1, va_rf (x1)), (2, va_rf (x2)), (3, .int x3)] [] w Q := by
  unfold zb_X7_variants_p47 at h
  refine kz_aload_n (M := kt_M288) kX7_variants_c2.2.2.2.2.2.1 rfl ?_
  refine kz_gfc (M := kt_M288) (x := 8) (c := 6) (o := 0) kX7_variants_c2.2.2.2.2.2.2.1 wf_X7_15 (.inl rfl) ?_
  refine kz_bi (M := kt_M288) 7 kX7_variants_c2.2.2.2.2.2.2.2.1 rfl ?_
  refine kz_aload_nv (M := kt_M288) (x := x1) kX7_variants_c3.1 rfl ?_
  obtain ⟨p1, hxp1, hlp1, h⟩ := h
  refine kz_nz0 (x := x1) hxp1 ?_
  refine kz_gfi (M := kt_M288) (c := 14) (o := p1) kX7_variants_c3.2.1 wf_X7_52 (.inr (by exact hlp1)) ?_
  refine kz_cv0 (M := kt_M288) (c := 2) (o := 0) (As := [.int 7, .int (w_i w 14 p1 2)]) (rest := []) kX7_variants_c3.2.2.1 wl_X7_55 wMv_56 rfl (.inl rfl) rfl (Nat.le_trans (Nat.le_of_ble_eq_true rfl) hL) (Nat.le_of_ble_eq_true rfl) (Nat.le_of_ble_eq_true rfl) h (fun w2 hle h => ?_) (fun _ _ _ h => kzx_no rfl h)
  have h := h hle
  have hlp1 := w_l_le hlp1 hle
  exact kz_weak [(0, .ref (w_adr E.2.1 6 0)), (1, va_rf (x1)), (2, va_rf (x2)), (3, .int x3)] ⟨rfl, ⟨rfl, ⟨rfl, ⟨rfl, trivial⟩⟩⟩⟩ rfl (zt_X7_variants_p60 hL  h)
def zb_X7_variants_p15 (E : zE) (L : Nat) (Q : kx_Rs → wS → Prop) (x1 : Option Nat) (x2 : Option Nat) (y0 : Int32) (w : wS) : Prop := (if y0 = 0 then zb_X7_variants_p60 E L Q x1 x2 y0 w else (∃ p1, x2 = some p1 ∧ w_l w E.2.1 15 p1 ∧ (if ¬ (w_p w 15 p1 15) = none then (∃ p2, w_p w 15 p1 15 = some p2 ∧ w_l w E.2.1 15 p2 ∧ (if ¬ w_i w 15 p2 16 = 0 then zb_X7_variants_p60 E L Q x1 x2 y0 w else zb_X7_variants_p47 E L Q x1 x2 y0 w)) else (if w_i w 15 p1 5 = 0 then zb_X7_variants_p60 E L Q x1 x2 y0 w else zb_X7_variants_p47 E L Q x1 x2 y0 w))))
theorem zt_X7_variants_p15 {E : zE} {L : Nat} {Q : kx_Rs → wS → Prop} {x1 : Option Nat} {x2 : Option Nat} {y0 : Int32} {w : wS} (hL : 25 ≤ L) (h : zb_X7_variants_p15 E L Q x1 x2 y0 w) : kzE E L kt_M288 15 [(0, .ref (w_adr E.2.1 6 0)), (1, va_rf (x1)), (2, va_rf (x2))] [.int y0] w Q := by
  unfold zb_X7_variants_p15 at h
  refine kz_sti_n (M := kt_M288) [(0, .ref (w_adr E.2.1 6 0)), (1, va_rf (x1)), (2, va_rf (x2))] kX7_variants_c0.2.2.2.2.2.2.2.1 (Nat.le_of_ble_eq_true rfl) ⟨⟨rfl, rfl, .inl rfl⟩, ⟨⟨rfl, rfl, .inl rfl⟩, ⟨⟨rfl, rfl, .inr (w_cat (x2))⟩, trivial⟩⟩⟩ rfl ?_
  refine kz_iload_n (M := kt_M288) kX7_variants_c1.1 rfl ?_
  refine kz_if_eq (M := kt_M288) kX7_variants_c1.2.1 (t := 60) rfl h (fun h => ?_) (fun h => ?_)
  · skip
    exact kz_weak [(0, .ref (w_adr E.2.1 6 0)), (1, va_rf (x1)), (2, va_rf (x2)), (3, .int y0)] ⟨rfl, ⟨rfl, ⟨rfl, ⟨rfl, trivial⟩⟩⟩⟩ rfl (zt_X7_variants_p60 hL  h)
  · skip
    refine kz_aload_nv (M := kt_M288) (x := x2) kX7_variants_c1.2.2.1 rfl ?_
    obtain ⟨p1, hxp1, hlp1, h⟩ := h
    refine kz_nz0 (x := x2) hxp1 ?_
    refine kz_gfp (M := kt_M288) (c := 15) (o := p1) kX7_variants_c1.2.2.2.1 wf_X7_151 (.inr (by exact hlp1)) ?_
    refine kz_ifnonnull (M := kt_M288) (x := w_p w 15 p1 15) kX7_variants_c1.2.2.2.2.1 (t := 37) rfl h (fun h => ?_) (fun h => ?_)
    · skip
      refine kz_aload_nv (M := kt_M288) (x := x2) kX7_variants_c2.2.1 rfl ?_
      refine kz_nz0 (x := x2) hxp1 ?_
      refine kz_gfp (M := kt_M288) (c := 15) (o := p1) kX7_variants_c2.2.2.1 wf_X7_151 (.inr (by exact hlp1)) ?_
      obtain ⟨p2, hxp2, hlp2, h⟩ := h
      refine kz_nz0 (x := w_p w 15 p1 15) hxp2 ?_
      refine kz_gfi (M := kt_M288) (c := 15) (o := p2) kX7_variants_c2.2.2.2.1 wf_X7_247 (.inr (by exact hlp2)) ?_
      refine kz_if_ne (M := kt_M288) kX7_variants_c2.2.2.2.2.1 (t := 60) rfl h (fun h => ?_) (fun h => ?_)
      · skip
        exact kz_weak [(0, .ref (w_adr E.2.1 6 0)), (1, va_rf (x1)), (2, va_rf (x2)), (3, .int y0)] ⟨rfl, ⟨rfl, ⟨rfl, ⟨rfl, trivial⟩⟩⟩⟩ rfl (zt_X7_variants_p60 hL  h)
      · skip
        exact kz_weak [(0, .ref (w_adr E.2.1 6 0)), (1, va_rf (x1)), (2, va_rf (x2)), (3, .int y0)] ⟨rfl, ⟨rfl, ⟨rfl, ⟨rfl, trivial⟩⟩⟩⟩ rfl (zt_X7_variants_p47 hL  h)
    · skip
      refine kz_aload_nv (M := kt_M288) (x := x2) kX7_variants_c1.2.2.2.2.2.1 rfl ?_
      refine kz_nz0 (x := x2) hxp1 ?_
      refine kz_gfi (M := kt_M288) (c := 15) (o := p1) kX7_variants_c1.2.2.2.2.2.2.1 wf_X7_134 (.inr (by exact hlp1)) ?_
      refine kz_if_eq (M := kt_M288) kX7_variants_c1.2.2.2.2.2.2.2.1 (t := 60) rfl h (fun h => ?_) (fun h => ?_)
      · skip
        exact kz_weak [(0, .ref (w_adr E.2.1 6 0)), (1, va_rf (x1)), (2, va_rf (x2)), (3, .int y0)] ⟨rfl, ⟨rfl, ⟨rfl, ⟨rfl, trivial⟩⟩⟩⟩ rfl (zt_X7_variants_p60 hL  h)
      · skip
        refine kz_goto (M := kt_M288) kX7_variants_c2.1 (t := 47) rfl ?_
        exact kz_weak [(0, .ref (w_adr E.2.1 6 0)), (1, va_rf (x1)), (2, va_rf (x2)), (3, .int y0)] ⟨rfl, ⟨rfl, ⟨rfl, ⟨rfl, trivial⟩⟩⟩⟩ rfl (zt_X7_variants_p47 hL  h)
def zb_X7_variants_p0 (E : zE) (L : Nat) (Q : kx_Rs → wS → Prop) (x1 : Option Nat) (x2 : Option Nat) (w : wS) : Prop := (∃ p1, x1 = some p1 ∧ w_l w E.2.1 14 p1 ∧ (∃ p2, w_p w 14 p1 3 = some p2 ∧ w_l w E.2.1 14 p2 ∧ (if ¬ w_i w 14 p2 11 = 0 then zb_X7_variants_p15 E L Q x1 x2 0 w else zb_X7_variants_p15 E L Q x1 x2 1 w)))
theorem zt_X7_variants_p0 {E : zE} {L : Nat} {Q : kx_Rs → wS → Prop} {x1 : Option Nat} {x2 : Option Nat} {w : wS} (hL : 25 ≤ L) (h : zb_X7_variants_p0 E L Q x1 x2 w) : kzE E L kt_M288 0 [(0, .ref (w_adr E.2.1 6 0)), (1, va_rf (x1)), (2, va_rf (x2))] [] w Q := by
  unfold zb_X7_variants_p0 at h
  refine kz_aload_nv (M := kt_M288) (x := x1) kX7_variants_c0.1 rfl ?_
  obtain ⟨p1, hxp1, hlp1, h⟩ := h
  refine kz_nz0 (x := x1) hxp1 ?_
  refine kz_gfp (M := kt_M288) (c := 14) (o := p1) kX7_variants_c0.2.1 wf_X7_34 (.inr (by exact hlp1)) ?_
  obtain ⟨p2, hxp2, hlp2, h⟩ := h
  refine kz_nz0 (x := w_p w 14 p1 3) hxp2 ?_
  refine kz_gfi (M := kt_M288) (c := 14) (o := p2) kX7_variants_c0.2.2.1 wf_X7_141 (.inr (by exact hlp2)) ?_
  refine kz_if_ne (M := kt_M288) kX7_variants_c0.2.2.2.1 (t := 14) rfl h (fun h => ?_) (fun h => ?_)
  · skip
    refine kz_ic (M := kt_M288) 0 kX7_variants_c0.2.2.2.2.2.2.1 rfl ?_
    exact kz_weak [(0, .ref (w_adr E.2.1 6 0)), (1, va_rf (x1)), (2, va_rf (x2))] ⟨rfl, ⟨rfl, ⟨rfl, trivial⟩⟩⟩ rfl (zt_X7_variants_p15 hL  h)
  · skip
    refine kz_ic (M := kt_M288) 1 kX7_variants_c0.2.2.2.2.1 rfl ?_
    refine kz_goto (M := kt_M288) kX7_variants_c0.2.2.2.2.2.1 (t := 15) rfl ?_
    exact kz_weak [(0, .ref (w_adr E.2.1 6 0)), (1, va_rf (x1)), (2, va_rf (x2))] ⟨rfl, ⟨rfl, ⟨rfl, trivial⟩⟩⟩ rfl (zt_X7_variants_p15 hL  h)
def zL_X7_message_p6 (E : zE) (L : Nat) (Q : kx_Rs → wS → Prop) (x3 : Int32) (x4 : Option Nat) (x5 : Option Nat) (w : wS) : Prop := kzE E L kt_M273 6 [(0, .ref (w_adr E.2.1 6 0)), (3, .int x3), (4, va_rf (x4)), (5, va_rf (x5))] [] w Q
def zb_X7_message_p132 (E : zE) (L : Nat) (Q : kx_Rs → wS → Prop) (w : wS) : Prop := Q (.inl none) w
theorem zt_X7_message_p132 {E : zE} {L : Nat} {Q : kx_Rs → wS → Prop} {w : wS} (hL : 22 ≤ L) (h : zb_X7_message_p132 E L Q  w) : kzE E L kt_M273 132 [(0, .ref (w_adr E.2.1 6 0))] [] w Q := by
  unfold zb_X7_message_p132 at h
  exact kz_ret (M := kt_M273) kX7_message_c7.1 rfl h
def zb_X7_message_p122 (E : zE) (L : Nat) (Q : kx_Rs → wS → Prop) (x3 : Int32) (w : wS) : Prop := zw E (L - 22) kt_M56 [.ref (w_adr E.2.1 2 0), .int 8, .int x3] w (wk0 (fun w1 => wle w w1 → zb_X7_message_p132 E L Q w1) (fun e w => Q (.inr e) w))
theorem zt_X7_message_p122 {E : zE} {L : Nat} {Q : kx_Rs → wS → Prop} {x3 : Int32} {w : wS} (hL : 22 ≤ L) (h : zb_X7_message_p122 E L Q x3 w) : kzE E L kt_M273 122 [(0, .ref (w_adr E.2.1 6 0)), (3, .int x3)] [] w Q := by
  unfold zb_X7_message_p122 at h
  refine kz_aload_n (M := kt_M273) kX7_message_c6.2.2.2.1 rfl ?_
  refine kz_gfc (M := kt_M273) (x := 8) (c := 6) (o := 0) kX7_message_c6.2.2.2.2.1 wf_X7_15 (.inl rfl) ?_
  refine kz_bi (M := kt_M273) 8 kX7_message_c6.2.2.2.2.2.1 rfl ?_
  refine kz_iload_n (M := kt_M273) kX7_message_c6.2.2.2.2.2.2.1 rfl ?_
  refine kz_cv0 (M := kt_M273) (c := 2) (o := 0) (As := [.int 8, .int x3]) (rest := []) kX7_message_c6.2.2.2.2.2.2.2.1 wl_X7_55 wMv_56 rfl (.inl rfl) rfl (Nat.le_trans (Nat.le_of_ble_eq_true rfl) hL) (Nat.le_of_ble_eq_true rfl) (Nat.le_of_ble_eq_true rfl) h (fun w1 hle h => ?_) (fun _ _ _ h => kzx_no rfl h)
  have h := h hle
  exact kz_weak [(0, .ref (w_adr E.2.1 6 0))] ⟨rfl, trivial⟩ rfl (zt_X7_message_p132 hL  h)
def zb_X7_message_p112 (E : zE) (L : Nat) (Q : kx_Rs → wS → Prop) (x3 : Int32) (x4 : Option Nat) (x5 : Option Nat) (w : wS) : Prop := (if ¬ x4 = none then zb_X7_message_p122 E L Q x3 w else (if x5 = none then zb_X7_message_p132 E L Q w else zb_X7_message_p122 E L Q x3 w))
theorem zt_X7_message_p112 {E : zE} {L : Nat} {Q : kx_Rs → wS → Prop} {x3 : Int32} {x4 : Option Nat} {x5 : Option Nat} {w : wS} (hL : 22 ≤ L) (h : zb_X7_message_p112 E L Q x3 x4 x5 w) : kzE E L kt_M273 112 [(0, .ref (w_adr E.2.1 6 0)), (3, .int x3), (4, va_rf (x4)), (5, va_rf (x5))] [] w Q := by
  unfold zb_X7_message_p112 at h
  refine kz_aloadv (M := kt_M273) (x := x4) kX7_message_c5.2.2.2.2.2.2.2.1 rfl ?_
  refine kz_ifnonnull (M := kt_M273) (x := x4) kX7_message_c6.1 (t := 122) rfl h (fun h => ?_) (fun h => ?_)
  · skip
    exact kz_weak [(0, .ref (w_adr E.2.1 6 0)), (3, .int x3)] ⟨rfl, ⟨rfl, trivial⟩⟩ rfl (zt_X7_message_p122 hL  h)
  · skip
    refine kz_aloadv (M := kt_M273) (x := x5) kX7_message_c6.2.1 rfl ?_
    refine kz_ifnull (M := kt_M273) (x := x5) kX7_message_c6.2.2.1 (t := 132) rfl h (fun h => ?_) (fun h => ?_)
    · skip
      exact kz_weak [(0, .ref (w_adr E.2.1 6 0))] ⟨rfl, trivial⟩ rfl (zt_X7_message_p132 hL  h)
    · skip
      exact kz_weak [(0, .ref (w_adr E.2.1 6 0)), (3, .int x3)] ⟨rfl, ⟨rfl, trivial⟩⟩ rfl (zt_X7_message_p122 hL  h)
def zb_X7_message_p95 (E : zE) (L : Nat) (Q : kx_Rs → wS → Prop) (x3 : Int32) (x4 : Option Nat) (x5 : Option Nat) (w : wS) : Prop := (∃ p1, x4 = some p1 ∧ w_l w E.2.1 14 p1 ∧ (∃ p2, x5 = some p2 ∧ w_l w E.2.1 14 p2 ∧ zL_X7_message_p6 E L Q x3 (w_p w 14 p1 7) (w_p w 14 p2 7) w))
theorem zt_X7_message_p95 {E : zE} {L : Nat} {Q : kx_Rs → wS → Prop} {x3 : Int32} {x4 : Option Nat} {x5 : Option Nat} {w : wS} (hL : 22 ≤ L) (h : zb_X7_message_p95 E L Q x3 x4 x5 w) : kzE E L kt_M273 95 [(0, .ref (w_adr E.2.1 6 0)), (3, .int x3), (4, va_rf (x4)), (5, va_rf (x5))] [] w Q := by
  unfold zb_X7_message_p95 at h
  refine kz_aloadv (M := kt_M273) (x := x4) kX7_message_c5.1 rfl ?_
  obtain ⟨p1, hxp1, hlp1, h⟩ := h
  refine kz_nz0 (x := x4) hxp1 ?_
  refine kz_gfp (M := kt_M273) (c := 14) (o := p1) kX7_message_c5.2.1 wf_X7_43 (.inr (by exact hlp1)) ?_
  refine kz_stv (M := kt_M273) (x := w_p w 14 p1 7) [(0, .ref (w_adr E.2.1 6 0)), (3, .int x3), (5, va_rf (x5))] kX7_message_c5.2.2.1 (Nat.le_of_ble_eq_true rfl) ⟨⟨rfl, rfl, .inl rfl⟩, ⟨⟨rfl, rfl, .inr rfl⟩, ⟨⟨rfl, rfl, .inl rfl⟩, trivial⟩⟩⟩ rfl ?_
  refine kz_aloadv (M := kt_M273) (x := x5) kX7_message_c5.2.2.2.1 rfl ?_
  obtain ⟨p2, hxp2, hlp2, h⟩ := h
  refine kz_nz0 (x := x5) hxp2 ?_
  refine kz_gfp (M := kt_M273) (c := 14) (o := p2) kX7_message_c5.2.2.2.2.1 wf_X7_43 (.inr (by exact hlp2)) ?_
  refine kz_stv (M := kt_M273) (x := w_p w 14 p2 7) [(0, .ref (w_adr E.2.1 6 0)), (3, .int x3), (4, va_rf (w_p w 14 p1 7))] kX7_message_c5.2.2.2.2.2.1 (Nat.le_of_ble_eq_true rfl) ⟨⟨rfl, rfl, .inl rfl⟩, ⟨⟨rfl, rfl, .inl rfl⟩, ⟨⟨rfl, rfl, .inr (w_cat (w_p w 14 p1 7))⟩, trivial⟩⟩⟩ rfl ?_
  refine kz_goto (M := kt_M273) kX7_message_c5.2.2.2.2.2.2.1 (t := 6) rfl ?_
  exact kz_weak [(0, .ref (w_adr E.2.1 6 0)), (3, .int x3), (4, va_rf (w_p w 14 p1 7)), (5, va_rf (w_p w 14 p2 7))] ⟨rfl, ⟨rfl, ⟨rfl, ⟨rfl, trivial⟩⟩⟩⟩ rfl h
def zb_X7_message_p81 (E : zE) (L : Nat) (Q : kx_Rs → wS → Prop) (x3 : Int32) (x4 : Option Nat) (x5 : Option Nat) (w : wS) : Prop := (∃ p1, x4 = some p1 ∧ w_l w E.2.1 14 p1 ∧ zw E (L - 22) kt_M56 [.ref (w_adr E.2.1 2 0), .int 7, .int (w_i w 14 p1 2)] w (wk0 (fun w2 => wle w w2 → zb_X7_message_p95 E L Q x3 x4 x5 w2) (fun e w => Q (.inr e) w)))
theorem zt_X7_message_p81 {E : zE} {L : Nat} {Q : kx_Rs → wS → Prop} {x3 : Int32} {x4 : Option Nat} {x5 : Option Nat} {w : wS} (hL : 22 ≤ L) (h : zb_X7_message_p81 E L Q x3 x4 x5 w) : kzE E L kt_M273 81 [(0, .ref (w_adr E.2.1 6 0)), (3, .int x3), (4, va_rf (x4)), (5, va_rf (x5))] [] w Q := by
  unfold zb_X7_message_p81 at h
  refine kz_aload_n (M := kt_M273) kX7_message_c4.2.2.1 rfl ?_
  refine kz_gfc (M := kt_M273) (x := 8) (c := 6) (o := 0) kX7_message_c4.2.2.2.1 wf_X7_15 (.inl rfl) ?_
  refine kz_bi (M := kt_M273) 7 kX7_message_c4.2.2.2.2.1 rfl ?_
  refine kz_aloadv (M := kt_M273) (x := x4) kX7_message_c4.2.2.2.2.2.1 rfl ?_
  obtain ⟨p1, hxp1, hlp1, h⟩ := h
  refine kz_nz0 (x := x4) hxp1 ?_
  refine kz_gfi (M := kt_M273) (c := 14) (o := p1) kX7_message_c4.2.2.2.2.2.2.1 wf_X7_52 (.inr (by exact hlp1)) ?_
  refine kz_cv0 (M := kt_M273) (c := 2) (o := 0) (As := [.int 7, .int (w_i w 14 p1 2)]) (rest := []) kX7_message_c4.2.2.2.2.2.2.2.1 wl_X7_55 wMv_56 rfl (.inl rfl) rfl (Nat.le_trans (Nat.le_of_ble_eq_true rfl) hL) (Nat.le_of_ble_eq_true rfl) (Nat.le_of_ble_eq_true rfl) h (fun w2 hle h => ?_) (fun _ _ _ h => kzx_no rfl h)
  have h := h hle
  have hlp1 := w_l_le hlp1 hle
  exact kz_weak [(0, .ref (w_adr E.2.1 6 0)), (3, .int x3), (4, va_rf (x4)), (5, va_rf (x5))] ⟨rfl, ⟨rfl, ⟨rfl, ⟨rfl, trivial⟩⟩⟩⟩ rfl (zt_X7_message_p95 hL  h)
def zb_X7_message_p6 (E : zE) (L : Nat) (Q : kx_Rs → wS → Prop) (x3 : Int32) (x4 : Option Nat) (x5 : Option Nat) (w : wS) : Prop := (if x4 = none then zb_X7_message_p112 E L Q x3 x4 x5 w else (if x5 = none then zb_X7_message_p112 E L Q x3 x4 x5 w else (∃ p1, x4 = some p1 ∧ w_l w E.2.1 14 p1 ∧ (if w_i w 14 p1 17 = 0 then zb_X7_message_p95 E L Q x3 x4 x5 w else (∃ p2, x5 = some p2 ∧ w_l w E.2.1 14 p2 ∧ (if ¬ w_i w 14 p1 17 = w_i w 14 p2 17 then zb_X7_message_p81 E L Q x3 x4 x5 w else (if ¬ w_i w 14 p1 20 = w_i w 14 p2 20 then zb_X7_message_p81 E L Q x3 x4 x5 w else (if w_i w 14 p2 18 = (-1) then zb_X7_message_p95 E L Q x3 x4 x5 w else (if w_i w 14 p1 18 = (-1) then zb_X7_message_p95 E L Q x3 x4 x5 w else (if w_i w 14 p1 18 = w_i w 14 p2 18 then zb_X7_message_p95 E L Q x3 x4 x5 w else zb_X7_message_p81 E L Q x3 x4 x5 w))))))))))
theorem zt_X7_message_p6 {E : zE} {L : Nat} {Q : kx_Rs → wS → Prop} {x3 : Int32} {x4 : Option Nat} {x5 : Option Nat} {w : wS} (hL : 22 ≤ L) (h : zb_X7_message_p6 E L Q x3 x4 x5 w) : kzE E L kt_M273 6 [(0, .ref (w_adr E.2.1 6 0)), (3, .int x3), (4, va_rf (x4)), (5, va_rf (x5))] [] w Q := by
  unfold zb_X7_message_p6 at h
  refine kz_aloadv (M := kt_M273) (x := x4) kX7_message_c0.2.2.2.2.1 rfl ?_
  refine kz_ifnull (M := kt_M273) (x := x4) kX7_message_c0.2.2.2.2.2.1 (t := 112) rfl h (fun h => ?_) (fun h => ?_)
  · skip
    exact kz_weak [(0, .ref (w_adr E.2.1 6 0)), (3, .int x3), (4, va_rf (x4)), (5, va_rf (x5))] ⟨rfl, ⟨rfl, ⟨rfl, ⟨rfl, trivial⟩⟩⟩⟩ rfl (zt_X7_message_p112 hL  h)
  · skip
    refine kz_aloadv (M := kt_M273) (x := x5) kX7_message_c0.2.2.2.2.2.2.1 rfl ?_
    refine kz_ifnull (M := kt_M273) (x := x5) kX7_message_c0.2.2.2.2.2.2.2.1 (t := 112) rfl h (fun h => ?_) (fun h => ?_)
    · skip
      exact kz_weak [(0, .ref (w_adr E.2.1 6 0)), (3, .int x3), (4, va_rf (x4)), (5, va_rf (x5))] ⟨rfl, ⟨rfl, ⟨rfl, ⟨rfl, trivial⟩⟩⟩⟩ rfl (zt_X7_message_p112 hL  h)
    · skip
      refine kz_aloadv (M := kt_M273) (x := x4) kX7_message_c1.1 rfl ?_
      obtain ⟨p1, hxp1, hlp1, h⟩ := h
      refine kz_nz0 (x := x4) hxp1 ?_
      refine kz_gfi (M := kt_M273) (c := 14) (o := p1) kX7_message_c1.2.1 wf_X7_61 (.inr (by exact hlp1)) ?_
      refine kz_if_eq (M := kt_M273) kX7_message_c1.2.2.1 (t := 95) rfl h (fun h => ?_) (fun h => ?_)
      · skip
        exact kz_weak [(0, .ref (w_adr E.2.1 6 0)), (3, .int x3), (4, va_rf (x4)), (5, va_rf (x5))] ⟨rfl, ⟨rfl, ⟨rfl, ⟨rfl, trivial⟩⟩⟩⟩ rfl (zt_X7_message_p95 hL  h)
      · skip
        refine kz_aloadv (M := kt_M273) (x := x4) kX7_message_c1.2.2.2.1 rfl ?_
        refine kz_nz0 (x := x4) hxp1 ?_
        refine kz_gfi (M := kt_M273) (c := 14) (o := p1) kX7_message_c1.2.2.2.2.1 wf_X7_61 (.inr (by exact hlp1)) ?_
        refine kz_aloadv (M := kt_M273) (x := x5) kX7_message_c1.2.2.2.2.2.1 rfl ?_
        obtain ⟨p2, hxp2, hlp2, h⟩ := h
        refine kz_nz0 (x := x5) hxp2 ?_
        refine kz_gfi (M := kt_M273) (c := 14) (o := p2) kX7_message_c1.2.2.2.2.2.2.1 wf_X7_61 (.inr (by exact hlp2)) ?_
        refine kz_icmp_ne (M := kt_M273) kX7_message_c1.2.2.2.2.2.2.2.1 (t := 81) rfl h (fun h => ?_) (fun h => ?_)
        · skip
          exact kz_weak [(0, .ref (w_adr E.2.1 6 0)), (3, .int x3), (4, va_rf (x4)), (5, va_rf (x5))] ⟨rfl, ⟨rfl, ⟨rfl, ⟨rfl, trivial⟩⟩⟩⟩ rfl (zt_X7_message_p81 hL  h)
        · skip
          refine kz_aloadv (M := kt_M273) (x := x4) kX7_message_c2.1 rfl ?_
          refine kz_nz0 (x := x4) hxp1 ?_
          refine kz_gfi (M := kt_M273) (c := 14) (o := p1) kX7_message_c2.2.1 wf_X7_64 (.inr (by exact hlp1)) ?_
          refine kz_aloadv (M := kt_M273) (x := x5) kX7_message_c2.2.2.1 rfl ?_
          refine kz_nz0 (x := x5) hxp2 ?_
          refine kz_gfi (M := kt_M273) (c := 14) (o := p2) kX7_message_c2.2.2.2.1 wf_X7_64 (.inr (by exact hlp2)) ?_
          refine kz_icmp_ne (M := kt_M273) kX7_message_c2.2.2.2.2.1 (t := 81) rfl h (fun h => ?_) (fun h => ?_)
          · skip
            exact kz_weak [(0, .ref (w_adr E.2.1 6 0)), (3, .int x3), (4, va_rf (x4)), (5, va_rf (x5))] ⟨rfl, ⟨rfl, ⟨rfl, ⟨rfl, trivial⟩⟩⟩⟩ rfl (zt_X7_message_p81 hL  h)
          · skip
            refine kz_aloadv (M := kt_M273) (x := x5) kX7_message_c2.2.2.2.2.2.1 rfl ?_
            refine kz_nz0 (x := x5) hxp2 ?_
            refine kz_gfi (M := kt_M273) (c := 14) (o := p2) kX7_message_c2.2.2.2.2.2.2.1 wf_X7_133 (.inr (by exact hlp2)) ?_
            refine kz_ic (M := kt_M273) (-1) kX7_message_c2.2.2.2.2.2.2.2.1 rfl ?_
            refine kz_icmp_eq (M := kt_M273) kX7_message_c3.1 (t := 95) rfl h (fun h => ?_) (fun h => ?_)
            · skip
              exact kz_weak [(0, .ref (w_adr E.2.1 6 0)), (3, .int x3), (4, va_rf (x4)), (5, va_rf (x5))] ⟨rfl, ⟨rfl, ⟨rfl, ⟨rfl, trivial⟩⟩⟩⟩ rfl (zt_X7_message_p95 hL  h)
            · skip
              refine kz_aloadv (M := kt_M273) (x := x4) kX7_message_c3.2.1 rfl ?_
              refine kz_nz0 (x := x4) hxp1 ?_
              refine kz_gfi (M := kt_M273) (c := 14) (o := p1) kX7_message_c3.2.2.1 wf_X7_133 (.inr (by exact hlp1)) ?_
              refine kz_ic (M := kt_M273) (-1) kX7_message_c3.2.2.2.1 rfl ?_
              refine kz_icmp_eq (M := kt_M273) kX7_message_c3.2.2.2.2.1 (t := 95) rfl h (fun h => ?_) (fun h => ?_)
              · skip
                exact kz_weak [(0, .ref (w_adr E.2.1 6 0)), (3, .int x3), (4, va_rf (x4)), (5, va_rf (x5))] ⟨rfl, ⟨rfl, ⟨rfl, ⟨rfl, trivial⟩⟩⟩⟩ rfl (zt_X7_message_p95 hL  h)
              · skip
                refine kz_aloadv (M := kt_M273) (x := x4) kX7_message_c3.2.2.2.2.2.1 rfl ?_
                refine kz_nz0 (x := x4) hxp1 ?_
                refine kz_gfi (M := kt_M273) (c := 14) (o := p1) kX7_message_c3.2.2.2.2.2.2.1 wf_X7_133 (.inr (by exact hlp1)) ?_
                refine kz_aloadv (M := kt_M273) (x := x5) kX7_message_c3.2.2.2.2.2.2.2.1 rfl ?_
                refine kz_nz0 (x := x5) hxp2 ?_
                refine kz_gfi (M := kt_M273) (c := 14) (o := p2) kX7_message_c4.1 wf_X7_133 (.inr (by exact hlp2)) ?_
                refine kz_icmp_eq (M := kt_M273) kX7_message_c4.2.1 (t := 95) rfl h (fun h => ?_) (fun h => ?_)
                · skip
                  exact kz_weak [(0, .ref (w_adr E.2.1 6 0)), (3, .int x3), (4, va_rf (x4)), (5, va_rf (x5))] ⟨rfl, ⟨rfl, ⟨rfl, ⟨rfl, trivial⟩⟩⟩⟩ rfl (zt_X7_message_p95 hL  h)
                · skip
                  exact kz_weak [(0, .ref (w_adr E.2.1 6 0)), (3, .int x3), (4, va_rf (x4)), (5, va_rf (x5))] ⟨rfl, ⟨rfl, ⟨rfl, ⟨rfl, trivial⟩⟩⟩⟩ rfl (zt_X7_message_p81 hL  h)
def zb_X7_message_p0 (E : zE) (L : Nat) (Q : kx_Rs → wS → Prop) (x1 : Option Nat) (x2 : Option Nat) (x3 : Int32) (w : wS) : Prop := zL_X7_message_p6 E L Q x3 x1 x2 w
theorem zt_X7_message_p0 {E : zE} {L : Nat} {Q : kx_Rs → wS → Prop} {x1 : Option Nat} {x2 : Option Nat} {x3 : Int32} {w : wS} (hL : 22 ≤ L) (h : zb_X7_message_p0 E L Q x1 x2 x3 w) : kzE E L kt_M273 0 [(0, .ref (w_adr E.2.1 6 0)), (1, va_rf (x1)), (2, va_rf (x2)), (3, .int x3)] [] w Q := by
  unfold zb_X7_message_p0 at h
  refine kz_aload_nv (M := kt_M273) (x := x1) kX7_message_c0.1 rfl ?_
  refine kz_stv (M := kt_M273) (x := x1) [(0, .ref (w_adr E.2.1 6 0)), (2, va_rf (x2)), (3, .int x3)] kX7_message_c0.2.1 (Nat.le_of_ble_eq_true rfl) ⟨⟨rfl, rfl, .inl rfl⟩, ⟨⟨rfl, rfl, .inl rfl⟩, ⟨⟨rfl, rfl, .inr rfl⟩, trivial⟩⟩⟩ rfl ?_
  refine kz_aload_nv (M := kt_M273) (x := x2) kX7_message_c0.2.2.1 rfl ?_
  refine kz_stv (M := kt_M273) (x := x2) [(0, .ref (w_adr E.2.1 6 0)), (3, .int x3), (4, va_rf (x1))] kX7_message_c0.2.2.2.1 (Nat.le_of_ble_eq_true rfl) ⟨⟨rfl, rfl, .inl rfl⟩, ⟨⟨rfl, rfl, .inl rfl⟩, ⟨⟨rfl, rfl, .inr (w_cat (x1))⟩, trivial⟩⟩⟩ rfl ?_
  exact kz_weak [(0, .ref (w_adr E.2.1 6 0)), (3, .int x3), (4, va_rf (x1)), (5, va_rf (x2))] ⟨rfl, ⟨rfl, ⟨rfl, ⟨rfl, trivial⟩⟩⟩⟩ rfl h
def zL_X7_output_p181 (E : zE) (L : Nat) (Q : kx_Rs → wS → Prop) (x1 : Option Nat) (x2 : Option Nat) (x3 : Int32) (x4 : Option Nat) (x5 : Int32) (x6 : Option Nat) (w : wS) : Prop := kzE E L kt_M277 181 [(0, .ref (w_adr E.2.1 6 0)), (1, va_rf (x1)), (2, va_rf (x2)), (3, .int x3), (4, va_rf (x4)), (5, .int x5), (6, va_rf (x6))] [] w Q
def zb_X7_output_p394 (E : zE) (L : Nat) (Q : kx_Rs → wS → Prop) (w : wS) : Prop := Q (.inl none) w
theorem zt_X7_output_p394 {E : zE} {L : Nat} {Q : kx_Rs → wS → Prop} {w : wS} (hL : 25 ≤ L) (h : zb_X7_output_p394 E L Q  w) : kzE E L kt_M277 394 [(0, .ref (w_adr E.2.1 6 0))] [] w Q := by
  unfold zb_X7_output_p394 at h
  exact kz_ret (M := kt_M277) kX7_output_c21.2.2.2.2.1 rfl h
def zb_X7_output_p371 (E : zE) (L : Nat) (Q : kx_Rs → wS → Prop) (x1 : Option Nat) (w : wS) : Prop := (∃ p1, x1 = some p1 ∧ w_l w E.2.1 14 p1 ∧ (∃ p2, w_p w 14 p1 4 = some p2 ∧ w_l w E.2.1 14 p2 ∧ (if (w_p w 14 p2 7) = none then zb_X7_output_p394 E L Q w else zw E (L - 22) kt_M56 [.ref (w_adr E.2.1 2 0), .int 8, .int (w_i w 14 p1 2)] w (wk0 (fun w3 => wle w w3 → zb_X7_output_p394 E L Q w3) (fun e w => Q (.inr e) w)))))
theorem zt_X7_output_p371 {E : zE} {L : Nat} {Q : kx_Rs → wS → Prop} {x1 : Option Nat} {w : wS} (hL : 25 ≤ L) (h : zb_X7_output_p371 E L Q x1 w) : kzE E L kt_M277 371 [(0, .ref (w_adr E.2.1 6 0)), (1, va_rf (x1))] [] w Q := by
  unfold zb_X7_output_p371 at h
  refine kz_aload_nv (M := kt_M277) (x := x1) kX7_output_c20.2.2.1 rfl ?_
  obtain ⟨p1, hxp1, hlp1, h⟩ := h
  refine kz_nz0 (x := x1) hxp1 ?_
  refine kz_gfp (M := kt_M277) (c := 14) (o := p1) kX7_output_c20.2.2.2.1 wf_X7_46 (.inr (by exact hlp1)) ?_
  obtain ⟨p2, hxp2, hlp2, h⟩ := h
  refine kz_nz0 (x := w_p w 14 p1 4) hxp2 ?_
  refine kz_gfp (M := kt_M277) (c := 14) (o := p2) kX7_output_c20.2.2.2.2.1 wf_X7_43 (.inr (by exact hlp2)) ?_
  refine kz_ifnull (M := kt_M277) (x := w_p w 14 p2 7) kX7_output_c20.2.2.2.2.2.1 (t := 394) rfl h (fun h => ?_) (fun h => ?_)
  · skip
    exact kz_weak [(0, .ref (w_adr E.2.1 6 0))] ⟨rfl, trivial⟩ rfl (zt_X7_output_p394 hL  h)
  · skip
    refine kz_aload_n (M := kt_M277) kX7_output_c20.2.2.2.2.2.2.1 rfl ?_
    refine kz_gfc (M := kt_M277) (x := 8) (c := 6) (o := 0) kX7_output_c20.2.2.2.2.2.2.2.1 wf_X7_15 (.inl rfl) ?_
    refine kz_bi (M := kt_M277) 8 kX7_output_c21.1 rfl ?_
    refine kz_aload_nv (M := kt_M277) (x := x1) kX7_output_c21.2.1 rfl ?_
    refine kz_nz0 (x := x1) hxp1 ?_
    refine kz_gfi (M := kt_M277) (c := 14) (o := p1) kX7_output_c21.2.2.1 wf_X7_52 (.inr (by exact hlp1)) ?_
    refine kz_cv0 (M := kt_M277) (c := 2) (o := 0) (As := [.int 8, .int (w_i w 14 p1 2)]) (rest := []) kX7_output_c21.2.2.2.1 wl_X7_55 wMv_56 rfl (.inl rfl) rfl (Nat.le_trans (Nat.le_of_ble_eq_true rfl) hL) (Nat.le_of_ble_eq_true rfl) (Nat.le_of_ble_eq_true rfl) h (fun w3 hle h => ?_) (fun _ _ _ h => kzx_no rfl h)
    have h := h hle
    have hlp1 := w_l_le hlp1 hle
    have hlp2 := w_l_le hlp2 hle
    exact kz_weak [(0, .ref (w_adr E.2.1 6 0))] ⟨rfl, trivial⟩ rfl (zt_X7_output_p394 hL  h)
def zb_X7_output_p355 (E : zE) (L : Nat) (Q : kx_Rs → wS → Prop) (x1 : Option Nat) (w : wS) : Prop := (∃ p1, x1 = some p1 ∧ w_l w E.2.1 14 p1 ∧ (∃ p2, w_p w 14 p1 4 = some p2 ∧ w_l w E.2.1 14 p2 ∧ zw E (L - 22) kt_M56 [.ref (w_adr E.2.1 2 0), .int 7, .int (w_i w 14 p2 2)] w (wk0 (fun w3 => wle w w3 → zb_X7_output_p371 E L Q x1 w3) (fun e w => Q (.inr e) w))))
theorem zt_X7_output_p355 {E : zE} {L : Nat} {Q : kx_Rs → wS → Prop} {x1 : Option Nat} {w : wS} (hL : 25 ≤ L) (h : zb_X7_output_p355 E L Q x1 w) : kzE E L kt_M277 355 [(0, .ref (w_adr E.2.1 6 0)), (1, va_rf (x1))] [] w Q := by
  unfold zb_X7_output_p355 at h
  refine kz_aload_n (M := kt_M277) kX7_output_c19.2.2.2.1 rfl ?_
  refine kz_gfc (M := kt_M277) (x := 8) (c := 6) (o := 0) kX7_output_c19.2.2.2.2.1 wf_X7_15 (.inl rfl) ?_
  refine kz_bi (M := kt_M277) 7 kX7_output_c19.2.2.2.2.2.1 rfl ?_
  refine kz_aload_nv (M := kt_M277) (x := x1) kX7_output_c19.2.2.2.2.2.2.1 rfl ?_
  obtain ⟨p1, hxp1, hlp1, h⟩ := h
  refine kz_nz0 (x := x1) hxp1 ?_
  refine kz_gfp (M := kt_M277) (c := 14) (o := p1) kX7_output_c19.2.2.2.2.2.2.2.1 wf_X7_46 (.inr (by exact hlp1)) ?_
  obtain ⟨p2, hxp2, hlp2, h⟩ := h
  refine kz_nz0 (x := w_p w 14 p1 4) hxp2 ?_
  refine kz_gfi (M := kt_M277) (c := 14) (o := p2) kX7_output_c20.1 wf_X7_52 (.inr (by exact hlp2)) ?_
  refine kz_cv0 (M := kt_M277) (c := 2) (o := 0) (As := [.int 7, .int (w_i w 14 p2 2)]) (rest := []) kX7_output_c20.2.1 wl_X7_55 wMv_56 rfl (.inl rfl) rfl (Nat.le_trans (Nat.le_of_ble_eq_true rfl) hL) (Nat.le_of_ble_eq_true rfl) (Nat.le_of_ble_eq_true rfl) h (fun w3 hle h => ?_) (fun _ _ _ h => kzx_no rfl h)
  have h := h hle
  have hlp1 := w_l_le hlp1 hle
  have hlp2 := w_l_le hlp2 hle
  exact kz_weak [(0, .ref (w_adr E.2.1 6 0)), (1, va_rf (x1))] ⟨rfl, ⟨rfl, trivial⟩⟩ rfl (zt_X7_output_p371 hL  h)
def zb_X7_output_p257 (E : zE) (L : Nat) (Q : kx_Rs → wS → Prop) (x1 : Option Nat) (x4 : Option Nat) (w : wS) : Prop := (if x4 = none then zb_X7_output_p394 E L Q w else (∃ p1, x1 = some p1 ∧ w_l w E.2.1 14 p1 ∧ (∃ p2, w_p w 14 p1 4 = some p2 ∧ w_l w E.2.1 14 p2 ∧ (∃ p3, x4 = some p3 ∧ w_l w E.2.1 15 p3 ∧ zw E (L - 25) kt_M273 [.ref (w_adr E.2.1 6 0), va_rf (w_p w 14 p2 7), va_rf (w_p w 15 p3 17), .int (w_i w 14 p1 2)] w (wk0 (fun w4 => wle w w4 → zb_X7_output_p394 E L Q w4) (fun e w => Q (.inr e) w))))))
theorem zt_X7_output_p257 {E : zE} {L : Nat} {Q : kx_Rs → wS → Prop} {x1 : Option Nat} {x4 : Option Nat} {w : wS} (hL : 25 ≤ L) (h : zb_X7_output_p257 E L Q x1 x4 w) : kzE E L kt_M277 257 [(0, .ref (w_adr E.2.1 6 0)), (1, va_rf (x1)), (4, va_rf (x4))] [] w Q := by
  unfold zb_X7_output_p257 at h
  refine kz_aloadv (M := kt_M277) (x := x4) kX7_output_c14.2.1 rfl ?_
  refine kz_ifnull (M := kt_M277) (x := x4) kX7_output_c14.2.2.1 (t := 394) rfl h (fun h => ?_) (fun h => ?_)
  · skip
    exact kz_weak [(0, .ref (w_adr E.2.1 6 0))] ⟨rfl, trivial⟩ rfl (zt_X7_output_p394 hL  h)
  · skip
    refine kz_aload_n (M := kt_M277) kX7_output_c14.2.2.2.1 rfl ?_
    refine kz_aload_nv (M := kt_M277) (x := x1) kX7_output_c14.2.2.2.2.1 rfl ?_
    obtain ⟨p1, hxp1, hlp1, h⟩ := h
    refine kz_nz0 (x := x1) hxp1 ?_
    refine kz_gfp (M := kt_M277) (c := 14) (o := p1) kX7_output_c14.2.2.2.2.2.1 wf_X7_46 (.inr (by exact hlp1)) ?_
    obtain ⟨p2, hxp2, hlp2, h⟩ := h
    refine kz_nz0 (x := w_p w 14 p1 4) hxp2 ?_
    refine kz_gfp (M := kt_M277) (c := 14) (o := p2) kX7_output_c14.2.2.2.2.2.2.1 wf_X7_43 (.inr (by exact hlp2)) ?_
    refine kz_aloadv (M := kt_M277) (x := x4) kX7_output_c14.2.2.2.2.2.2.2.1 rfl ?_
    obtain ⟨p3, hxp3, hlp3, h⟩ := h
    refine kz_nz0 (x := x4) hxp3 ?_
    refine kz_gfp (M := kt_M277) (c := 15) (o := p3) kX7_output_c15.1 wf_X7_250 (.inr (by exact hlp3)) ?_
    refine kz_aload_nv (M := kt_M277) (x := x1) kX7_output_c15.2.1 rfl ?_
    refine kz_nz0 (x := x1) hxp1 ?_
    refine kz_gfi (M := kt_M277) (c := 14) (o := p1) kX7_output_c15.2.2.1 wf_X7_52 (.inr (by exact hlp1)) ?_
    refine kz_cv0 (M := kt_M277) (c := 6) (o := 0) (As := [va_rf (w_p w 14 p2 7), va_rf (w_p w 15 p3 17), .int (w_i w 14 p1 2)]) (rest := []) kX7_output_c15.2.2.2.1 wl_X7_252 wMv_273 rfl (.inl rfl) rfl (Nat.le_trans (Nat.le_of_ble_eq_true rfl) hL) (by simp [lg_sl, w_cat, z_ci, z_cr, z_cl, z_cn, kt_M273]) (Nat.le_of_ble_eq_true rfl) h (fun w4 hle h => ?_) (fun _ _ _ h => kzx_no rfl h)
    have h := h hle
    have hlp1 := w_l_le hlp1 hle
    have hlp2 := w_l_le hlp2 hle
    have hlp3 := w_l_le hlp3 hle
    refine kz_goto (M := kt_M277) kX7_output_c15.2.2.2.2.1 (t := 394) rfl ?_
    exact kz_weak [(0, .ref (w_adr E.2.1 6 0))] ⟨rfl, trivial⟩ rfl (zt_X7_output_p394 hL  h)
def zb_X7_output_p244 (E : zE) (L : Nat) (Q : kx_Rs → wS → Prop) (x1 : Option Nat) (x4 : Option Nat) (w : wS) : Prop := (∃ p1, x1 = some p1 ∧ w_l w E.2.1 14 p1 ∧ zw E (L - 22) kt_M56 [.ref (w_adr E.2.1 2 0), .int 7, .int (w_i w 14 p1 2)] w (wk0 (fun w2 => wle w w2 → zb_X7_output_p257 E L Q x1 x4 w2) (fun e w => Q (.inr e) w)))
theorem zt_X7_output_p244 {E : zE} {L : Nat} {Q : kx_Rs → wS → Prop} {x1 : Option Nat} {x4 : Option Nat} {w : wS} (hL : 25 ≤ L) (h : zb_X7_output_p244 E L Q x1 x4 w) : kzE E L kt_M277 244 [(0, .ref (w_adr E.2.1 6 0)), (1, va_rf (x1)), (4, va_rf (x4))] [] w Q := by
  unfold zb_X7_output_p244 at h
  refine kz_aload_n (M := kt_M277) kX7_output_c13.2.2.2.1 rfl ?_
  refine kz_gfc (M := kt_M277) (x := 8) (c := 6) (o := 0) kX7_output_c13.2.2.2.2.1 wf_X7_15 (.inl rfl) ?_
  refine kz_bi (M := kt_M277) 7 kX7_output_c13.2.2.2.2.2.1 rfl ?_
  refine kz_aload_nv (M := kt_M277) (x := x1) kX7_output_c13.2.2.2.2.2.2.1 rfl ?_
  obtain ⟨p1, hxp1, hlp1, h⟩ := h
  refine kz_nz0 (x := x1) hxp1 ?_
  refine kz_gfi (M := kt_M277) (c := 14) (o := p1) kX7_output_c13.2.2.2.2.2.2.2.1 wf_X7_52 (.inr (by exact hlp1)) ?_
  refine kz_cv0 (M := kt_M277) (c := 2) (o := 0) (As := [.int 7, .int (w_i w 14 p1 2)]) (rest := []) kX7_output_c14.1 wl_X7_55 wMv_56 rfl (.inl rfl) rfl (Nat.le_trans (Nat.le_of_ble_eq_true rfl) hL) (Nat.le_of_ble_eq_true rfl) (Nat.le_of_ble_eq_true rfl) h (fun w2 hle h => ?_) (fun _ _ _ h => kzx_no rfl h)
  have h := h hle
  have hlp1 := w_l_le hlp1 hle
  exact kz_weak [(0, .ref (w_adr E.2.1 6 0)), (1, va_rf (x1)), (4, va_rf (x4))] ⟨rfl, ⟨rfl, ⟨rfl, trivial⟩⟩⟩ rfl (zt_X7_output_p257 hL  h)
def zb_X7_output_p227 (E : zE) (L : Nat) (Q : kx_Rs → wS → Prop) (x1 : Option Nat) (x2 : Option Nat) (x4 : Option Nat) (w : wS) : Prop := (if x4 = none then zb_X7_output_p257 E L Q x1 x4 w else (∃ p1, x4 = some p1 ∧ w_l w E.2.1 15 p1 ∧ (∃ p2, x2 = some p2 ∧ w_l w E.2.1 15 p2 ∧ (if w_p w 15 p1 15 = w_p w 15 p2 15 then zb_X7_output_p257 E L Q x1 x4 w else zb_X7_output_p244 E L Q x1 x4 w))))
theorem zt_X7_output_p227 {E : zE} {L : Nat} {Q : kx_Rs → wS → Prop} {x1 : Option Nat} {x2 : Option Nat} {x4 : Option Nat} {w : wS} (hL : 25 ≤ L) (h : zb_X7_output_p227 E L Q x1 x2 x4 w) : kzE E L kt_M277 227 [(0, .ref (w_adr E.2.1 6 0)), (1, va_rf (x1)), (2, va_rf (x2)), (4, va_rf (x4))] [] w Q := by
  unfold zb_X7_output_p227 at h
  refine kz_aloadv (M := kt_M277) (x := x4) kX7_output_c12.2.2.2.2.1 rfl ?_
  refine kz_ifnull (M := kt_M277) (x := x4) kX7_output_c12.2.2.2.2.2.1 (t := 257) rfl h (fun h => ?_) (fun h => ?_)
  · skip
    exact kz_weak [(0, .ref (w_adr E.2.1 6 0)), (1, va_rf (x1)), (4, va_rf (x4))] ⟨rfl, ⟨rfl, ⟨rfl, trivial⟩⟩⟩ rfl (zt_X7_output_p257 hL  h)
  · skip
    refine kz_aloadv (M := kt_M277) (x := x4) kX7_output_c12.2.2.2.2.2.2.1 rfl ?_
    obtain ⟨p1, hxp1, hlp1, h⟩ := h
    refine kz_nz0 (x := x4) hxp1 ?_
    refine kz_gfp (M := kt_M277) (c := 15) (o := p1) kX7_output_c12.2.2.2.2.2.2.2.1 wf_X7_151 (.inr (by exact hlp1)) ?_
    refine kz_aload_nv (M := kt_M277) (x := x2) kX7_output_c13.1 rfl ?_
    obtain ⟨p2, hxp2, hlp2, h⟩ := h
    refine kz_nz0 (x := x2) hxp2 ?_
    refine kz_gfp (M := kt_M277) (c := 15) (o := p2) kX7_output_c13.2.1 wf_X7_151 (.inr (by exact hlp2)) ?_
    refine kz_acmp_eq (M := kt_M277) (x := w_p w 15 p1 15) (y := w_p w 15 p2 15) kX7_output_c13.2.2.1 (t := 257) rfl h (fun h => ?_) (fun h => ?_)
    · skip
      exact kz_weak [(0, .ref (w_adr E.2.1 6 0)), (1, va_rf (x1)), (4, va_rf (x4))] ⟨rfl, ⟨rfl, ⟨rfl, trivial⟩⟩⟩ rfl (zt_X7_output_p257 hL  h)
    · skip
      exact kz_weak [(0, .ref (w_adr E.2.1 6 0)), (1, va_rf (x1)), (4, va_rf (x4))] ⟨rfl, ⟨rfl, ⟨rfl, trivial⟩⟩⟩ rfl (zt_X7_output_p244 hL  h)
def zb_X7_output_p181 (E : zE) (L : Nat) (Q : kx_Rs → wS → Prop) (x1 : Option Nat) (x2 : Option Nat) (x3 : Int32) (x4 : Option Nat) (x5 : Int32) (x6 : Option Nat) (w : wS) : Prop := (if x6 = none then (∃ p1, x1 = some p1 ∧ w_l w E.2.1 14 p1 ∧ (∃ p2, w_p w 14 p1 3 = some p2 ∧ w_l w E.2.1 14 p2 ∧ (if w_i w 14 p2 11 = 0 then (if x3 = 0 then (∃ p3, x2 = some p3 ∧ w_l w E.2.1 15 p3 ∧ (if (w_p w 15 p3 15) = none then (if w_i w 15 p3 5 = 0 then zb_X7_output_p394 E L Q w else (∃ p4, w_p w 14 p1 4 = some p4 ∧ w_l w E.2.1 14 p4 ∧ (if w_i w 14 p4 17 = 0 then zb_X7_output_p371 E L Q x1 w else (if ¬ w_i w 14 p4 17 = w_i w 15 p3 5 then zb_X7_output_p355 E L Q x1 w else (if w_i w 14 p4 20 = 0 then zb_X7_output_p371 E L Q x1 w else zb_X7_output_p355 E L Q x1 w))))) else (∃ p5, w_p w 15 p3 15 = some p5 ∧ w_l w E.2.1 15 p5 ∧ zw E (L - 25) kt_M273 [.ref (w_adr E.2.1 6 0), va_rf (w_p w 14 p1 4), va_rf (w_p w 15 p5 17), .int (w_i w 14 p1 2)] w (wk0 (fun w6 => wle w w6 → zb_X7_output_p394 E L Q w6) (fun e w => Q (.inr e) w))))) else (if ¬ x4 = none then zb_X7_output_p227 E L Q x1 x2 x4 w else (if x5 = 0 then zb_X7_output_p244 E L Q x1 x4 w else zb_X7_output_p227 E L Q x1 x2 x4 w))) else Q (.inl none) w))) else zw E (L - 21) kt_M266 [.ref (w_adr E.2.1 6 0), va_rf (x6)] w (wk0 (fun w8 => wle w w8 → (∃ p10, x6 = some p10 ∧ w_l w8 E.2.1 14 p10 ∧ zL_X7_output_p181 E L Q x1 x2 x3 x4 x5 (w_p w8 14 p10 7) w8)) (fun e w => Q (.inr e) w)))
theorem zt_X7_output_p181 {E : zE} {L : Nat} {Q : kx_Rs → wS → Prop} {x1 : Option Nat} {x2 : Option Nat} {x3 : Int32} {x4 : Option Nat} {x5 : Int32} {x6 : Option Nat} {w : wS} (hL : 25 ≤ L) (h : zb_X7_output_p181 E L Q x1 x2 x3 x4 x5 x6 w) : kzE E L kt_M277 181 [(0, .ref (w_adr E.2.1 6 0)), (1, va_rf (x1)), (2, va_rf (x2)), (3, .int x3), (4, va_rf (x4)), (5, .int x5), (6, va_rf (x6))] [] w Q := by
  unfold zb_X7_output_p181 at h
  refine kz_aloadv (M := kt_M277) (x := x6) kX7_output_c10.1 rfl ?_
  refine kz_ifnull (M := kt_M277) (x := x6) kX7_output_c10.2.1 (t := 202) rfl h (fun h => ?_) (fun h => ?_)
  · skip
    refine kz_aload_nv (M := kt_M277) (x := x1) kX7_output_c11.2.1 rfl ?_
    obtain ⟨p1, hxp1, hlp1, h⟩ := h
    refine kz_nz0 (x := x1) hxp1 ?_
    refine kz_gfp (M := kt_M277) (c := 14) (o := p1) kX7_output_c11.2.2.1 wf_X7_34 (.inr (by exact hlp1)) ?_
    obtain ⟨p2, hxp2, hlp2, h⟩ := h
    refine kz_nz0 (x := w_p w 14 p1 3) hxp2 ?_
    refine kz_gfi (M := kt_M277) (c := 14) (o := p2) kX7_output_c11.2.2.2.1 wf_X7_141 (.inr (by exact hlp2)) ?_
    refine kz_if_eq (M := kt_M277) kX7_output_c11.2.2.2.2.1 (t := 213) rfl h (fun h => ?_) (fun h => ?_)
    · skip
      refine kz_iload_n (M := kt_M277) kX7_output_c11.2.2.2.2.2.2.1 rfl ?_
      refine kz_if_eq (M := kt_M277) kX7_output_c11.2.2.2.2.2.2.2.1 (t := 285) rfl h (fun h => ?_) (fun h => ?_)
      · skip
        refine kz_aload_nv (M := kt_M277) (x := x2) kX7_output_c15.2.2.2.2.2.1 rfl ?_
        obtain ⟨p3, hxp3, hlp3, h⟩ := h
        refine kz_nz0 (x := x2) hxp3 ?_
        refine kz_gfp (M := kt_M277) (c := 15) (o := p3) kX7_output_c15.2.2.2.2.2.2.1 wf_X7_151 (.inr (by exact hlp3)) ?_
        refine kz_ifnull (M := kt_M277) (x := w_p w 15 p3 15) kX7_output_c15.2.2.2.2.2.2.2.1 (t := 314) rfl h (fun h => ?_) (fun h => ?_)
        · skip
          refine kz_aload_nv (M := kt_M277) (x := x2) kX7_output_c17.2.2.1 rfl ?_
          refine kz_nz0 (x := x2) hxp3 ?_
          refine kz_gfi (M := kt_M277) (c := 15) (o := p3) kX7_output_c17.2.2.2.1 wf_X7_134 (.inr (by exact hlp3)) ?_
          refine kz_if_eq (M := kt_M277) kX7_output_c17.2.2.2.2.1 (t := 394) rfl h (fun h => ?_) (fun h => ?_)
          · skip
            exact kz_weak [(0, .ref (w_adr E.2.1 6 0))] ⟨rfl, trivial⟩ rfl (zt_X7_output_p394 hL  h)
          · skip
            refine kz_aload_nv (M := kt_M277) (x := x1) kX7_output_c17.2.2.2.2.2.1 rfl ?_
            refine kz_nz0 (x := x1) hxp1 ?_
            refine kz_gfp (M := kt_M277) (c := 14) (o := p1) kX7_output_c17.2.2.2.2.2.2.1 wf_X7_46 (.inr (by exact hlp1)) ?_
            obtain ⟨p4, hxp4, hlp4, h⟩ := h
            refine kz_nz0 (x := w_p w 14 p1 4) hxp4 ?_
            refine kz_gfi (M := kt_M277) (c := 14) (o := p4) kX7_output_c17.2.2.2.2.2.2.2.1 wf_X7_61 (.inr (by exact hlp4)) ?_
            refine kz_if_eq (M := kt_M277) kX7_output_c18.1 (t := 371) rfl h (fun h => ?_) (fun h => ?_)
            · skip
              exact kz_weak [(0, .ref (w_adr E.2.1 6 0)), (1, va_rf (x1))] ⟨rfl, ⟨rfl, trivial⟩⟩ rfl (zt_X7_output_p371 hL  h)
            · skip
              refine kz_aload_nv (M := kt_M277) (x := x1) kX7_output_c18.2.1 rfl ?_
              refine kz_nz0 (x := x1) hxp1 ?_
              refine kz_gfp (M := kt_M277) (c := 14) (o := p1) kX7_output_c18.2.2.1 wf_X7_46 (.inr (by exact hlp1)) ?_
              refine kz_nz0 (x := w_p w 14 p1 4) hxp4 ?_
              refine kz_gfi (M := kt_M277) (c := 14) (o := p4) kX7_output_c18.2.2.2.1 wf_X7_61 (.inr (by exact hlp4)) ?_
              refine kz_aload_nv (M := kt_M277) (x := x2) kX7_output_c18.2.2.2.2.1 rfl ?_
              refine kz_nz0 (x := x2) hxp3 ?_
              refine kz_gfi (M := kt_M277) (c := 15) (o := p3) kX7_output_c18.2.2.2.2.2.1 wf_X7_134 (.inr (by exact hlp3)) ?_
              refine kz_icmp_ne (M := kt_M277) kX7_output_c18.2.2.2.2.2.2.1 (t := 355) rfl h (fun h => ?_) (fun h => ?_)
              · skip
                exact kz_weak [(0, .ref (w_adr E.2.1 6 0)), (1, va_rf (x1))] ⟨rfl, ⟨rfl, trivial⟩⟩ rfl (zt_X7_output_p355 hL  h)
              · skip
                refine kz_aload_nv (M := kt_M277) (x := x1) kX7_output_c18.2.2.2.2.2.2.2.1 rfl ?_
                refine kz_nz0 (x := x1) hxp1 ?_
                refine kz_gfp (M := kt_M277) (c := 14) (o := p1) kX7_output_c19.1 wf_X7_46 (.inr (by exact hlp1)) ?_
                refine kz_nz0 (x := w_p w 14 p1 4) hxp4 ?_
                refine kz_gfi (M := kt_M277) (c := 14) (o := p4) kX7_output_c19.2.1 wf_X7_64 (.inr (by exact hlp4)) ?_
                refine kz_if_eq (M := kt_M277) kX7_output_c19.2.2.1 (t := 371) rfl h (fun h => ?_) (fun h => ?_)
                · skip
                  exact kz_weak [(0, .ref (w_adr E.2.1 6 0)), (1, va_rf (x1))] ⟨rfl, ⟨rfl, trivial⟩⟩ rfl (zt_X7_output_p371 hL  h)
                · skip
                  exact kz_weak [(0, .ref (w_adr E.2.1 6 0)), (1, va_rf (x1))] ⟨rfl, ⟨rfl, trivial⟩⟩ rfl (zt_X7_output_p355 hL  h)
        · skip
          refine kz_aload_n (M := kt_M277) kX7_output_c16.1 rfl ?_
          refine kz_aload_nv (M := kt_M277) (x := x1) kX7_output_c16.2.1 rfl ?_
          refine kz_nz0 (x := x1) hxp1 ?_
          refine kz_gfp (M := kt_M277) (c := 14) (o := p1) kX7_output_c16.2.2.1 wf_X7_46 (.inr (by exact hlp1)) ?_
          refine kz_aload_nv (M := kt_M277) (x := x2) kX7_output_c16.2.2.2.1 rfl ?_
          refine kz_nz0 (x := x2) hxp3 ?_
          refine kz_gfp (M := kt_M277) (c := 15) (o := p3) kX7_output_c16.2.2.2.2.1 wf_X7_151 (.inr (by exact hlp3)) ?_
          obtain ⟨p5, hxp5, hlp5, h⟩ := h
          refine kz_nz0 (x := w_p w 15 p3 15) hxp5 ?_
          refine kz_gfp (M := kt_M277) (c := 15) (o := p5) kX7_output_c16.2.2.2.2.2.1 wf_X7_250 (.inr (by exact hlp5)) ?_
          refine kz_aload_nv (M := kt_M277) (x := x1) kX7_output_c16.2.2.2.2.2.2.1 rfl ?_
          refine kz_nz0 (x := x1) hxp1 ?_
          refine kz_gfi (M := kt_M277) (c := 14) (o := p1) kX7_output_c16.2.2.2.2.2.2.2.1 wf_X7_52 (.inr (by exact hlp1)) ?_
          refine kz_cv0 (M := kt_M277) (c := 6) (o := 0) (As := [va_rf (w_p w 14 p1 4), va_rf (w_p w 15 p5 17), .int (w_i w 14 p1 2)]) (rest := []) kX7_output_c17.1 wl_X7_252 wMv_273 rfl (.inl rfl) rfl (Nat.le_trans (Nat.le_of_ble_eq_true rfl) hL) (by simp [lg_sl, w_cat, z_ci, z_cr, z_cl, z_cn, kt_M273]) (Nat.le_of_ble_eq_true rfl) h (fun w6 hle h => ?_) (fun _ _ _ h => kzx_no rfl h)
          have h := h hle
          have hlp1 := w_l_le hlp1 hle
          have hlp2 := w_l_le hlp2 hle
          have hlp3 := w_l_le hlp3 hle
          have hlp5 := w_l_le hlp5 hle
          refine kz_goto (M := kt_M277) kX7_output_c17.2.1 (t := 394) rfl ?_
          exact kz_weak [(0, .ref (w_adr E.2.1 6 0))] ⟨rfl, trivial⟩ rfl (zt_X7_output_p394 hL  h)
      · skip
        refine kz_aloadv (M := kt_M277) (x := x4) kX7_output_c12.1 rfl ?_
        refine kz_ifnonnull (M := kt_M277) (x := x4) kX7_output_c12.2.1 (t := 227) rfl h (fun h => ?_) (fun h => ?_)
        · skip
          exact kz_weak [(0, .ref (w_adr E.2.1 6 0)), (1, va_rf (x1)), (2, va_rf (x2)), (4, va_rf (x4))] ⟨rfl, ⟨rfl, ⟨rfl, ⟨rfl, trivial⟩⟩⟩⟩ rfl (zt_X7_output_p227 hL  h)
        · skip
          refine kz_iload (M := kt_M277) kX7_output_c12.2.2.1 rfl ?_
          refine kz_if_eq (M := kt_M277) kX7_output_c12.2.2.2.1 (t := 244) rfl h (fun h => ?_) (fun h => ?_)
          · skip
            exact kz_weak [(0, .ref (w_adr E.2.1 6 0)), (1, va_rf (x1)), (4, va_rf (x4))] ⟨rfl, ⟨rfl, ⟨rfl, trivial⟩⟩⟩ rfl (zt_X7_output_p244 hL  h)
          · skip
            exact kz_weak [(0, .ref (w_adr E.2.1 6 0)), (1, va_rf (x1)), (2, va_rf (x2)), (4, va_rf (x4))] ⟨rfl, ⟨rfl, ⟨rfl, ⟨rfl, trivial⟩⟩⟩⟩ rfl (zt_X7_output_p227 hL  h)
    · skip
      exact kz_ret (M := kt_M277) kX7_output_c11.2.2.2.2.2.1 rfl h
  · skip
    refine kz_aload_n (M := kt_M277) kX7_output_c10.2.2.1 rfl ?_
    refine kz_aloadv (M := kt_M277) (x := x6) kX7_output_c10.2.2.2.1 rfl ?_
    refine kz_cv0 (M := kt_M277) (c := 6) (o := 0) (As := [va_rf (x6)]) (rest := []) kX7_output_c10.2.2.2.2.1 wl_X7_71 wMv_266 rfl (.inl rfl) rfl (Nat.le_trans (Nat.le_of_ble_eq_true rfl) hL) (by simp [lg_sl, w_cat, z_ci, z_cr, z_cl, z_cn, kt_M266]) (Nat.le_of_ble_eq_true rfl) h (fun w8 hle h => ?_) (fun _ _ _ h => kzx_no rfl h)
    have h := h hle
    refine kz_aloadv (M := kt_M277) (x := x6) kX7_output_c10.2.2.2.2.2.1 rfl ?_
    obtain ⟨p10, hxp10, hlp10, h⟩ := h
    refine kz_nz0 (x := x6) hxp10 ?_
    refine kz_gfp (M := kt_M277) (c := 14) (o := p10) kX7_output_c10.2.2.2.2.2.2.1 wf_X7_43 (.inr (by exact hlp10)) ?_
    refine kz_stv (M := kt_M277) (x := w_p w8 14 p10 7) [(0, .ref (w_adr E.2.1 6 0)), (1, va_rf (x1)), (2, va_rf (x2)), (3, .int x3), (4, va_rf (x4)), (5, .int x5)] kX7_output_c10.2.2.2.2.2.2.2.1 (Nat.le_of_ble_eq_true rfl) ⟨⟨rfl, rfl, .inl rfl⟩, ⟨⟨rfl, rfl, .inl rfl⟩, ⟨⟨rfl, rfl, .inl rfl⟩, ⟨⟨rfl, rfl, .inl rfl⟩, ⟨⟨rfl, rfl, .inl rfl⟩, ⟨⟨rfl, rfl, .inr rfl⟩, trivial⟩⟩⟩⟩⟩⟩ rfl ?_
    refine kz_goto (M := kt_M277) kX7_output_c11.1 (t := 181) rfl ?_
    exact kz_weak [(0, .ref (w_adr E.2.1 6 0)), (1, va_rf (x1)), (2, va_rf (x2)), (3, .int x3), (4, va_rf (x4)), (5, .int x5), (6, va_rf (w_p w8 14 p10 7))] ⟨rfl, ⟨rfl, ⟨rfl, ⟨rfl, ⟨rfl, ⟨rfl, ⟨rfl, trivial⟩⟩⟩⟩⟩⟩⟩ rfl h
def zb_X7_output_p179 (E : zE) (L : Nat) (Q : kx_Rs → wS → Prop) (x1 : Option Nat) (x2 : Option Nat) (x3 : Int32) (x4 : Option Nat) (x5 : Int32) (y0 : Option Nat) (w : wS) : Prop := zL_X7_output_p181 E L Q x1 x2 x3 x4 x5 y0 w
theorem zt_X7_output_p179 {E : zE} {L : Nat} {Q : kx_Rs → wS → Prop} {x1 : Option Nat} {x2 : Option Nat} {x3 : Int32} {x4 : Option Nat} {x5 : Int32} {y0 : Option Nat} {w : wS} (hL : 25 ≤ L) (h : zb_X7_output_p179 E L Q x1 x2 x3 x4 x5 y0 w) : kzE E L kt_M277 179 [(0, .ref (w_adr E.2.1 6 0)), (1, va_rf (x1)), (2, va_rf (x2)), (3, .int x3), (4, va_rf (x4)), (5, .int x5)] [va_rf (y0)] w Q := by
  unfold zb_X7_output_p179 at h
  refine kz_stv (M := kt_M277) (x := y0) [(0, .ref (w_adr E.2.1 6 0)), (1, va_rf (x1)), (2, va_rf (x2)), (3, .int x3), (4, va_rf (x4)), (5, .int x5)] kX7_output_c9.2.2.2.2.2.2.2.1 (Nat.le_of_ble_eq_true rfl) ⟨⟨rfl, rfl, .inl rfl⟩, ⟨⟨rfl, rfl, .inl rfl⟩, ⟨⟨rfl, rfl, .inl rfl⟩, ⟨⟨rfl, rfl, .inl rfl⟩, ⟨⟨rfl, rfl, .inl rfl⟩, ⟨⟨rfl, rfl, .inr rfl⟩, trivial⟩⟩⟩⟩⟩⟩ rfl ?_
  exact kz_weak [(0, .ref (w_adr E.2.1 6 0)), (1, va_rf (x1)), (2, va_rf (x2)), (3, .int x3), (4, va_rf (x4)), (5, .int x5), (6, va_rf (y0))] ⟨rfl, ⟨rfl, ⟨rfl, ⟨rfl, ⟨rfl, ⟨rfl, ⟨rfl, trivial⟩⟩⟩⟩⟩⟩⟩ rfl h
def zb_X7_output_p158 (E : zE) (L : Nat) (Q : kx_Rs → wS → Prop) (x1 : Option Nat) (x2 : Option Nat) (x3 : Int32) (x4 : Option Nat) (y0 : Int32) (w : wS) : Prop := (if y0 = 0 then (∃ p1, x1 = some p1 ∧ w_l w E.2.1 14 p1 ∧ zb_X7_output_p179 E L Q x1 x2 x3 x4 y0 (w_p w 14 p1 4) w) else (∃ p2, x1 = some p2 ∧ w_l w E.2.1 14 p2 ∧ (∃ p3, w_p w 14 p2 4 = some p3 ∧ w_l w E.2.1 14 p3 ∧ zb_X7_output_p179 E L Q x1 x2 x3 x4 y0 (w_p w 14 p3 7) w)))
theorem zt_X7_output_p158 {E : zE} {L : Nat} {Q : kx_Rs → wS → Prop} {x1 : Option Nat} {x2 : Option Nat} {x3 : Int32} {x4 : Option Nat} {y0 : Int32} {w : wS} (hL : 25 ≤ L) (h : zb_X7_output_p158 E L Q x1 x2 x3 x4 y0 w) : kzE E L kt_M277 158 [(0, .ref (w_adr E.2.1 6 0)), (1, va_rf (x1)), (2, va_rf (x2)), (3, .int x3), (4, va_rf (x4))] [.int y0] w Q := by
  unfold zb_X7_output_p158 at h
  refine kz_sti (M := kt_M277) [(0, .ref (w_adr E.2.1 6 0)), (1, va_rf (x1)), (2, va_rf (x2)), (3, .int x3), (4, va_rf (x4))] kX7_output_c8.2.2.2.2.2.2.1 (Nat.le_of_ble_eq_true rfl) ⟨⟨rfl, rfl, .inl rfl⟩, ⟨⟨rfl, rfl, .inl rfl⟩, ⟨⟨rfl, rfl, .inl rfl⟩, ⟨⟨rfl, rfl, .inl rfl⟩, ⟨⟨rfl, rfl, .inr (w_cat (x4))⟩, trivial⟩⟩⟩⟩⟩ rfl ?_
  refine kz_iload (M := kt_M277) kX7_output_c8.2.2.2.2.2.2.2.1 rfl ?_
  refine kz_if_eq (M := kt_M277) kX7_output_c9.1 (t := 175) rfl h (fun h => ?_) (fun h => ?_)
  · skip
    refine kz_aload_nv (M := kt_M277) (x := x1) kX7_output_c9.2.2.2.2.2.1 rfl ?_
    obtain ⟨p1, hxp1, hlp1, h⟩ := h
    refine kz_nz0 (x := x1) hxp1 ?_
    refine kz_gfp (M := kt_M277) (c := 14) (o := p1) kX7_output_c9.2.2.2.2.2.2.1 wf_X7_46 (.inr (by exact hlp1)) ?_
    exact kz_weak [(0, .ref (w_adr E.2.1 6 0)), (1, va_rf (x1)), (2, va_rf (x2)), (3, .int x3), (4, va_rf (x4)), (5, .int y0)] ⟨rfl, ⟨rfl, ⟨rfl, ⟨rfl, ⟨rfl, ⟨rfl, trivial⟩⟩⟩⟩⟩⟩ rfl (zt_X7_output_p179 hL  h)
  · skip
    refine kz_aload_nv (M := kt_M277) (x := x1) kX7_output_c9.2.1 rfl ?_
    obtain ⟨p2, hxp2, hlp2, h⟩ := h
    refine kz_nz0 (x := x1) hxp2 ?_
    refine kz_gfp (M := kt_M277) (c := 14) (o := p2) kX7_output_c9.2.2.1 wf_X7_46 (.inr (by exact hlp2)) ?_
    obtain ⟨p3, hxp3, hlp3, h⟩ := h
    refine kz_nz0 (x := w_p w 14 p2 4) hxp3 ?_
    refine kz_gfp (M := kt_M277) (c := 14) (o := p3) kX7_output_c9.2.2.2.1 wf_X7_43 (.inr (by exact hlp3)) ?_
    refine kz_goto (M := kt_M277) kX7_output_c9.2.2.2.2.1 (t := 179) rfl ?_
    exact kz_weak [(0, .ref (w_adr E.2.1 6 0)), (1, va_rf (x1)), (2, va_rf (x2)), (3, .int x3), (4, va_rf (x4)), (5, .int y0)] ⟨rfl, ⟨rfl, ⟨rfl, ⟨rfl, ⟨rfl, ⟨rfl, trivial⟩⟩⟩⟩⟩⟩ rfl (zt_X7_output_p179 hL  h)
def zb_X7_output_p157 (E : zE) (L : Nat) (Q : kx_Rs → wS → Prop) (x1 : Option Nat) (x2 : Option Nat) (x3 : Int32) (x4 : Option Nat) (w : wS) : Prop := zb_X7_output_p158 E L Q x1 x2 x3 x4 0 w
theorem zt_X7_output_p157 {E : zE} {L : Nat} {Q : kx_Rs → wS → Prop} {x1 : Option Nat} {x2 : Option Nat} {x3 : Int32} {x4 : Option Nat} {w : wS} (hL : 25 ≤ L) (h : zb_X7_output_p157 E L Q x1 x2 x3 x4 w) : kzE E L kt_M277 157 [(0, .ref (w_adr E.2.1 6 0)), (1, va_rf (x1)), (2, va_rf (x2)), (3, .int x3), (4, va_rf (x4))] [] w Q := by
  unfold zb_X7_output_p157 at h
  refine kz_ic (M := kt_M277) 0 kX7_output_c8.2.2.2.2.2.1 rfl ?_
  exact kz_weak [(0, .ref (w_adr E.2.1 6 0)), (1, va_rf (x1)), (2, va_rf (x2)), (3, .int x3), (4, va_rf (x4))] ⟨rfl, ⟨rfl, ⟨rfl, ⟨rfl, ⟨rfl, trivial⟩⟩⟩⟩⟩ rfl (zt_X7_output_p158 hL  h)
def zb_X7_output_p114 (E : zE) (L : Nat) (Q : kx_Rs → wS → Prop) (x1 : Option Nat) (x2 : Option Nat) (x3 : Int32) (y0 : Option Nat) (w : wS) : Prop := (if x3 = 0 then zb_X7_output_p157 E L Q x1 x2 x3 y0 w else (∃ p1, x1 = some p1 ∧ w_l w E.2.1 14 p1 ∧ (∃ p2, w_p w 14 p1 4 = some p2 ∧ w_l w E.2.1 14 p2 ∧ (if ¬ w_p w 14 p2 0 = some (E.1.1 18) then zb_X7_output_p157 E L Q x1 x2 x3 y0 w else (if ¬ (w_p w 14 p2 3) = none then zb_X7_output_p157 E L Q x1 x2 x3 y0 w else (if ¬ w_i w 14 p2 12 = 0 then zb_X7_output_p157 E L Q x1 x2 x3 y0 w else zb_X7_output_p158 E L Q x1 x2 x3 y0 1 w))))))
theorem zt_X7_output_p114 {E : zE} {L : Nat} {Q : kx_Rs → wS → Prop} {x1 : Option Nat} {x2 : Option Nat} {x3 : Int32} {y0 : Option Nat} {w : wS} (hL : 25 ≤ L) (h : zb_X7_output_p114 E L Q x1 x2 x3 y0 w) : kzE E L kt_M277 114 [(0, .ref (w_adr E.2.1 6 0)), (1, va_rf (x1)), (2, va_rf (x2)), (3, .int x3)] [va_rf (y0)] w Q := by
  unfold zb_X7_output_p114 at h
  refine kz_stv (M := kt_M277) (x := y0) [(0, .ref (w_adr E.2.1 6 0)), (1, va_rf (x1)), (2, va_rf (x2)), (3, .int x3)] kX7_output_c6.2.2.2.1 (Nat.le_of_ble_eq_true rfl) ⟨⟨rfl, rfl, .inl rfl⟩, ⟨⟨rfl, rfl, .inl rfl⟩, ⟨⟨rfl, rfl, .inl rfl⟩, ⟨⟨rfl, rfl, .inr rfl⟩, trivial⟩⟩⟩⟩ rfl ?_
  refine kz_iload_n (M := kt_M277) kX7_output_c6.2.2.2.2.1 rfl ?_
  refine kz_if_eq (M := kt_M277) kX7_output_c6.2.2.2.2.2.1 (t := 157) rfl h (fun h => ?_) (fun h => ?_)
  · skip
    exact kz_weak [(0, .ref (w_adr E.2.1 6 0)), (1, va_rf (x1)), (2, va_rf (x2)), (3, .int x3), (4, va_rf (y0))] ⟨rfl, ⟨rfl, ⟨rfl, ⟨rfl, ⟨rfl, trivial⟩⟩⟩⟩⟩ rfl (zt_X7_output_p157 hL  h)
  · skip
    refine kz_aload_nv (M := kt_M277) (x := x1) kX7_output_c6.2.2.2.2.2.2.1 rfl ?_
    obtain ⟨p1, hxp1, hlp1, h⟩ := h
    refine kz_nz0 (x := x1) hxp1 ?_
    refine kz_gfp (M := kt_M277) (c := 14) (o := p1) kX7_output_c6.2.2.2.2.2.2.2.1 wf_X7_46 (.inr (by exact hlp1)) ?_
    obtain ⟨p2, hxp2, hlp2, h⟩ := h
    refine kz_nz0 (x := w_p w 14 p1 4) hxp2 ?_
    refine kz_gfp (M := kt_M277) (c := 14) (o := p2) kX7_output_c7.1 wf_X7_77 (.inr (by exact hlp2)) ?_
    refine kz_getsE (M := kt_M277) (v := va_rf (some (E.1.1 18))) kX7_output_c7.2.1 zs_X7_258 ?_
    refine kz_acmp_ne (M := kt_M277) (x := w_p w 14 p2 0) (y := some (E.1.1 18)) kX7_output_c7.2.2.1 (t := 157) rfl h (fun h => ?_) (fun h => ?_)
    · skip
      exact kz_weak [(0, .ref (w_adr E.2.1 6 0)), (1, va_rf (x1)), (2, va_rf (x2)), (3, .int x3), (4, va_rf (y0))] ⟨rfl, ⟨rfl, ⟨rfl, ⟨rfl, ⟨rfl, trivial⟩⟩⟩⟩⟩ rfl (zt_X7_output_p157 hL  h)
    · skip
      refine kz_aload_nv (M := kt_M277) (x := x1) kX7_output_c7.2.2.2.1 rfl ?_
      refine kz_nz0 (x := x1) hxp1 ?_
      refine kz_gfp (M := kt_M277) (c := 14) (o := p1) kX7_output_c7.2.2.2.2.1 wf_X7_46 (.inr (by exact hlp1)) ?_
      refine kz_nz0 (x := w_p w 14 p1 4) hxp2 ?_
      refine kz_gfp (M := kt_M277) (c := 14) (o := p2) kX7_output_c7.2.2.2.2.2.1 wf_X7_34 (.inr (by exact hlp2)) ?_
      refine kz_ifnonnull (M := kt_M277) (x := w_p w 14 p2 3) kX7_output_c7.2.2.2.2.2.2.1 (t := 157) rfl h (fun h => ?_) (fun h => ?_)
      · skip
        exact kz_weak [(0, .ref (w_adr E.2.1 6 0)), (1, va_rf (x1)), (2, va_rf (x2)), (3, .int x3), (4, va_rf (y0))] ⟨rfl, ⟨rfl, ⟨rfl, ⟨rfl, ⟨rfl, trivial⟩⟩⟩⟩⟩ rfl (zt_X7_output_p157 hL  h)
      · skip
        refine kz_aload_nv (M := kt_M277) (x := x1) kX7_output_c7.2.2.2.2.2.2.2.1 rfl ?_
        refine kz_nz0 (x := x1) hxp1 ?_
        refine kz_gfp (M := kt_M277) (c := 14) (o := p1) kX7_output_c8.1 wf_X7_46 (.inr (by exact hlp1)) ?_
        refine kz_nz0 (x := w_p w 14 p1 4) hxp2 ?_
        refine kz_gfi (M := kt_M277) (c := 14) (o := p2) kX7_output_c8.2.1 wf_X7_261 (.inr (by exact hlp2)) ?_
        refine kz_if_ne (M := kt_M277) kX7_output_c8.2.2.1 (t := 157) rfl h (fun h => ?_) (fun h => ?_)
        · skip
          exact kz_weak [(0, .ref (w_adr E.2.1 6 0)), (1, va_rf (x1)), (2, va_rf (x2)), (3, .int x3), (4, va_rf (y0))] ⟨rfl, ⟨rfl, ⟨rfl, ⟨rfl, ⟨rfl, trivial⟩⟩⟩⟩⟩ rfl (zt_X7_output_p157 hL  h)
        · skip
          refine kz_ic (M := kt_M277) 1 kX7_output_c8.2.2.2.1 rfl ?_
          refine kz_goto (M := kt_M277) kX7_output_c8.2.2.2.2.1 (t := 158) rfl ?_
          exact kz_weak [(0, .ref (w_adr E.2.1 6 0)), (1, va_rf (x1)), (2, va_rf (x2)), (3, .int x3), (4, va_rf (y0))] ⟨rfl, ⟨rfl, ⟨rfl, ⟨rfl, ⟨rfl, trivial⟩⟩⟩⟩⟩ rfl (zt_X7_output_p158 hL  h)
def zb_X7_output_p113 (E : zE) (L : Nat) (Q : kx_Rs → wS → Prop) (x1 : Option Nat) (x2 : Option Nat) (x3 : Int32) (w : wS) : Prop := zb_X7_output_p114 E L Q x1 x2 x3 none w
theorem zt_X7_output_p113 {E : zE} {L : Nat} {Q : kx_Rs → wS → Prop} {x1 : Option Nat} {x2 : Option Nat} {x3 : Int32} {w : wS} (hL : 25 ≤ L) (h : zb_X7_output_p113 E L Q x1 x2 x3 w) : kzE E L kt_M277 113 [(0, .ref (w_adr E.2.1 6 0)), (1, va_rf (x1)), (2, va_rf (x2)), (3, .int x3)] [] w Q := by
  unfold zb_X7_output_p113 at h
  refine kz_null (M := kt_M277) kX7_output_c6.2.2.1 ?_
  exact kz_weak [(0, .ref (w_adr E.2.1 6 0)), (1, va_rf (x1)), (2, va_rf (x2)), (3, .int x3)] ⟨rfl, ⟨rfl, ⟨rfl, ⟨rfl, trivial⟩⟩⟩⟩ rfl (zt_X7_output_p114 hL  h)
def zb_X7_output_p72 (E : zE) (L : Nat) (Q : kx_Rs → wS → Prop) (x1 : Option Nat) (x2 : Option Nat) (y0 : Int32) (w : wS) : Prop := (if y0 = 0 then zb_X7_output_p113 E L Q x1 x2 y0 w else (∃ p1, x1 = some p1 ∧ w_l w E.2.1 14 p1 ∧ (∃ p2, w_p w 14 p1 4 = some p2 ∧ w_l w E.2.1 14 p2 ∧ (if (w_p w 14 p2 16) = none then zb_X7_output_p113 E L Q x1 x2 y0 w else (∃ p3, w_p w 14 p2 16 = some p3 ∧ w_l w E.2.1 15 p3 ∧ (if ¬ w_p w 15 p3 0 = some (E.1.1 59) then zb_X7_output_p113 E L Q x1 x2 y0 w else zb_X7_output_p114 E L Q x1 x2 y0 (w_p w 14 p2 16) w))))))
theorem zt_X7_output_p72 {E : zE} {L : Nat} {Q : kx_Rs → wS → Prop} {x1 : Option Nat} {x2 : Option Nat} {y0 : Int32} {w : wS} (hL : 25 ≤ L) (h : zb_X7_output_p72 E L Q x1 x2 y0 w) : kzE E L kt_M277 72 [(0, .ref (w_adr E.2.1 6 0)), (1, va_rf (x1)), (2, va_rf (x2))] [.int y0] w Q := by
  unfold zb_X7_output_p72 at h
  refine kz_sti_n (M := kt_M277) [(0, .ref (w_adr E.2.1 6 0)), (1, va_rf (x1)), (2, va_rf (x2))] kX7_output_c4.2.1 (Nat.le_of_ble_eq_true rfl) ⟨⟨rfl, rfl, .inl rfl⟩, ⟨⟨rfl, rfl, .inl rfl⟩, ⟨⟨rfl, rfl, .inr (w_cat (x2))⟩, trivial⟩⟩⟩ rfl ?_
  refine kz_iload_n (M := kt_M277) kX7_output_c4.2.2.1 rfl ?_
  refine kz_if_eq (M := kt_M277) kX7_output_c4.2.2.2.1 (t := 113) rfl h (fun h => ?_) (fun h => ?_)
  · skip
    exact kz_weak [(0, .ref (w_adr E.2.1 6 0)), (1, va_rf (x1)), (2, va_rf (x2)), (3, .int y0)] ⟨rfl, ⟨rfl, ⟨rfl, ⟨rfl, trivial⟩⟩⟩⟩ rfl (zt_X7_output_p113 hL  h)
  · skip
    refine kz_aload_nv (M := kt_M277) (x := x1) kX7_output_c4.2.2.2.2.1 rfl ?_
    obtain ⟨p1, hxp1, hlp1, h⟩ := h
    refine kz_nz0 (x := x1) hxp1 ?_
    refine kz_gfp (M := kt_M277) (c := 14) (o := p1) kX7_output_c4.2.2.2.2.2.1 wf_X7_46 (.inr (by exact hlp1)) ?_
    obtain ⟨p2, hxp2, hlp2, h⟩ := h
    refine kz_nz0 (x := w_p w 14 p1 4) hxp2 ?_
    refine kz_gfp (M := kt_M277) (c := 14) (o := p2) kX7_output_c4.2.2.2.2.2.2.1 wf_X7_103 (.inr (by exact hlp2)) ?_
    refine kz_ifnull (M := kt_M277) (x := w_p w 14 p2 16) kX7_output_c4.2.2.2.2.2.2.2.1 (t := 113) rfl h (fun h => ?_) (fun h => ?_)
    · skip
      exact kz_weak [(0, .ref (w_adr E.2.1 6 0)), (1, va_rf (x1)), (2, va_rf (x2)), (3, .int y0)] ⟨rfl, ⟨rfl, ⟨rfl, ⟨rfl, trivial⟩⟩⟩⟩ rfl (zt_X7_output_p113 hL  h)
    · skip
      refine kz_aload_nv (M := kt_M277) (x := x1) kX7_output_c5.1 rfl ?_
      refine kz_nz0 (x := x1) hxp1 ?_
      refine kz_gfp (M := kt_M277) (c := 14) (o := p1) kX7_output_c5.2.1 wf_X7_46 (.inr (by exact hlp1)) ?_
      refine kz_nz0 (x := w_p w 14 p1 4) hxp2 ?_
      refine kz_gfp (M := kt_M277) (c := 14) (o := p2) kX7_output_c5.2.2.1 wf_X7_103 (.inr (by exact hlp2)) ?_
      obtain ⟨p3, hxp3, hlp3, h⟩ := h
      refine kz_nz0 (x := w_p w 14 p2 16) hxp3 ?_
      refine kz_gfp (M := kt_M277) (c := 15) (o := p3) kX7_output_c5.2.2.2.1 wf_X7_238 (.inr (by exact hlp3)) ?_
      refine kz_getsE (M := kt_M277) (v := va_rf (some (E.1.1 59))) kX7_output_c5.2.2.2.2.1 zs_X7_255 ?_
      refine kz_acmp_ne (M := kt_M277) (x := w_p w 15 p3 0) (y := some (E.1.1 59)) kX7_output_c5.2.2.2.2.2.1 (t := 113) rfl h (fun h => ?_) (fun h => ?_)
      · skip
        exact kz_weak [(0, .ref (w_adr E.2.1 6 0)), (1, va_rf (x1)), (2, va_rf (x2)), (3, .int y0)] ⟨rfl, ⟨rfl, ⟨rfl, ⟨rfl, trivial⟩⟩⟩⟩ rfl (zt_X7_output_p113 hL  h)
      · skip
        refine kz_aload_nv (M := kt_M277) (x := x1) kX7_output_c5.2.2.2.2.2.2.1 rfl ?_
        refine kz_nz0 (x := x1) hxp1 ?_
        refine kz_gfp (M := kt_M277) (c := 14) (o := p1) kX7_output_c5.2.2.2.2.2.2.2.1 wf_X7_46 (.inr (by exact hlp1)) ?_
        refine kz_nz0 (x := w_p w 14 p1 4) hxp2 ?_
        refine kz_gfp (M := kt_M277) (c := 14) (o := p2) kX7_output_c6.1 wf_X7_103 (.inr (by exact hlp2)) ?_
        refine kz_goto (M := kt_M277) kX7_output_c6.2.1 (t := 114) rfl ?_
        exact kz_weak [(0, .ref (w_adr E.2.1 6 0)), (1, va_rf (x1)), (2, va_rf (x2)), (3, .int y0)] ⟨rfl, ⟨rfl, ⟨rfl, ⟨rfl, trivial⟩⟩⟩⟩ rfl (zt_X7_output_p114 hL  h)
def zb_X7_output_p71 (E : zE) (L : Nat) (Q : kx_Rs → wS → Prop) (x1 : Option Nat) (x2 : Option Nat) (w : wS) : Prop := zb_X7_output_p72 E L Q x1 x2 0 w
theorem zt_X7_output_p71 {E : zE} {L : Nat} {Q : kx_Rs → wS → Prop} {x1 : Option Nat} {x2 : Option Nat} {w : wS} (hL : 25 ≤ L) (h : zb_X7_output_p71 E L Q x1 x2 w) : kzE E L kt_M277 71 [(0, .ref (w_adr E.2.1 6 0)), (1, va_rf (x1)), (2, va_rf (x2))] [] w Q := by
  unfold zb_X7_output_p71 at h
  refine kz_ic (M := kt_M277) 0 kX7_output_c4.1 rfl ?_
  exact kz_weak [(0, .ref (w_adr E.2.1 6 0)), (1, va_rf (x1)), (2, va_rf (x2))] ⟨rfl, ⟨rfl, ⟨rfl, trivial⟩⟩⟩ rfl (zt_X7_output_p72 hL  h)
def zb_X7_output_p46 (E : zE) (L : Nat) (Q : kx_Rs → wS → Prop) (x1 : Option Nat) (x2 : Option Nat) (w : wS) : Prop := (if x2 = none then zb_X7_output_p71 E L Q x1 x2 w else (∃ p1, x2 = some p1 ∧ w_l w E.2.1 15 p1 ∧ (if (w_p w 15 p1 15) = none then zb_X7_output_p71 E L Q x1 x2 w else (∃ p2, w_p w 15 p1 15 = some p2 ∧ w_l w E.2.1 15 p2 ∧ (if w_i w 15 p2 16 = 0 then zb_X7_output_p71 E L Q x1 x2 w else zb_X7_output_p72 E L Q x1 x2 1 w)))))
theorem zt_X7_output_p46 {E : zE} {L : Nat} {Q : kx_Rs → wS → Prop} {x1 : Option Nat} {x2 : Option Nat} {w : wS} (hL : 25 ≤ L) (h : zb_X7_output_p46 E L Q x1 x2 w) : kzE E L kt_M277 46 [(0, .ref (w_adr E.2.1 6 0)), (1, va_rf (x1)), (2, va_rf (x2))] [] w Q := by
  unfold zb_X7_output_p46 at h
  refine kz_aload_nv (M := kt_M277) (x := x2) kX7_output_c2.2.2.2.2.2.1 rfl ?_
  refine kz_ifnull (M := kt_M277) (x := x2) kX7_output_c2.2.2.2.2.2.2.1 (t := 71) rfl h (fun h => ?_) (fun h => ?_)
  · skip
    exact kz_weak [(0, .ref (w_adr E.2.1 6 0)), (1, va_rf (x1)), (2, va_rf (x2))] ⟨rfl, ⟨rfl, ⟨rfl, trivial⟩⟩⟩ rfl (zt_X7_output_p71 hL  h)
  · skip
    refine kz_aload_nv (M := kt_M277) (x := x2) kX7_output_c2.2.2.2.2.2.2.2.1 rfl ?_
    obtain ⟨p1, hxp1, hlp1, h⟩ := h
    refine kz_nz0 (x := x2) hxp1 ?_
    refine kz_gfp (M := kt_M277) (c := 15) (o := p1) kX7_output_c3.1 wf_X7_151 (.inr (by exact hlp1)) ?_
    refine kz_ifnull (M := kt_M277) (x := w_p w 15 p1 15) kX7_output_c3.2.1 (t := 71) rfl h (fun h => ?_) (fun h => ?_)
    · skip
      exact kz_weak [(0, .ref (w_adr E.2.1 6 0)), (1, va_rf (x1)), (2, va_rf (x2))] ⟨rfl, ⟨rfl, ⟨rfl, trivial⟩⟩⟩ rfl (zt_X7_output_p71 hL  h)
    · skip
      refine kz_aload_nv (M := kt_M277) (x := x2) kX7_output_c3.2.2.1 rfl ?_
      refine kz_nz0 (x := x2) hxp1 ?_
      refine kz_gfp (M := kt_M277) (c := 15) (o := p1) kX7_output_c3.2.2.2.1 wf_X7_151 (.inr (by exact hlp1)) ?_
      obtain ⟨p2, hxp2, hlp2, h⟩ := h
      refine kz_nz0 (x := w_p w 15 p1 15) hxp2 ?_
      refine kz_gfi (M := kt_M277) (c := 15) (o := p2) kX7_output_c3.2.2.2.2.1 wf_X7_247 (.inr (by exact hlp2)) ?_
      refine kz_if_eq (M := kt_M277) kX7_output_c3.2.2.2.2.2.1 (t := 71) rfl h (fun h => ?_) (fun h => ?_)
      · skip
        exact kz_weak [(0, .ref (w_adr E.2.1 6 0)), (1, va_rf (x1)), (2, va_rf (x2))] ⟨rfl, ⟨rfl, ⟨rfl, trivial⟩⟩⟩ rfl (zt_X7_output_p71 hL  h)
      · skip
        refine kz_ic (M := kt_M277) 1 kX7_output_c3.2.2.2.2.2.2.1 rfl ?_
        refine kz_goto (M := kt_M277) kX7_output_c3.2.2.2.2.2.2.2.1 (t := 72) rfl ?_
        exact kz_weak [(0, .ref (w_adr E.2.1 6 0)), (1, va_rf (x1)), (2, va_rf (x2))] ⟨rfl, ⟨rfl, ⟨rfl, trivial⟩⟩⟩ rfl (zt_X7_output_p72 hL  h)
def zb_X7_output_p0 (E : zE) (L : Nat) (Q : kx_Rs → wS → Prop) (x1 : Option Nat) (w : wS) : Prop := (∃ p1, x1 = some p1 ∧ w_l w E.2.1 14 p1 ∧ zw E (L - 22) kt_M279 [.ref (w_adr E.2.1 6 0), va_rf (w_p w 14 p1 3)] w (wk0 (fun w2 => wle w w2 → (∃ p4, w_p w2 14 p1 3 = some p4 ∧ w_l w2 E.2.1 14 p4 ∧ (if (w_p w2 14 p4 16) = none then zb_X7_output_p46 E L Q x1 (w_p w2 14 p4 16) w2 else (if w_i w2 14 p4 20 = 0 then zb_X7_output_p46 E L Q x1 (w_p w2 14 p4 16) w2 else zw E (L - 22) kt_M56 [.ref (w_adr E.2.1 2 0), .int 7, .int (w_i w2 14 p4 2)] w2 (wk0 (fun w5 => wle w2 w5 → zb_X7_output_p46 E L Q x1 (w_p w2 14 p4 16) w5) (fun e w => Q (.inr e) w)))))) (fun e w => Q (.inr e) w)))
theorem zt_X7_output_p0 {E : zE} {L : Nat} {Q : kx_Rs → wS → Prop} {x1 : Option Nat} {w : wS} (hL : 25 ≤ L) (h : zb_X7_output_p0 E L Q x1 w) : kzE E L kt_M277 0 [(0, .ref (w_adr E.2.1 6 0)), (1, va_rf (x1))] [] w Q := by
  unfold zb_X7_output_p0 at h
  refine kz_aload_n (M := kt_M277) kX7_output_c0.1 rfl ?_
  refine kz_aload_nv (M := kt_M277) (x := x1) kX7_output_c0.2.1 rfl ?_
  obtain ⟨p1, hxp1, hlp1, h⟩ := h
  refine kz_nz0 (x := x1) hxp1 ?_
  refine kz_gfp (M := kt_M277) (c := 14) (o := p1) kX7_output_c0.2.2.1 wf_X7_34 (.inr (by exact hlp1)) ?_
  refine kz_cv0 (M := kt_M277) (c := 6) (o := 0) (As := [va_rf (w_p w 14 p1 3)]) (rest := []) kX7_output_c0.2.2.2.1 wl_X7_138 wMv_279 rfl (.inl rfl) rfl (Nat.le_trans (Nat.le_of_ble_eq_true rfl) hL) (by simp [lg_sl, w_cat, z_ci, z_cr, z_cl, z_cn, kt_M279]) (Nat.le_of_ble_eq_true rfl) h (fun w2 hle h => ?_) (fun _ _ _ h => kzx_no rfl h)
  have h := h hle
  have hlp1 := w_l_le hlp1 hle
  refine kz_aload_nv (M := kt_M277) (x := x1) kX7_output_c0.2.2.2.2.1 rfl ?_
  refine kz_nz0 (x := x1) hxp1 ?_
  refine kz_gfp (M := kt_M277) (c := 14) (o := p1) kX7_output_c0.2.2.2.2.2.1 wf_X7_34 (.inr (by exact hlp1)) ?_
  obtain ⟨p4, hxp4, hlp4, h⟩ := h
  refine kz_nz0 (x := w_p w2 14 p1 3) hxp4 ?_
  refine kz_gfp (M := kt_M277) (c := 14) (o := p4) kX7_output_c0.2.2.2.2.2.2.1 wf_X7_103 (.inr (by exact hlp4)) ?_
  refine kz_stv_n (M := kt_M277) (x := w_p w2 14 p4 16) [(0, .ref (w_adr E.2.1 6 0)), (1, va_rf (x1))] kX7_output_c0.2.2.2.2.2.2.2.1 (Nat.le_of_ble_eq_true rfl) ⟨⟨rfl, rfl, .inl rfl⟩, ⟨⟨rfl, rfl, .inr (w_cat (x1))⟩, trivial⟩⟩ rfl ?_
  refine kz_aload_nv (M := kt_M277) (x := w_p w2 14 p4 16) kX7_output_c1.1 rfl ?_
  refine kz_ifnull (M := kt_M277) (x := w_p w2 14 p4 16) kX7_output_c1.2.1 (t := 46) rfl h (fun h => ?_) (fun h => ?_)
  · skip
    exact kz_weak [(0, .ref (w_adr E.2.1 6 0)), (1, va_rf (x1)), (2, va_rf (w_p w2 14 p4 16))] ⟨rfl, ⟨rfl, ⟨rfl, trivial⟩⟩⟩ rfl (zt_X7_output_p46 hL  h)
  · skip
    refine kz_aload_nv (M := kt_M277) (x := x1) kX7_output_c1.2.2.1 rfl ?_
    refine kz_nz0 (x := x1) hxp1 ?_
    refine kz_gfp (M := kt_M277) (c := 14) (o := p1) kX7_output_c1.2.2.2.1 wf_X7_34 (.inr (by exact hlp1)) ?_
    refine kz_nz0 (x := w_p w2 14 p1 3) hxp4 ?_
    refine kz_gfi (M := kt_M277) (c := 14) (o := p4) kX7_output_c1.2.2.2.2.1 wf_X7_64 (.inr (by exact hlp4)) ?_
    refine kz_if_eq (M := kt_M277) kX7_output_c1.2.2.2.2.2.1 (t := 46) rfl h (fun h => ?_) (fun h => ?_)
    · skip
      exact kz_weak [(0, .ref (w_adr E.2.1 6 0)), (1, va_rf (x1)), (2, va_rf (w_p w2 14 p4 16))] ⟨rfl, ⟨rfl, ⟨rfl, trivial⟩⟩⟩ rfl (zt_X7_output_p46 hL  h)
    · skip
      refine kz_aload_n (M := kt_M277) kX7_output_c1.2.2.2.2.2.2.1 rfl ?_
      refine kz_gfc (M := kt_M277) (x := 8) (c := 6) (o := 0) kX7_output_c1.2.2.2.2.2.2.2.1 wf_X7_15 (.inl rfl) ?_
      refine kz_bi (M := kt_M277) 7 kX7_output_c2.1 rfl ?_
      refine kz_aload_nv (M := kt_M277) (x := x1) kX7_output_c2.2.1 rfl ?_
      refine kz_nz0 (x := x1) hxp1 ?_
      refine kz_gfp (M := kt_M277) (c := 14) (o := p1) kX7_output_c2.2.2.1 wf_X7_34 (.inr (by exact hlp1)) ?_
      refine kz_nz0 (x := w_p w2 14 p1 3) hxp4 ?_
      refine kz_gfi (M := kt_M277) (c := 14) (o := p4) kX7_output_c2.2.2.2.1 wf_X7_52 (.inr (by exact hlp4)) ?_
      refine kz_cv0 (M := kt_M277) (c := 2) (o := 0) (As := [.int 7, .int (w_i w2 14 p4 2)]) (rest := []) kX7_output_c2.2.2.2.2.1 wl_X7_55 wMv_56 rfl (.inl rfl) rfl (Nat.le_trans (Nat.le_of_ble_eq_true rfl) hL) (Nat.le_of_ble_eq_true rfl) (Nat.le_of_ble_eq_true rfl) h (fun w5 hle h => ?_) (fun _ _ _ h => kzx_no rfl h)
      have h := h hle
      have hlp1 := w_l_le hlp1 hle
      have hlp4 := w_l_le hlp4 hle
      exact kz_weak [(0, .ref (w_adr E.2.1 6 0)), (1, va_rf (x1)), (2, va_rf (w_p w2 14 p4 16))] ⟨rfl, ⟨rfl, ⟨rfl, trivial⟩⟩⟩ rfl (zt_X7_output_p46 hL  h)
def zb_X7_replicator_p272 (E : zE) (L : Nat) (Q : kx_Rs → wS → Prop) (y0 : Int32) (y1 : Option Nat) (w : wS) : Prop := (∃ p1, y1 = some p1 ∧ w_l w E.2.1 15 p1 ∧ Q (.inl none) (ws_i w 15 p1 24 y0))
theorem zt_X7_replicator_p272 {E : zE} {L : Nat} {Q : kx_Rs → wS → Prop} {y0 : Int32} {y1 : Option Nat} {w : wS} (hL : 24 ≤ L) (h : zb_X7_replicator_p272 E L Q y0 y1 w) : kzE E L kt_M281 272 [(0, .ref (w_adr E.2.1 6 0))] [.int y0, va_rf (y1)] w Q := by
  unfold zb_X7_replicator_p272 at h
  obtain ⟨p1, hxp1, hlp1, h⟩ := h
  refine kz_nz1 (x := y1) hxp1 ?_
  refine kz_pfi (M := kt_M281) (c := 15) (o := p1) kX7_replicator_c15.2.2.2.2.2.2.1 wq_X7_216 (.inr (by exact hlp1)) ?_
  exact kz_ret (M := kt_M281) kX7_replicator_c15.2.2.2.2.2.2.2.1 rfl h
def zb_X7_replicator_p230 (E : zE) (L : Nat) (Q : kx_Rs → wS → Prop) (w : wS) : Prop := Q (.inl none) w
theorem zt_X7_replicator_p230 {E : zE} {L : Nat} {Q : kx_Rs → wS → Prop} {w : wS} (hL : 24 ≤ L) (h : zb_X7_replicator_p230 E L Q  w) : kzE E L kt_M281 230 [(0, .ref (w_adr E.2.1 6 0))] [] w Q := by
  unfold zb_X7_replicator_p230 at h
  exact kz_ret (M := kt_M281) kX7_replicator_c13.1 rfl h
def zb_X7_replicator_p215 (E : zE) (L : Nat) (Q : kx_Rs → wS → Prop) (x3 : Option Nat) (w : wS) : Prop := (∃ p1, x3 = some p1 ∧ w_l w E.2.1 15 p1 ∧ (if w_i w 15 p1 26 = 0 then zb_X7_replicator_p230 E L Q w else (if 1 ≤ w_i w 15 p1 23 then (if 0 < (lg_cmp (if 1000000 < ((w_g w 6 0 5) * ((w_i w 15 p1 23).toInt64)) then 1000000 else ((w_g w 6 0 5) * ((w_i w 15 p1 23).toInt64))) 1000) then zb_X7_replicator_p272 E L Q 0 x3 (ws_g w 6 0 5 (if 1000000 < ((w_g w 6 0 5) * ((w_i w 15 p1 23).toInt64)) then 1000000 else ((w_g w 6 0 5) * ((w_i w 15 p1 23).toInt64)))) else zb_X7_replicator_p272 E L Q (((if 1000000 < ((w_g w 6 0 5) * ((w_i w 15 p1 23).toInt64)) then 1000000 else ((w_g w 6 0 5) * ((w_i w 15 p1 23).toInt64)))).toInt32) x3 (ws_g w 6 0 5 (if 1000000 < ((w_g w 6 0 5) * ((w_i w 15 p1 23).toInt64)) then 1000000 else ((w_g w 6 0 5) * ((w_i w 15 p1 23).toInt64))))) else zb_X7_replicator_p230 E L Q w)))
theorem zt_X7_replicator_p215 {E : zE} {L : Nat} {Q : kx_Rs → wS → Prop} {x3 : Option Nat} {w : wS} (hL : 24 ≤ L) (h : zb_X7_replicator_p215 E L Q x3 w) : kzE E L kt_M281 215 [(0, .ref (w_adr E.2.1 6 0)), (3, va_rf (x3))] [] w Q := by
  unfold zb_X7_replicator_p215 at h
  refine kz_aload_nv (M := kt_M281) (x := x3) kX7_replicator_c12.2.1 rfl ?_
  obtain ⟨p1, hxp1, hlp1, h⟩ := h
  refine kz_nz0 (x := x3) hxp1 ?_
  refine kz_gfi (M := kt_M281) (c := 15) (o := p1) kX7_replicator_c12.2.2.1 wf_X7_199 (.inr (by exact hlp1)) ?_
  refine kz_if_eq (M := kt_M281) kX7_replicator_c12.2.2.2.1 (t := 230) rfl h (fun h => ?_) (fun h => ?_)
  · skip
    exact kz_weak [(0, .ref (w_adr E.2.1 6 0))] ⟨rfl, trivial⟩ rfl (zt_X7_replicator_p230 hL  h)
  · skip
    refine kz_aload_nv (M := kt_M281) (x := x3) kX7_replicator_c12.2.2.2.2.1 rfl ?_
    refine kz_nz0 (x := x3) hxp1 ?_
    refine kz_gfi (M := kt_M281) (c := 15) (o := p1) kX7_replicator_c12.2.2.2.2.2.1 wf_X7_205 (.inr (by exact hlp1)) ?_
    refine kz_ic (M := kt_M281) 1 kX7_replicator_c12.2.2.2.2.2.2.1 rfl ?_
    refine kz_icmp_ge (M := kt_M281) kX7_replicator_c12.2.2.2.2.2.2.2.1 (t := 231) rfl h (fun h => ?_) (fun h => ?_)
    · skip
      refine kz_aload_n (M := kt_M281) kX7_replicator_c13.2.1 rfl ?_
      refine kz_aload_n (M := kt_M281) kX7_replicator_c13.2.2.1 rfl ?_
      refine kz_gfg (M := kt_M281) (c := 6) (o := 0) kX7_replicator_c13.2.2.2.1 wf_X7_26 (.inl rfl) ?_
      refine kz_aload_nv (M := kt_M281) (x := x3) kX7_replicator_c13.2.2.2.2.1 rfl ?_
      refine kz_nz0 (x := x3) hxp1 ?_
      refine kz_gfi (M := kt_M281) (c := 15) (o := p1) kX7_replicator_c13.2.2.2.2.2.1 wf_X7_205 (.inr (by exact hlp1)) ?_
      refine kz_i2l (M := kt_M281) kX7_replicator_c13.2.2.2.2.2.2.1 ?_
      refine kz_lmul (M := kt_M281) kX7_replicator_c13.2.2.2.2.2.2.2.1 ?_
      refine kz_ldc2 (M := kt_M281) (x := 1000000) kX7_replicator_c14.1 (zc_X7_208) ?_
      refine kz_mminL (M := kt_M281) kX7_replicator_c14.2.1 zm_l_X7_210 zm_s_minL zm_i zm_c_minL (Nat.le_trans (Nat.le_of_ble_eq_true rfl) hL) (Nat.le_of_ble_eq_true rfl) ?_
      refine kz_pfg (M := kt_M281) (c := 6) (o := 0) kX7_replicator_c14.2.2.1 wq_X7_26 (.inl rfl) ?_
      refine kz_aload_nv (M := kt_M281) (x := x3) kX7_replicator_c14.2.2.2.1 rfl ?_
      refine kz_aload_n (M := kt_M281) kX7_replicator_c14.2.2.2.2.1 rfl ?_
      refine kz_gfgR (M := kt_M281) (c := 6) (o := 0) (if 1000000 < ((w_g w 6 0 5) * ((w_i w 15 p1 23).toInt64)) then 1000000 else ((w_g w 6 0 5) * ((w_i w 15 p1 23).toInt64))) kX7_replicator_c14.2.2.2.2.2.1 wf_X7_26 (.inl rfl) rd_g_e ?_
      refine kz_ldc2 (M := kt_M281) (x := 1000) kX7_replicator_c14.2.2.2.2.2.2.1 (zc_X7_214) ?_
      refine kz_lcmp (M := kt_M281) kX7_replicator_c14.2.2.2.2.2.2.2.1 ?_
      refine kz_if_gt (M := kt_M281) kX7_replicator_c15.1 (t := 271) rfl h (fun h => ?_) (fun h => ?_)
      · skip
        refine kz_ic (M := kt_M281) 0 kX7_replicator_c15.2.2.2.2.2.1 rfl ?_
        exact kz_weak [(0, .ref (w_adr E.2.1 6 0))] ⟨rfl, trivial⟩ rfl (zt_X7_replicator_p272 hL  h)
      · skip
        refine kz_aload_n (M := kt_M281) kX7_replicator_c15.2.1 rfl ?_
        refine kz_gfgR (M := kt_M281) (c := 6) (o := 0) (if 1000000 < ((w_g w 6 0 5) * ((w_i w 15 p1 23).toInt64)) then 1000000 else ((w_g w 6 0 5) * ((w_i w 15 p1 23).toInt64))) kX7_replicator_c15.2.2.1 wf_X7_26 (.inl rfl) rd_g_e ?_
        refine kz_l2i (M := kt_M281) kX7_replicator_c15.2.2.2.1 ?_
        refine kz_goto (M := kt_M281) kX7_replicator_c15.2.2.2.2.1 (t := 272) rfl ?_
        exact kz_weak [(0, .ref (w_adr E.2.1 6 0))] ⟨rfl, trivial⟩ rfl (zt_X7_replicator_p272 hL  h)
    · skip
      exact kz_weak [(0, .ref (w_adr E.2.1 6 0))] ⟨rfl, trivial⟩ rfl (zt_X7_replicator_p230 hL  h)
def zb_X7_replicator_p202 (E : zE) (L : Nat) (Q : kx_Rs → wS → Prop) (x1 : Option Nat) (x3 : Option Nat) (w : wS) : Prop := (∃ p1, x1 = some p1 ∧ w_l w E.2.1 14 p1 ∧ zw E (L - 22) kt_M56 [.ref (w_adr E.2.1 2 0), .int 9, .int (w_i w 14 p1 2)] w (wk0 (fun w2 => wle w w2 → zb_X7_replicator_p215 E L Q x3 w2) (fun e w => Q (.inr e) w)))
theorem zt_X7_replicator_p202 {E : zE} {L : Nat} {Q : kx_Rs → wS → Prop} {x1 : Option Nat} {x3 : Option Nat} {w : wS} (hL : 24 ≤ L) (h : zb_X7_replicator_p202 E L Q x1 x3 w) : kzE E L kt_M281 202 [(0, .ref (w_adr E.2.1 6 0)), (1, va_rf (x1)), (3, va_rf (x3))] [] w Q := by
  unfold zb_X7_replicator_p202 at h
  refine kz_aload_n (M := kt_M281) kX7_replicator_c11.2.2.2.1 rfl ?_
  refine kz_gfc (M := kt_M281) (x := 8) (c := 6) (o := 0) kX7_replicator_c11.2.2.2.2.1 wf_X7_15 (.inl rfl) ?_
  refine kz_bi (M := kt_M281) 9 kX7_replicator_c11.2.2.2.2.2.1 rfl ?_
  refine kz_aload_nv (M := kt_M281) (x := x1) kX7_replicator_c11.2.2.2.2.2.2.1 rfl ?_
  obtain ⟨p1, hxp1, hlp1, h⟩ := h
  refine kz_nz0 (x := x1) hxp1 ?_
  refine kz_gfi (M := kt_M281) (c := 14) (o := p1) kX7_replicator_c11.2.2.2.2.2.2.2.1 wf_X7_52 (.inr (by exact hlp1)) ?_
  refine kz_cv0 (M := kt_M281) (c := 2) (o := 0) (As := [.int 9, .int (w_i w 14 p1 2)]) (rest := []) kX7_replicator_c12.1 wl_X7_55 wMv_56 rfl (.inl rfl) rfl (Nat.le_trans (Nat.le_of_ble_eq_true rfl) hL) (Nat.le_of_ble_eq_true rfl) (Nat.le_of_ble_eq_true rfl) h (fun w2 hle h => ?_) (fun _ _ _ h => kzx_no rfl h)
  have h := h hle
  have hlp1 := w_l_le hlp1 hle
  exact kz_weak [(0, .ref (w_adr E.2.1 6 0)), (3, va_rf (x3))] ⟨rfl, ⟨rfl, trivial⟩⟩ rfl (zt_X7_replicator_p215 hL  h)
def zb_X7_replicator_p166 (E : zE) (L : Nat) (Q : kx_Rs → wS → Prop) (x1 : Option Nat) (x3 : Option Nat) (w : wS) : Prop := (∃ p1, x1 = some p1 ∧ w_l w E.2.1 14 p1 ∧ (∃ p2, w_p w 14 p1 4 = some p2 ∧ w_l w E.2.1 14 p2 ∧ (if w_i w 14 p2 17 = 0 then zb_X7_replicator_p215 E L Q x3 w else (if w_i w 14 p2 21 = 0 then zb_X7_replicator_p202 E L Q x1 x3 w else (∃ p3, x3 = some p3 ∧ w_l w E.2.1 15 p3 ∧ (if w_i w 15 p3 23 < 0 then zb_X7_replicator_p202 E L Q x1 x3 w else (if w_i w 15 p3 23 ≤ 64 then zb_X7_replicator_p215 E L Q x3 w else zb_X7_replicator_p202 E L Q x1 x3 w)))))))
theorem zt_X7_replicator_p166 {E : zE} {L : Nat} {Q : kx_Rs → wS → Prop} {x1 : Option Nat} {x3 : Option Nat} {w : wS} (hL : 24 ≤ L) (h : zb_X7_replicator_p166 E L Q x1 x3 w) : kzE E L kt_M281 166 [(0, .ref (w_adr E.2.1 6 0)), (1, va_rf (x1)), (3, va_rf (x3))] [] w Q := by
  unfold zb_X7_replicator_p166 at h
  refine kz_aload_nv (M := kt_M281) (x := x1) kX7_replicator_c9.2.2.2.2.1 rfl ?_
  obtain ⟨p1, hxp1, hlp1, h⟩ := h
  refine kz_nz0 (x := x1) hxp1 ?_
  refine kz_gfp (M := kt_M281) (c := 14) (o := p1) kX7_replicator_c9.2.2.2.2.2.1 wf_X7_46 (.inr (by exact hlp1)) ?_
  obtain ⟨p2, hxp2, hlp2, h⟩ := h
  refine kz_nz0 (x := w_p w 14 p1 4) hxp2 ?_
  refine kz_gfi (M := kt_M281) (c := 14) (o := p2) kX7_replicator_c9.2.2.2.2.2.2.1 wf_X7_61 (.inr (by exact hlp2)) ?_
  refine kz_if_eq (M := kt_M281) kX7_replicator_c9.2.2.2.2.2.2.2.1 (t := 215) rfl h (fun h => ?_) (fun h => ?_)
  · skip
    exact kz_weak [(0, .ref (w_adr E.2.1 6 0)), (3, va_rf (x3))] ⟨rfl, ⟨rfl, trivial⟩⟩ rfl (zt_X7_replicator_p215 hL  h)
  · skip
    refine kz_aload_nv (M := kt_M281) (x := x1) kX7_replicator_c10.1 rfl ?_
    refine kz_nz0 (x := x1) hxp1 ?_
    refine kz_gfp (M := kt_M281) (c := 14) (o := p1) kX7_replicator_c10.2.1 wf_X7_46 (.inr (by exact hlp1)) ?_
    refine kz_nz0 (x := w_p w 14 p1 4) hxp2 ?_
    refine kz_gfi (M := kt_M281) (c := 14) (o := p2) kX7_replicator_c10.2.2.1 wf_X7_68 (.inr (by exact hlp2)) ?_
    refine kz_if_eq (M := kt_M281) kX7_replicator_c10.2.2.2.1 (t := 202) rfl h (fun h => ?_) (fun h => ?_)
    · skip
      exact kz_weak [(0, .ref (w_adr E.2.1 6 0)), (1, va_rf (x1)), (3, va_rf (x3))] ⟨rfl, ⟨rfl, ⟨rfl, trivial⟩⟩⟩ rfl (zt_X7_replicator_p202 hL  h)
    · skip
      refine kz_aload_nv (M := kt_M281) (x := x3) kX7_replicator_c10.2.2.2.2.1 rfl ?_
      obtain ⟨p3, hxp3, hlp3, h⟩ := h
      refine kz_nz0 (x := x3) hxp3 ?_
      refine kz_gfi (M := kt_M281) (c := 15) (o := p3) kX7_replicator_c10.2.2.2.2.2.1 wf_X7_205 (.inr (by exact hlp3)) ?_
      refine kz_if_lt (M := kt_M281) kX7_replicator_c10.2.2.2.2.2.2.1 (t := 202) rfl h (fun h => ?_) (fun h => ?_)
      · skip
        exact kz_weak [(0, .ref (w_adr E.2.1 6 0)), (1, va_rf (x1)), (3, va_rf (x3))] ⟨rfl, ⟨rfl, ⟨rfl, trivial⟩⟩⟩ rfl (zt_X7_replicator_p202 hL  h)
      · skip
        refine kz_aload_nv (M := kt_M281) (x := x3) kX7_replicator_c10.2.2.2.2.2.2.2.1 rfl ?_
        refine kz_nz0 (x := x3) hxp3 ?_
        refine kz_gfi (M := kt_M281) (c := 15) (o := p3) kX7_replicator_c11.1 wf_X7_205 (.inr (by exact hlp3)) ?_
        refine kz_bi (M := kt_M281) 64 kX7_replicator_c11.2.1 rfl ?_
        refine kz_icmp_le (M := kt_M281) kX7_replicator_c11.2.2.1 (t := 215) rfl h (fun h => ?_) (fun h => ?_)
        · skip
          exact kz_weak [(0, .ref (w_adr E.2.1 6 0)), (3, va_rf (x3))] ⟨rfl, ⟨rfl, trivial⟩⟩ rfl (zt_X7_replicator_p215 hL  h)
        · skip
          exact kz_weak [(0, .ref (w_adr E.2.1 6 0)), (1, va_rf (x1)), (3, va_rf (x3))] ⟨rfl, ⟨rfl, ⟨rfl, trivial⟩⟩⟩ rfl (zt_X7_replicator_p202 hL  h)
def zb_X7_replicator_p142 (E : zE) (L : Nat) (Q : kx_Rs → wS → Prop) (x1 : Option Nat) (x2 : Int32) (x3 : Option Nat) (w : wS) : Prop := (if x2 = 0 then zb_X7_replicator_p215 E L Q x3 w else (∃ p1, x1 = some p1 ∧ w_l w E.2.1 14 p1 ∧ (∃ p2, w_p w 14 p1 3 = some p2 ∧ w_l w E.2.1 14 p2 ∧ (if w_i w 14 p2 17 = 0 then zb_X7_replicator_p166 E L Q x1 x3 w else (if w_i w 14 p2 21 = 0 then zb_X7_replicator_p202 E L Q x1 x3 w else zb_X7_replicator_p166 E L Q x1 x3 w)))))
theorem zt_X7_replicator_p142 {E : zE} {L : Nat} {Q : kx_Rs → wS → Prop} {x1 : Option Nat} {x2 : Int32} {x3 : Option Nat} {w : wS} (hL : 24 ≤ L) (h : zb_X7_replicator_p142 E L Q x1 x2 x3 w) : kzE E L kt_M281 142 [(0, .ref (w_adr E.2.1 6 0)), (1, va_rf (x1)), (2, .int x2), (3, va_rf (x3))] [] w Q := by
  unfold zb_X7_replicator_p142 at h
  refine kz_iload_n (M := kt_M281) kX7_replicator_c8.2.2.1 rfl ?_
  refine kz_if_eq (M := kt_M281) kX7_replicator_c8.2.2.2.1 (t := 215) rfl h (fun h => ?_) (fun h => ?_)
  · skip
    exact kz_weak [(0, .ref (w_adr E.2.1 6 0)), (3, va_rf (x3))] ⟨rfl, ⟨rfl, trivial⟩⟩ rfl (zt_X7_replicator_p215 hL  h)
  · skip
    refine kz_aload_nv (M := kt_M281) (x := x1) kX7_replicator_c8.2.2.2.2.1 rfl ?_
    obtain ⟨p1, hxp1, hlp1, h⟩ := h
    refine kz_nz0 (x := x1) hxp1 ?_
    refine kz_gfp (M := kt_M281) (c := 14) (o := p1) kX7_replicator_c8.2.2.2.2.2.1 wf_X7_34 (.inr (by exact hlp1)) ?_
    obtain ⟨p2, hxp2, hlp2, h⟩ := h
    refine kz_nz0 (x := w_p w 14 p1 3) hxp2 ?_
    refine kz_gfi (M := kt_M281) (c := 14) (o := p2) kX7_replicator_c8.2.2.2.2.2.2.1 wf_X7_61 (.inr (by exact hlp2)) ?_
    refine kz_if_eq (M := kt_M281) kX7_replicator_c8.2.2.2.2.2.2.2.1 (t := 166) rfl h (fun h => ?_) (fun h => ?_)
    · skip
      exact kz_weak [(0, .ref (w_adr E.2.1 6 0)), (1, va_rf (x1)), (3, va_rf (x3))] ⟨rfl, ⟨rfl, ⟨rfl, trivial⟩⟩⟩ rfl (zt_X7_replicator_p166 hL  h)
    · skip
      refine kz_aload_nv (M := kt_M281) (x := x1) kX7_replicator_c9.1 rfl ?_
      refine kz_nz0 (x := x1) hxp1 ?_
      refine kz_gfp (M := kt_M281) (c := 14) (o := p1) kX7_replicator_c9.2.1 wf_X7_34 (.inr (by exact hlp1)) ?_
      refine kz_nz0 (x := w_p w 14 p1 3) hxp2 ?_
      refine kz_gfi (M := kt_M281) (c := 14) (o := p2) kX7_replicator_c9.2.2.1 wf_X7_68 (.inr (by exact hlp2)) ?_
      refine kz_if_eq (M := kt_M281) kX7_replicator_c9.2.2.2.1 (t := 202) rfl h (fun h => ?_) (fun h => ?_)
      · skip
        exact kz_weak [(0, .ref (w_adr E.2.1 6 0)), (1, va_rf (x1)), (3, va_rf (x3))] ⟨rfl, ⟨rfl, ⟨rfl, trivial⟩⟩⟩ rfl (zt_X7_replicator_p202 hL  h)
      · skip
        exact kz_weak [(0, .ref (w_adr E.2.1 6 0)), (1, va_rf (x1)), (3, va_rf (x3))] ⟨rfl, ⟨rfl, ⟨rfl, trivial⟩⟩⟩ rfl (zt_X7_replicator_p166 hL  h)
def zb_X7_replicator_p126 (E : zE) (L : Nat) (Q : kx_Rs → wS → Prop) (x1 : Option Nat) (x3 : Option Nat) (w : wS) : Prop := (∃ p1, x1 = some p1 ∧ w_l w E.2.1 14 p1 ∧ zw E (L - 22) kt_M56 [.ref (w_adr E.2.1 2 0), .int 9, .int (w_i w 14 p1 2)] w (wk0 (fun w2 => wle w w2 → zb_X7_replicator_p215 E L Q x3 w2) (fun e w => Q (.inr e) w)))
theorem zt_X7_replicator_p126 {E : zE} {L : Nat} {Q : kx_Rs → wS → Prop} {x1 : Option Nat} {x3 : Option Nat} {w : wS} (hL : 24 ≤ L) (h : zb_X7_replicator_p126 E L Q x1 x3 w) : kzE E L kt_M281 126 [(0, .ref (w_adr E.2.1 6 0)), (1, va_rf (x1)), (3, va_rf (x3))] [] w Q := by
  unfold zb_X7_replicator_p126 at h
  refine kz_aload_n (M := kt_M281) kX7_replicator_c7.2.2.2.1 rfl ?_
  refine kz_gfc (M := kt_M281) (x := 8) (c := 6) (o := 0) kX7_replicator_c7.2.2.2.2.1 wf_X7_15 (.inl rfl) ?_
  refine kz_bi (M := kt_M281) 9 kX7_replicator_c7.2.2.2.2.2.1 rfl ?_
  refine kz_aload_nv (M := kt_M281) (x := x1) kX7_replicator_c7.2.2.2.2.2.2.1 rfl ?_
  obtain ⟨p1, hxp1, hlp1, h⟩ := h
  refine kz_nz0 (x := x1) hxp1 ?_
  refine kz_gfi (M := kt_M281) (c := 14) (o := p1) kX7_replicator_c7.2.2.2.2.2.2.2.1 wf_X7_52 (.inr (by exact hlp1)) ?_
  refine kz_cv0 (M := kt_M281) (c := 2) (o := 0) (As := [.int 9, .int (w_i w 14 p1 2)]) (rest := []) kX7_replicator_c8.1 wl_X7_55 wMv_56 rfl (.inl rfl) rfl (Nat.le_trans (Nat.le_of_ble_eq_true rfl) hL) (Nat.le_of_ble_eq_true rfl) (Nat.le_of_ble_eq_true rfl) h (fun w2 hle h => ?_) (fun _ _ _ h => kzx_no rfl h)
  have h := h hle
  have hlp1 := w_l_le hlp1 hle
  refine kz_goto (M := kt_M281) kX7_replicator_c8.2.1 (t := 215) rfl ?_
  exact kz_weak [(0, .ref (w_adr E.2.1 6 0)), (3, va_rf (x3))] ⟨rfl, ⟨rfl, trivial⟩⟩ rfl (zt_X7_replicator_p215 hL  h)
def zb_X7_replicator_p54 (E : zE) (L : Nat) (Q : kx_Rs → wS → Prop) (x1 : Option Nat) (x2 : Int32) (x3 : Option Nat) (y0 : Int32) (y1 : Option Nat) (w : wS) : Prop := (∃ p1, y1 = some p1 ∧ w_l w E.2.1 15 p1 ∧ ((y0 = 0 ∨ y0 = 1) ∧ (∃ p2, x1 = some p2 ∧ w_l (ws_i w 15 p1 26 y0) E.2.1 14 p2 ∧ (∃ p3, w_p w 14 p2 3 = some p3 ∧ w_l (ws_i w 15 p1 26 y0) E.2.1 14 p3 ∧ (∃ p4, x3 = some p4 ∧ w_l (ws_i w 15 p1 26 y0) E.2.1 15 p4 ∧ (∃ p5, w_p w 14 p2 4 = some p5 ∧ w_l (ws_i (ws_i w 15 p1 26 y0) 15 p4 22 (w_i w 14 p3 19)) E.2.1 14 p5 ∧ (if x2 = 0 then zb_X7_replicator_p142 E L Q x1 x2 x3 (ws_i (ws_i (ws_i w 15 p1 26 y0) 15 p4 22 (w_i w 14 p3 19)) 15 p4 23 (w_i w 14 p5 19)) else (if w_i w 14 p3 17 = 0 then zb_X7_replicator_p142 E L Q x1 x2 x3 (ws_i (ws_i (ws_i w 15 p1 26 y0) 15 p4 22 (w_i w 14 p3 19)) 15 p4 23 (w_i w 14 p5 19)) else (if w_i w 14 p5 17 = 0 then zb_X7_replicator_p142 E L Q x1 x2 x3 (ws_i (ws_i (ws_i w 15 p1 26 y0) 15 p4 22 (w_i w 14 p3 19)) 15 p4 23 (w_i w 14 p5 19)) else (if w_i (ws_i (ws_i (ws_i w 15 p1 26 y0) 15 p4 22 (w_i w 14 p3 19)) 15 p4 23 (w_i w 14 p5 19)) 15 p4 26 = 0 then zb_X7_replicator_p126 E L Q x1 x3 (ws_i (ws_i (ws_i w 15 p1 26 y0) 15 p4 22 (w_i w 14 p3 19)) 15 p4 23 (w_i w 14 p5 19)) else (if w_i w 14 p5 19 < 0 then zb_X7_replicator_p126 E L Q x1 x3 (ws_i (ws_i (ws_i w 15 p1 26 y0) 15 p4 22 (w_i w 14 p3 19)) 15 p4 23 (w_i w 14 p5 19)) else (if w_i w 14 p5 19 ≤ 64 then zb_X7_replicator_p142 E L Q x1 x2 x3 (ws_i (ws_i (ws_i w 15 p1 26 y0) 15 p4 22 (w_i w 14 p3 19)) 15 p4 23 (w_i w 14 p5 19)) else zb_X7_replicator_p126 E L Q x1 x3 (ws_i (ws_i (ws_i w 15 p1 26 y0) 15 p4 22 (w_i w 14 p3 19)) 15 p4 23 (w_i w 14 p5 19))))))))))))))
theorem zt_X7_replicator_p54 {E : zE} {L : Nat} {Q : kx_Rs → wS → Prop} {x1 : Option Nat} {x2 : Int32} {x3 : Option Nat} {y0 : Int32} {y1 : Option Nat} {w : wS} (hL : 24 ≤ L) (h : zb_X7_replicator_p54 E L Q x1 x2 x3 y0 y1 w) : kzE E L kt_M281 54 [(0, .ref (w_adr E.2.1 6 0)), (1, va_rf (x1)), (2, .int x2), (3, va_rf (x3))] [.int y0, va_rf (y1)] w Q := by
  unfold zb_X7_replicator_p54 at h
  obtain ⟨p1, hxp1, hlp1, h⟩ := h
  refine kz_nz1 (x := y1) hxp1 ?_
  obtain ⟨h0, h⟩ := h
  refine kz_pfz (M := kt_M281) (c := 15) (o := p1) kX7_replicator_c3.2.2.2.2.1 wq_X7_199 (.inr (by exact hlp1)) h0 ?_
  refine kz_aload_nv (M := kt_M281) (x := x3) kX7_replicator_c3.2.2.2.2.2.1 rfl ?_
  refine kz_aload_nv (M := kt_M281) (x := x1) kX7_replicator_c3.2.2.2.2.2.2.1 rfl ?_
  obtain ⟨p2, hxp2, hlp2, h⟩ := h
  refine kz_nz0 (x := x1) hxp2 ?_
  refine kz_gfpR (M := kt_M281) (c := 14) (o := p2) (w_p w 14 p2 3) kX7_replicator_c3.2.2.2.2.2.2.2.1 wf_X7_34 (.inr (by exact hlp2)) rd_p_i ?_
  obtain ⟨p3, hxp3, hlp3, h⟩ := h
  refine kz_nz0 (x := w_p w 14 p2 3) hxp3 ?_
  refine kz_gfiR (M := kt_M281) (c := 14) (o := p3) (w_i w 14 p3 19) kX7_replicator_c4.1 wf_X7_74 (.inr (by exact hlp3)) (rd_i_i rfl) ?_
  obtain ⟨p4, hxp4, hlp4, h⟩ := h
  refine kz_nz1 (x := x3) hxp4 ?_
  refine kz_pfi (M := kt_M281) (c := 15) (o := p4) kX7_replicator_c4.2.1 wq_X7_202 (.inr (by exact hlp4)) ?_
  refine kz_aload_nv (M := kt_M281) (x := x3) kX7_replicator_c4.2.2.1 rfl ?_
  refine kz_aload_nv (M := kt_M281) (x := x1) kX7_replicator_c4.2.2.2.1 rfl ?_
  refine kz_nz0 (x := x1) hxp2 ?_
  refine kz_gfpR (M := kt_M281) (c := 14) (o := p2) (w_p w 14 p2 4) kX7_replicator_c4.2.2.2.2.1 wf_X7_46 (.inr (by exact hlp2)) (rd_p_i.trans rd_p_i) ?_
  obtain ⟨p5, hxp5, hlp5, h⟩ := h
  refine kz_nz0 (x := w_p w 14 p2 4) hxp5 ?_
  refine kz_gfiR (M := kt_M281) (c := 14) (o := p5) (w_i w 14 p5 19) kX7_replicator_c4.2.2.2.2.2.1 wf_X7_74 (.inr (by exact hlp5)) ((rd_i_i rfl).trans (rd_i_i rfl)) ?_
  refine kz_nz1 (x := x3) hxp4 ?_
  refine kz_pfi (M := kt_M281) (c := 15) (o := p4) kX7_replicator_c4.2.2.2.2.2.2.1 wq_X7_205 (.inr (by exact hlp4)) ?_
  refine kz_iload_n (M := kt_M281) kX7_replicator_c4.2.2.2.2.2.2.2.1 rfl ?_
  refine kz_if_eq (M := kt_M281) kX7_replicator_c5.1 (t := 142) rfl h (fun h => ?_) (fun h => ?_)
  · skip
    exact kz_weak [(0, .ref (w_adr E.2.1 6 0)), (1, va_rf (x1)), (2, .int x2), (3, va_rf (x3))] ⟨rfl, ⟨rfl, ⟨rfl, ⟨rfl, trivial⟩⟩⟩⟩ rfl (zt_X7_replicator_p142 hL  h)
  · skip
    refine kz_aload_nv (M := kt_M281) (x := x1) kX7_replicator_c5.2.1 rfl ?_
    refine kz_nz0 (x := x1) hxp2 ?_
    refine kz_gfpR (M := kt_M281) (c := 14) (o := p2) (w_p w 14 p2 3) kX7_replicator_c5.2.2.1 wf_X7_34 (.inr (by exact hlp2)) (rd_p_i.trans (rd_p_i.trans rd_p_i)) ?_
    refine kz_nz0 (x := w_p w 14 p2 3) hxp3 ?_
    refine kz_gfiR (M := kt_M281) (c := 14) (o := p3) (w_i w 14 p3 17) kX7_replicator_c5.2.2.2.1 wf_X7_61 (.inr (by exact hlp3)) ((rd_i_i rfl).trans ((rd_i_i rfl).trans (rd_i_i rfl))) ?_
    refine kz_if_eq (M := kt_M281) kX7_replicator_c5.2.2.2.2.1 (t := 142) rfl h (fun h => ?_) (fun h => ?_)
    · skip
      exact kz_weak [(0, .ref (w_adr E.2.1 6 0)), (1, va_rf (x1)), (2, .int x2), (3, va_rf (x3))] ⟨rfl, ⟨rfl, ⟨rfl, ⟨rfl, trivial⟩⟩⟩⟩ rfl (zt_X7_replicator_p142 hL  h)
    · skip
      refine kz_aload_nv (M := kt_M281) (x := x1) kX7_replicator_c5.2.2.2.2.2.1 rfl ?_
      refine kz_nz0 (x := x1) hxp2 ?_
      refine kz_gfpR (M := kt_M281) (c := 14) (o := p2) (w_p w 14 p2 4) kX7_replicator_c5.2.2.2.2.2.2.1 wf_X7_46 (.inr (by exact hlp2)) (rd_p_i.trans (rd_p_i.trans rd_p_i)) ?_
      refine kz_nz0 (x := w_p w 14 p2 4) hxp5 ?_
      refine kz_gfiR (M := kt_M281) (c := 14) (o := p5) (w_i w 14 p5 17) kX7_replicator_c5.2.2.2.2.2.2.2.1 wf_X7_61 (.inr (by exact hlp5)) ((rd_i_i rfl).trans ((rd_i_i rfl).trans (rd_i_i rfl))) ?_
      refine kz_if_eq (M := kt_M281) kX7_replicator_c6.1 (t := 142) rfl h (fun h => ?_) (fun h => ?_)
      · skip
        exact kz_weak [(0, .ref (w_adr E.2.1 6 0)), (1, va_rf (x1)), (2, .int x2), (3, va_rf (x3))] ⟨rfl, ⟨rfl, ⟨rfl, ⟨rfl, trivial⟩⟩⟩⟩ rfl (zt_X7_replicator_p142 hL  h)
      · skip
        refine kz_aload_nv (M := kt_M281) (x := x3) kX7_replicator_c6.2.1 rfl ?_
        refine kz_nz0 (x := x3) hxp4 ?_
        refine kz_gfiR (M := kt_M281) (c := 15) (o := p4) (w_i (ws_i (ws_i (ws_i w 15 p1 26 y0) 15 p4 22 (w_i w 14 p3 19)) 15 p4 23 (w_i w 14 p5 19)) 15 p4 26) kX7_replicator_c6.2.2.1 wf_X7_199 (.inr (by exact hlp4)) rfl ?_
        refine kz_if_eq (M := kt_M281) kX7_replicator_c6.2.2.2.1 (t := 126) rfl h (fun h => ?_) (fun h => ?_)
        · skip
          exact kz_weak [(0, .ref (w_adr E.2.1 6 0)), (1, va_rf (x1)), (3, va_rf (x3))] ⟨rfl, ⟨rfl, ⟨rfl, trivial⟩⟩⟩ rfl (zt_X7_replicator_p126 hL  h)
        · skip
          refine kz_aload_nv (M := kt_M281) (x := x3) kX7_replicator_c6.2.2.2.2.1 rfl ?_
          refine kz_nz0 (x := x3) hxp4 ?_
          refine kz_gfiR (M := kt_M281) (c := 15) (o := p4) (w_i w 14 p5 19) kX7_replicator_c6.2.2.2.2.2.1 wf_X7_205 (.inr (by exact hlp4)) rd_i_e ?_
          refine kz_if_lt (M := kt_M281) kX7_replicator_c6.2.2.2.2.2.2.1 (t := 126) rfl h (fun h => ?_) (fun h => ?_)
          · skip
            exact kz_weak [(0, .ref (w_adr E.2.1 6 0)), (1, va_rf (x1)), (3, va_rf (x3))] ⟨rfl, ⟨rfl, ⟨rfl, trivial⟩⟩⟩ rfl (zt_X7_replicator_p126 hL  h)
          · skip
            refine kz_aload_nv (M := kt_M281) (x := x3) kX7_replicator_c6.2.2.2.2.2.2.2.1 rfl ?_
            refine kz_nz0 (x := x3) hxp4 ?_
            refine kz_gfiR (M := kt_M281) (c := 15) (o := p4) (w_i w 14 p5 19) kX7_replicator_c7.1 wf_X7_205 (.inr (by exact hlp4)) rd_i_e ?_
            refine kz_bi (M := kt_M281) 64 kX7_replicator_c7.2.1 rfl ?_
            refine kz_icmp_le (M := kt_M281) kX7_replicator_c7.2.2.1 (t := 142) rfl h (fun h => ?_) (fun h => ?_)
            · skip
              exact kz_weak [(0, .ref (w_adr E.2.1 6 0)), (1, va_rf (x1)), (2, .int x2), (3, va_rf (x3))] ⟨rfl, ⟨rfl, ⟨rfl, ⟨rfl, trivial⟩⟩⟩⟩ rfl (zt_X7_replicator_p142 hL  h)
            · skip
              exact kz_weak [(0, .ref (w_adr E.2.1 6 0)), (1, va_rf (x1)), (3, va_rf (x3))] ⟨rfl, ⟨rfl, ⟨rfl, trivial⟩⟩⟩ rfl (zt_X7_replicator_p126 hL  h)
def zb_X7_replicator_p53 (E : zE) (L : Nat) (Q : kx_Rs → wS → Prop) (x1 : Option Nat) (x2 : Int32) (x3 : Option Nat) (y0 : Option Nat) (w : wS) : Prop := zb_X7_replicator_p54 E L Q x1 x2 x3 0 y0 w
theorem zt_X7_replicator_p53 {E : zE} {L : Nat} {Q : kx_Rs → wS → Prop} {x1 : Option Nat} {x2 : Int32} {x3 : Option Nat} {y0 : Option Nat} {w : wS} (hL : 24 ≤ L) (h : zb_X7_replicator_p53 E L Q x1 x2 x3 y0 w) : kzE E L kt_M281 53 [(0, .ref (w_adr E.2.1 6 0)), (1, va_rf (x1)), (2, .int x2), (3, va_rf (x3))] [va_rf (y0)] w Q := by
  unfold zb_X7_replicator_p53 at h
  refine kz_ic (M := kt_M281) 0 kX7_replicator_c3.2.2.2.1 rfl ?_
  exact kz_weak [(0, .ref (w_adr E.2.1 6 0)), (1, va_rf (x1)), (2, .int x2), (3, va_rf (x3))] ⟨rfl, ⟨rfl, ⟨rfl, ⟨rfl, trivial⟩⟩⟩⟩ rfl (zt_X7_replicator_p54 hL  h)
def zb_X7_replicator_p0 (E : zE) (L : Nat) (Q : kx_Rs → wS → Prop) (x1 : Option Nat) (x2 : Int32) (w : wS) : Prop := (if ¬ x1 = none then (∃ p1, x1 = some p1 ∧ w_l w E.2.1 14 p1 ∧ zw E (L - 22) kt_M289 [.ref (w_adr E.2.1 6 0), va_rf (w_p w 14 p1 3), .int 1] w (wk0 (fun w2 => wle w w2 → zw E (L - 22) kt_M289 [.ref (w_adr E.2.1 6 0), va_rf (w_p w2 14 p1 4), .int 1] w2 (wk0 (fun w4 => wle w2 w4 → (∃ p6, w_p w4 14 p1 3 = some p6 ∧ w_l w4 E.2.1 14 p6 ∧ (if w_i w4 14 p6 21 = 0 then zb_X7_replicator_p53 E L Q x1 x2 (w_p w4 14 p1 16) (w_p w4 14 p1 16) w4 else (∃ p7, w_p w4 14 p1 4 = some p7 ∧ w_l w4 E.2.1 14 p7 ∧ (if w_i w4 14 p7 21 = 0 then zb_X7_replicator_p53 E L Q x1 x2 (w_p w4 14 p1 16) (w_p w4 14 p1 16) w4 else zb_X7_replicator_p54 E L Q x1 x2 (w_p w4 14 p1 16) 1 (w_p w4 14 p1 16) w4))))) (fun e w => Q (.inr e) w))) (fun e w => Q (.inr e) w))) else Q (.inl none) w)
theorem zt_X7_replicator_p0 {E : zE} {L : Nat} {Q : kx_Rs → wS → Prop} {x1 : Option Nat} {x2 : Int32} {w : wS} (hL : 24 ≤ L) (h : zb_X7_replicator_p0 E L Q x1 x2 w) : kzE E L kt_M281 0 [(0, .ref (w_adr E.2.1 6 0)), (1, va_rf (x1)), (2, .int x2)] [] w Q := by
  unfold zb_X7_replicator_p0 at h
  refine kz_aload_nv (M := kt_M281) (x := x1) kX7_replicator_c0.1 rfl ?_
  refine kz_ifnonnull (M := kt_M281) (x := x1) kX7_replicator_c0.2.1 (t := 5) rfl h (fun h => ?_) (fun h => ?_)
  · skip
    refine kz_aload_n (M := kt_M281) kX7_replicator_c0.2.2.2.1 rfl ?_
    refine kz_aload_nv (M := kt_M281) (x := x1) kX7_replicator_c0.2.2.2.2.1 rfl ?_
    obtain ⟨p1, hxp1, hlp1, h⟩ := h
    refine kz_nz0 (x := x1) hxp1 ?_
    refine kz_gfp (M := kt_M281) (c := 14) (o := p1) kX7_replicator_c0.2.2.2.2.2.1 wf_X7_34 (.inr (by exact hlp1)) ?_
    refine kz_ic (M := kt_M281) 1 kX7_replicator_c0.2.2.2.2.2.2.1 rfl ?_
    refine kz_cv0 (M := kt_M281) (c := 6) (o := 0) (As := [va_rf (w_p w 14 p1 3), .int 1]) (rest := []) kX7_replicator_c0.2.2.2.2.2.2.2.1 wl_X7_167 wMv_289 rfl (.inl rfl) rfl (Nat.le_trans (Nat.le_of_ble_eq_true rfl) hL) (by simp [lg_sl, w_cat, z_ci, z_cr, z_cl, z_cn, kt_M289]) (Nat.le_of_ble_eq_true rfl) h (fun w2 hle h => ?_) (fun _ _ _ h => kzx_no rfl h)
    have h := h hle
    have hlp1 := w_l_le hlp1 hle
    refine kz_aload_n (M := kt_M281) kX7_replicator_c1.1 rfl ?_
    refine kz_aload_nv (M := kt_M281) (x := x1) kX7_replicator_c1.2.1 rfl ?_
    refine kz_nz0 (x := x1) hxp1 ?_
    refine kz_gfp (M := kt_M281) (c := 14) (o := p1) kX7_replicator_c1.2.2.1 wf_X7_46 (.inr (by exact hlp1)) ?_
    refine kz_ic (M := kt_M281) 1 kX7_replicator_c1.2.2.2.1 rfl ?_
    refine kz_cv0 (M := kt_M281) (c := 6) (o := 0) (As := [va_rf (w_p w2 14 p1 4), .int 1]) (rest := []) kX7_replicator_c1.2.2.2.2.1 wl_X7_167 wMv_289 rfl (.inl rfl) rfl (Nat.le_trans (Nat.le_of_ble_eq_true rfl) hL) (by simp [lg_sl, w_cat, z_ci, z_cr, z_cl, z_cn, kt_M289]) (Nat.le_of_ble_eq_true rfl) h (fun w4 hle h => ?_) (fun _ _ _ h => kzx_no rfl h)
    have h := h hle
    have hlp1 := w_l_le hlp1 hle
    refine kz_aload_nv (M := kt_M281) (x := x1) kX7_replicator_c1.2.2.2.2.2.1 rfl ?_
    refine kz_nz0 (x := x1) hxp1 ?_
    refine kz_gfp (M := kt_M281) (c := 14) (o := p1) kX7_replicator_c1.2.2.2.2.2.2.1 wf_X7_103 (.inr (by exact hlp1)) ?_
    refine kz_stv_n (M := kt_M281) (x := w_p w4 14 p1 16) [(0, .ref (w_adr E.2.1 6 0)), (1, va_rf (x1)), (2, .int x2)] kX7_replicator_c1.2.2.2.2.2.2.2.1 (Nat.le_of_ble_eq_true rfl) ⟨⟨rfl, rfl, .inl rfl⟩, ⟨⟨rfl, rfl, .inl rfl⟩, ⟨⟨rfl, rfl, .inr rfl⟩, trivial⟩⟩⟩ rfl ?_
    refine kz_aload_nv (M := kt_M281) (x := w_p w4 14 p1 16) kX7_replicator_c2.1 rfl ?_
    refine kz_aload_nv (M := kt_M281) (x := x1) kX7_replicator_c2.2.1 rfl ?_
    refine kz_nz0 (x := x1) hxp1 ?_
    refine kz_gfp (M := kt_M281) (c := 14) (o := p1) kX7_replicator_c2.2.2.1 wf_X7_34 (.inr (by exact hlp1)) ?_
    obtain ⟨p6, hxp6, hlp6, h⟩ := h
    refine kz_nz0 (x := w_p w4 14 p1 3) hxp6 ?_
    refine kz_gfi (M := kt_M281) (c := 14) (o := p6) kX7_replicator_c2.2.2.2.1 wf_X7_68 (.inr (by exact hlp6)) ?_
    refine kz_if_eq (M := kt_M281) kX7_replicator_c2.2.2.2.2.1 (t := 53) rfl h (fun h => ?_) (fun h => ?_)
    · skip
      exact kz_weak [(0, .ref (w_adr E.2.1 6 0)), (1, va_rf (x1)), (2, .int x2), (3, va_rf (w_p w4 14 p1 16))] ⟨rfl, ⟨rfl, ⟨rfl, ⟨rfl, trivial⟩⟩⟩⟩ rfl (zt_X7_replicator_p53 hL  h)
    · skip
      refine kz_aload_nv (M := kt_M281) (x := x1) kX7_replicator_c2.2.2.2.2.2.1 rfl ?_
      refine kz_nz0 (x := x1) hxp1 ?_
      refine kz_gfp (M := kt_M281) (c := 14) (o := p1) kX7_replicator_c2.2.2.2.2.2.2.1 wf_X7_46 (.inr (by exact hlp1)) ?_
      obtain ⟨p7, hxp7, hlp7, h⟩ := h
      refine kz_nz0 (x := w_p w4 14 p1 4) hxp7 ?_
      refine kz_gfi (M := kt_M281) (c := 14) (o := p7) kX7_replicator_c2.2.2.2.2.2.2.2.1 wf_X7_68 (.inr (by exact hlp7)) ?_
      refine kz_if_eq (M := kt_M281) kX7_replicator_c3.1 (t := 53) rfl h (fun h => ?_) (fun h => ?_)
      · skip
        exact kz_weak [(0, .ref (w_adr E.2.1 6 0)), (1, va_rf (x1)), (2, .int x2), (3, va_rf (w_p w4 14 p1 16))] ⟨rfl, ⟨rfl, ⟨rfl, ⟨rfl, trivial⟩⟩⟩⟩ rfl (zt_X7_replicator_p53 hL  h)
      · skip
        refine kz_ic (M := kt_M281) 1 kX7_replicator_c3.2.1 rfl ?_
        refine kz_goto (M := kt_M281) kX7_replicator_c3.2.2.1 (t := 54) rfl ?_
        exact kz_weak [(0, .ref (w_adr E.2.1 6 0)), (1, va_rf (x1)), (2, .int x2), (3, va_rf (w_p w4 14 p1 16))] ⟨rfl, ⟨rfl, ⟨rfl, ⟨rfl, trivial⟩⟩⟩⟩ rfl (zt_X7_replicator_p54 hL  h)
  · skip
    exact kz_ret (M := kt_M281) kX7_replicator_c0.2.2.1 rfl h
def zL_X7_options_p88 (E : zE) (L : Nat) (Q : kx_Rs → wS → Prop) (x1 : Option Nat) (x2 : Int32) (x3 : Int32) (x4 : Option Nat) (x5 : Option Nat) (w : wS) : Prop := kzE E L kt_M276 88 [(0, .ref (w_adr E.2.1 6 0)), (1, va_rf (x1)), (2, .int x2), (3, .int x3), (4, va_rf (x4)), (5, va_rf (x5))] [] w Q
def zL_X7_options_p76 (E : zE) (L : Nat) (Q : kx_Rs → wS → Prop) (x1 : Option Nat) (x2 : Int32) (x3 : Int32) (x4 : Option Nat) (w : wS) : Prop := kzE E L kt_M276 76 [(0, .ref (w_adr E.2.1 6 0)), (1, va_rf (x1)), (2, .int x2), (3, .int x3), (4, va_rf (x4))] [] w Q
def zb_X7_options_p88 (E : zE) (L : Nat) (Q : kx_Rs → wS → Prop) (x1 : Option Nat) (x2 : Int32) (x3 : Int32) (x4 : Option Nat) (x5 : Option Nat) (w : wS) : Prop := (if x5 = none then (∃ p1, x4 = some p1 ∧ w_l w E.2.1 14 p1 ∧ zw E (L - 22) kt_M280 [.ref (w_adr E.2.1 6 0), va_rf (w_p w 14 p1 4)] w (wk0 (fun w2 => wle w w2 → zL_X7_options_p76 E L Q x1 x2 x3 (w_p w2 14 p1 7) w2) (fun e w => Q (.inr e) w))) else zw E (L - 25) kt_M275 [.ref (w_adr E.2.1 6 0), va_rf (x1), va_rf (x5), .int x2, .int x3] w (wk0 (fun w4 => wle w w4 → (∃ p6, x5 = some p6 ∧ w_l w4 E.2.1 14 p6 ∧ zL_X7_options_p88 E L Q x1 x2 x3 x4 (w_p w4 14 p6 7) w4)) (fun e w => Q (.inr e) w)))
theorem zt_X7_options_p88 {E : zE} {L : Nat} {Q : kx_Rs → wS → Prop} {x1 : Option Nat} {x2 : Int32} {x3 : Int32} {x4 : Option Nat} {x5 : Option Nat} {w : wS} (hL : 25 ≤ L) (h : zb_X7_options_p88 E L Q x1 x2 x3 x4 x5 w) : kzE E L kt_M276 88 [(0, .ref (w_adr E.2.1 6 0)), (1, va_rf (x1)), (2, .int x2), (3, .int x3), (4, va_rf (x4)), (5, va_rf (x5))] [] w Q := by
  unfold zb_X7_options_p88 at h
  refine kz_aloadv (M := kt_M276) (x := x5) kX7_options_c5.2.1 rfl ?_
  refine kz_ifnull (M := kt_M276) (x := x5) kX7_options_c5.2.2.1 (t := 112) rfl h (fun h => ?_) (fun h => ?_)
  · skip
    refine kz_aload_n (M := kt_M276) kX7_options_c6.2.2.2.2.2.1 rfl ?_
    refine kz_aloadv (M := kt_M276) (x := x4) kX7_options_c6.2.2.2.2.2.2.1 rfl ?_
    obtain ⟨p1, hxp1, hlp1, h⟩ := h
    refine kz_nz0 (x := x4) hxp1 ?_
    refine kz_gfp (M := kt_M276) (c := 14) (o := p1) kX7_options_c6.2.2.2.2.2.2.2.1 wf_X7_46 (.inr (by exact hlp1)) ?_
    refine kz_cv0 (M := kt_M276) (c := 6) (o := 0) (As := [va_rf (w_p w 14 p1 4)]) (rest := []) kX7_options_c7.1 wl_X7_30 wMv_280 rfl (.inl rfl) rfl (Nat.le_trans (Nat.le_of_ble_eq_true rfl) hL) (by simp [lg_sl, w_cat, z_ci, z_cr, z_cl, z_cn, kt_M280]) (Nat.le_of_ble_eq_true rfl) h (fun w2 hle h => ?_) (fun _ _ _ h => kzx_no rfl h)
    have h := h hle
    have hlp1 := w_l_le hlp1 hle
    refine kz_aloadv (M := kt_M276) (x := x4) kX7_options_c7.2.1 rfl ?_
    refine kz_nz0 (x := x4) hxp1 ?_
    refine kz_gfp (M := kt_M276) (c := 14) (o := p1) kX7_options_c7.2.2.1 wf_X7_43 (.inr (by exact hlp1)) ?_
    refine kz_stv (M := kt_M276) (x := w_p w2 14 p1 7) [(0, .ref (w_adr E.2.1 6 0)), (1, va_rf (x1)), (2, .int x2), (3, .int x3)] kX7_options_c7.2.2.2.1 (Nat.le_of_ble_eq_true rfl) ⟨⟨rfl, rfl, .inl rfl⟩, ⟨⟨rfl, rfl, .inl rfl⟩, ⟨⟨rfl, rfl, .inl rfl⟩, ⟨⟨rfl, rfl, .inr rfl⟩, trivial⟩⟩⟩⟩ rfl ?_
    refine kz_goto (M := kt_M276) kX7_options_c7.2.2.2.2.1 (t := 76) rfl ?_
    exact kz_weak [(0, .ref (w_adr E.2.1 6 0)), (1, va_rf (x1)), (2, .int x2), (3, .int x3), (4, va_rf (w_p w2 14 p1 7))] ⟨rfl, ⟨rfl, ⟨rfl, ⟨rfl, ⟨rfl, trivial⟩⟩⟩⟩⟩ rfl h
  · skip
    refine kz_aload_n (M := kt_M276) kX7_options_c5.2.2.2.1 rfl ?_
    refine kz_aload_nv (M := kt_M276) (x := x1) kX7_options_c5.2.2.2.2.1 rfl ?_
    refine kz_aloadv (M := kt_M276) (x := x5) kX7_options_c5.2.2.2.2.2.1 rfl ?_
    refine kz_iload_n (M := kt_M276) kX7_options_c5.2.2.2.2.2.2.1 rfl ?_
    refine kz_iload_n (M := kt_M276) kX7_options_c5.2.2.2.2.2.2.2.1 rfl ?_
    refine kz_cv0 (M := kt_M276) (c := 6) (o := 0) (As := [va_rf (x1), va_rf (x5), .int x2, .int x3]) (rest := []) kX7_options_c6.1 wl_X7_221 wMv_275 rfl (.inl rfl) rfl (Nat.le_trans (Nat.le_of_ble_eq_true rfl) hL) (by simp [lg_sl, w_cat, z_ci, z_cr, z_cl, z_cn, kt_M275]) (Nat.le_of_ble_eq_true rfl) h (fun w4 hle h => ?_) (fun _ _ _ h => kzx_no rfl h)
    have h := h hle
    refine kz_aloadv (M := kt_M276) (x := x5) kX7_options_c6.2.1 rfl ?_
    obtain ⟨p6, hxp6, hlp6, h⟩ := h
    refine kz_nz0 (x := x5) hxp6 ?_
    refine kz_gfp (M := kt_M276) (c := 14) (o := p6) kX7_options_c6.2.2.1 wf_X7_43 (.inr (by exact hlp6)) ?_
    refine kz_stv (M := kt_M276) (x := w_p w4 14 p6 7) [(0, .ref (w_adr E.2.1 6 0)), (1, va_rf (x1)), (2, .int x2), (3, .int x3), (4, va_rf (x4))] kX7_options_c6.2.2.2.1 (Nat.le_of_ble_eq_true rfl) ⟨⟨rfl, rfl, .inl rfl⟩, ⟨⟨rfl, rfl, .inl rfl⟩, ⟨⟨rfl, rfl, .inl rfl⟩, ⟨⟨rfl, rfl, .inl rfl⟩, ⟨⟨rfl, rfl, .inr (w_cat (x4))⟩, trivial⟩⟩⟩⟩⟩ rfl ?_
    refine kz_goto (M := kt_M276) kX7_options_c6.2.2.2.2.1 (t := 88) rfl ?_
    exact kz_weak [(0, .ref (w_adr E.2.1 6 0)), (1, va_rf (x1)), (2, .int x2), (3, .int x3), (4, va_rf (x4)), (5, va_rf (w_p w4 14 p6 7))] ⟨rfl, ⟨rfl, ⟨rfl, ⟨rfl, ⟨rfl, ⟨rfl, trivial⟩⟩⟩⟩⟩⟩ rfl h
def zb_X7_options_p76 (E : zE) (L : Nat) (Q : kx_Rs → wS → Prop) (x1 : Option Nat) (x2 : Int32) (x3 : Int32) (x4 : Option Nat) (w : wS) : Prop := (if x4 = none then Q (.inl none) (ws_i w 6 0 4 x3) else (∃ p1, x4 = some p1 ∧ w_l w E.2.1 14 p1 ∧ zL_X7_options_p88 E L Q x1 x2 x3 x4 (w_p w 14 p1 3) w))
theorem zt_X7_options_p76 {E : zE} {L : Nat} {Q : kx_Rs → wS → Prop} {x1 : Option Nat} {x2 : Int32} {x3 : Int32} {x4 : Option Nat} {w : wS} (hL : 25 ≤ L) (h : zb_X7_options_p76 E L Q x1 x2 x3 x4 w) : kzE E L kt_M276 76 [(0, .ref (w_adr E.2.1 6 0)), (1, va_rf (x1)), (2, .int x2), (3, .int x3), (4, va_rf (x4))] [] w Q := by
  unfold zb_X7_options_p76 at h
  refine kz_aloadv (M := kt_M276) (x := x4) kX7_options_c4.2.2.2.2.1 rfl ?_
  refine kz_ifnull (M := kt_M276) (x := x4) kX7_options_c4.2.2.2.2.2.1 (t := 131) rfl h (fun h => ?_) (fun h => ?_)
  · skip
    refine kz_aload_n (M := kt_M276) kX7_options_c7.2.2.2.2.2.1 rfl ?_
    refine kz_iload_n (M := kt_M276) kX7_options_c7.2.2.2.2.2.2.1 rfl ?_
    refine kz_pfi (M := kt_M276) (c := 6) (o := 0) kX7_options_c7.2.2.2.2.2.2.2.1 wq_X7_218 (.inl rfl) ?_
    exact kz_ret (M := kt_M276) kX7_options_c8.1 rfl h
  · skip
    refine kz_aloadv (M := kt_M276) (x := x4) kX7_options_c4.2.2.2.2.2.2.1 rfl ?_
    obtain ⟨p1, hxp1, hlp1, h⟩ := h
    refine kz_nz0 (x := x4) hxp1 ?_
    refine kz_gfp (M := kt_M276) (c := 14) (o := p1) kX7_options_c4.2.2.2.2.2.2.2.1 wf_X7_34 (.inr (by exact hlp1)) ?_
    refine kz_stv (M := kt_M276) (x := w_p w 14 p1 3) [(0, .ref (w_adr E.2.1 6 0)), (1, va_rf (x1)), (2, .int x2), (3, .int x3), (4, va_rf (x4))] kX7_options_c5.1 (Nat.le_of_ble_eq_true rfl) ⟨⟨rfl, rfl, .inl rfl⟩, ⟨⟨rfl, rfl, .inl rfl⟩, ⟨⟨rfl, rfl, .inl rfl⟩, ⟨⟨rfl, rfl, .inl rfl⟩, ⟨⟨rfl, rfl, .inr (w_cat (x4))⟩, trivial⟩⟩⟩⟩⟩ rfl ?_
    exact kz_weak [(0, .ref (w_adr E.2.1 6 0)), (1, va_rf (x1)), (2, .int x2), (3, .int x3), (4, va_rf (x4)), (5, va_rf (w_p w 14 p1 3))] ⟨rfl, ⟨rfl, ⟨rfl, ⟨rfl, ⟨rfl, ⟨rfl, trivial⟩⟩⟩⟩⟩⟩ rfl h
def zb_X7_options_p65 (E : zE) (L : Nat) (Q : kx_Rs → wS → Prop) (x1 : Option Nat) (x2 : Int32) (w : wS) : Prop := (∃ p1, x1 = some p1 ∧ w_l w E.2.1 14 p1 ∧ zL_X7_options_p76 E L Q x1 x2 (w_i w 6 0 4) (w_p w 14 p1 4) w)
theorem zt_X7_options_p65 {E : zE} {L : Nat} {Q : kx_Rs → wS → Prop} {x1 : Option Nat} {x2 : Int32} {w : wS} (hL : 25 ≤ L) (h : zb_X7_options_p65 E L Q x1 x2 w) : kzE E L kt_M276 65 [(0, .ref (w_adr E.2.1 6 0)), (1, va_rf (x1)), (2, .int x2)] [] w Q := by
  unfold zb_X7_options_p65 at h
  refine kz_aload_n (M := kt_M276) kX7_options_c3.2.2.2.2.2.2.1 rfl ?_
  refine kz_gfi (M := kt_M276) (c := 6) (o := 0) kX7_options_c3.2.2.2.2.2.2.2.1 wf_X7_218 (.inl rfl) ?_
  refine kz_sti_n (M := kt_M276) [(0, .ref (w_adr E.2.1 6 0)), (1, va_rf (x1)), (2, .int x2)] kX7_options_c4.1 (Nat.le_of_ble_eq_true rfl) ⟨⟨rfl, rfl, .inl rfl⟩, ⟨⟨rfl, rfl, .inl rfl⟩, ⟨⟨rfl, rfl, .inr rfl⟩, trivial⟩⟩⟩ rfl ?_
  refine kz_aload_nv (M := kt_M276) (x := x1) kX7_options_c4.2.1 rfl ?_
  obtain ⟨p1, hxp1, hlp1, h⟩ := h
  refine kz_nz0 (x := x1) hxp1 ?_
  refine kz_gfp (M := kt_M276) (c := 14) (o := p1) kX7_options_c4.2.2.1 wf_X7_46 (.inr (by exact hlp1)) ?_
  refine kz_stv (M := kt_M276) (x := w_p w 14 p1 4) [(0, .ref (w_adr E.2.1 6 0)), (1, va_rf (x1)), (2, .int x2), (3, .int (w_i w 6 0 4))] kX7_options_c4.2.2.2.1 (Nat.le_of_ble_eq_true rfl) ⟨⟨rfl, rfl, .inl rfl⟩, ⟨⟨rfl, rfl, .inl rfl⟩, ⟨⟨rfl, rfl, .inl rfl⟩, ⟨⟨rfl, rfl, .inr rfl⟩, trivial⟩⟩⟩⟩ rfl ?_
  exact kz_weak [(0, .ref (w_adr E.2.1 6 0)), (1, va_rf (x1)), (2, .int x2), (3, .int (w_i w 6 0 4)), (4, va_rf (w_p w 14 p1 4))] ⟨rfl, ⟨rfl, ⟨rfl, ⟨rfl, ⟨rfl, trivial⟩⟩⟩⟩⟩ rfl h
def zb_X7_options_p34 (E : zE) (L : Nat) (Q : kx_Rs → wS → Prop) (x1 : Option Nat) (y0 : Int32) (w : wS) : Prop := (∃ p1, x1 = some p1 ∧ w_l w E.2.1 14 p1 ∧ (∃ p2, w_p w 14 p1 3 = some p2 ∧ w_l w E.2.1 14 p2 ∧ (if w_i w 14 p2 17 = 0 then zb_X7_options_p65 E L Q x1 y0 w else (if ¬ y0 = 0 then zb_X7_options_p65 E L Q x1 y0 w else zw E (L - 22) kt_M56 [.ref (w_adr E.2.1 2 0), .int 7, .int (w_i w 14 p2 2)] w (wk0 (fun w3 => wle w w3 → zb_X7_options_p65 E L Q x1 y0 w3) (fun e w => Q (.inr e) w))))))
theorem zt_X7_options_p34 {E : zE} {L : Nat} {Q : kx_Rs → wS → Prop} {x1 : Option Nat} {y0 : Int32} {w : wS} (hL : 25 ≤ L) (h : zb_X7_options_p34 E L Q x1 y0 w) : kzE E L kt_M276 34 [(0, .ref (w_adr E.2.1 6 0)), (1, va_rf (x1))] [.int y0] w Q := by
  unfold zb_X7_options_p34 at h
  refine kz_sti_n (M := kt_M276) [(0, .ref (w_adr E.2.1 6 0)), (1, va_rf (x1))] kX7_options_c2.1 (Nat.le_of_ble_eq_true rfl) ⟨⟨rfl, rfl, .inl rfl⟩, ⟨⟨rfl, rfl, .inr (w_cat (x1))⟩, trivial⟩⟩ rfl ?_
  refine kz_aload_nv (M := kt_M276) (x := x1) kX7_options_c2.2.1 rfl ?_
  obtain ⟨p1, hxp1, hlp1, h⟩ := h
  refine kz_nz0 (x := x1) hxp1 ?_
  refine kz_gfp (M := kt_M276) (c := 14) (o := p1) kX7_options_c2.2.2.1 wf_X7_34 (.inr (by exact hlp1)) ?_
  obtain ⟨p2, hxp2, hlp2, h⟩ := h
  refine kz_nz0 (x := w_p w 14 p1 3) hxp2 ?_
  refine kz_gfi (M := kt_M276) (c := 14) (o := p2) kX7_options_c2.2.2.2.1 wf_X7_61 (.inr (by exact hlp2)) ?_
  refine kz_if_eq (M := kt_M276) kX7_options_c2.2.2.2.2.1 (t := 65) rfl h (fun h => ?_) (fun h => ?_)
  · skip
    exact kz_weak [(0, .ref (w_adr E.2.1 6 0)), (1, va_rf (x1)), (2, .int y0)] ⟨rfl, ⟨rfl, ⟨rfl, trivial⟩⟩⟩ rfl (zt_X7_options_p65 hL  h)
  · skip
    refine kz_iload_n (M := kt_M276) kX7_options_c2.2.2.2.2.2.1 rfl ?_
    refine kz_if_ne (M := kt_M276) kX7_options_c2.2.2.2.2.2.2.1 (t := 65) rfl h (fun h => ?_) (fun h => ?_)
    · skip
      exact kz_weak [(0, .ref (w_adr E.2.1 6 0)), (1, va_rf (x1)), (2, .int y0)] ⟨rfl, ⟨rfl, ⟨rfl, trivial⟩⟩⟩ rfl (zt_X7_options_p65 hL  h)
    · skip
      refine kz_aload_n (M := kt_M276) kX7_options_c2.2.2.2.2.2.2.2.1 rfl ?_
      refine kz_gfc (M := kt_M276) (x := 8) (c := 6) (o := 0) kX7_options_c3.1 wf_X7_15 (.inl rfl) ?_
      refine kz_bi (M := kt_M276) 7 kX7_options_c3.2.1 rfl ?_
      refine kz_aload_nv (M := kt_M276) (x := x1) kX7_options_c3.2.2.1 rfl ?_
      refine kz_nz0 (x := x1) hxp1 ?_
      refine kz_gfp (M := kt_M276) (c := 14) (o := p1) kX7_options_c3.2.2.2.1 wf_X7_34 (.inr (by exact hlp1)) ?_
      refine kz_nz0 (x := w_p w 14 p1 3) hxp2 ?_
      refine kz_gfi (M := kt_M276) (c := 14) (o := p2) kX7_options_c3.2.2.2.2.1 wf_X7_52 (.inr (by exact hlp2)) ?_
      refine kz_cv0 (M := kt_M276) (c := 2) (o := 0) (As := [.int 7, .int (w_i w 14 p2 2)]) (rest := []) kX7_options_c3.2.2.2.2.2.1 wl_X7_55 wMv_56 rfl (.inl rfl) rfl (Nat.le_trans (Nat.le_of_ble_eq_true rfl) hL) (Nat.le_of_ble_eq_true rfl) (Nat.le_of_ble_eq_true rfl) h (fun w3 hle h => ?_) (fun _ _ _ h => kzx_no rfl h)
      have h := h hle
      have hlp1 := w_l_le hlp1 hle
      have hlp2 := w_l_le hlp2 hle
      exact kz_weak [(0, .ref (w_adr E.2.1 6 0)), (1, va_rf (x1)), (2, .int y0)] ⟨rfl, ⟨rfl, ⟨rfl, trivial⟩⟩⟩ rfl (zt_X7_options_p65 hL  h)
def zb_X7_options_p33 (E : zE) (L : Nat) (Q : kx_Rs → wS → Prop) (x1 : Option Nat) (w : wS) : Prop := zb_X7_options_p34 E L Q x1 0 w
theorem zt_X7_options_p33 {E : zE} {L : Nat} {Q : kx_Rs → wS → Prop} {x1 : Option Nat} {w : wS} (hL : 25 ≤ L) (h : zb_X7_options_p33 E L Q x1 w) : kzE E L kt_M276 33 [(0, .ref (w_adr E.2.1 6 0)), (1, va_rf (x1))] [] w Q := by
  unfold zb_X7_options_p33 at h
  refine kz_ic (M := kt_M276) 0 kX7_options_c1.2.2.2.2.2.2.2.1 rfl ?_
  exact kz_weak [(0, .ref (w_adr E.2.1 6 0)), (1, va_rf (x1))] ⟨rfl, ⟨rfl, trivial⟩⟩ rfl (zt_X7_options_p34 hL  h)
def zb_X7_options_p0 (E : zE) (L : Nat) (Q : kx_Rs → wS → Prop) (x1 : Option Nat) (w : wS) : Prop := (∃ p1, x1 = some p1 ∧ w_l w E.2.1 14 p1 ∧ zw E (L - 21) kt_M266 [.ref (w_adr E.2.1 6 0), va_rf (w_p w 14 p1 3)] w (wk0 (fun w2 => wle w w2 → (∃ p4, w_p w2 14 p1 3 = some p4 ∧ w_l w2 E.2.1 14 p4 ∧ (if w_i w2 14 p4 17 = 3 then zb_X7_options_p33 E L Q x1 w2 else (if ¬ w_i w2 14 p4 20 = 0 then zb_X7_options_p33 E L Q x1 w2 else zb_X7_options_p34 E L Q x1 1 w2)))) (fun e w => Q (.inr e) w)))
theorem zt_X7_options_p0 {E : zE} {L : Nat} {Q : kx_Rs → wS → Prop} {x1 : Option Nat} {w : wS} (hL : 25 ≤ L) (h : zb_X7_options_p0 E L Q x1 w) : kzE E L kt_M276 0 [(0, .ref (w_adr E.2.1 6 0)), (1, va_rf (x1))] [] w Q := by
  unfold zb_X7_options_p0 at h
  refine kz_aload_n (M := kt_M276) kX7_options_c0.1 rfl ?_
  refine kz_aload_nv (M := kt_M276) (x := x1) kX7_options_c0.2.1 rfl ?_
  obtain ⟨p1, hxp1, hlp1, h⟩ := h
  refine kz_nz0 (x := x1) hxp1 ?_
  refine kz_gfp (M := kt_M276) (c := 14) (o := p1) kX7_options_c0.2.2.1 wf_X7_34 (.inr (by exact hlp1)) ?_
  refine kz_cv0 (M := kt_M276) (c := 6) (o := 0) (As := [va_rf (w_p w 14 p1 3)]) (rest := []) kX7_options_c0.2.2.2.1 wl_X7_71 wMv_266 rfl (.inl rfl) rfl (Nat.le_trans (Nat.le_of_ble_eq_true rfl) hL) (by simp [lg_sl, w_cat, z_ci, z_cr, z_cl, z_cn, kt_M266]) (Nat.le_of_ble_eq_true rfl) h (fun w2 hle h => ?_) (fun _ _ _ h => kzx_no rfl h)
  have h := h hle
  have hlp1 := w_l_le hlp1 hle
  refine kz_aload_nv (M := kt_M276) (x := x1) kX7_options_c0.2.2.2.2.1 rfl ?_
  refine kz_nz0 (x := x1) hxp1 ?_
  refine kz_gfp (M := kt_M276) (c := 14) (o := p1) kX7_options_c0.2.2.2.2.2.1 wf_X7_34 (.inr (by exact hlp1)) ?_
  obtain ⟨p4, hxp4, hlp4, h⟩ := h
  refine kz_nz0 (x := w_p w2 14 p1 3) hxp4 ?_
  refine kz_gfi (M := kt_M276) (c := 14) (o := p4) kX7_options_c0.2.2.2.2.2.2.1 wf_X7_61 (.inr (by exact hlp4)) ?_
  refine kz_ic (M := kt_M276) 3 kX7_options_c0.2.2.2.2.2.2.2.1 rfl ?_
  refine kz_icmp_eq (M := kt_M276) kX7_options_c1.1 (t := 33) rfl h (fun h => ?_) (fun h => ?_)
  · skip
    exact kz_weak [(0, .ref (w_adr E.2.1 6 0)), (1, va_rf (x1))] ⟨rfl, ⟨rfl, trivial⟩⟩ rfl (zt_X7_options_p33 hL  h)
  · skip
    refine kz_aload_nv (M := kt_M276) (x := x1) kX7_options_c1.2.1 rfl ?_
    refine kz_nz0 (x := x1) hxp1 ?_
    refine kz_gfp (M := kt_M276) (c := 14) (o := p1) kX7_options_c1.2.2.1 wf_X7_34 (.inr (by exact hlp1)) ?_
    refine kz_nz0 (x := w_p w2 14 p1 3) hxp4 ?_
    refine kz_gfi (M := kt_M276) (c := 14) (o := p4) kX7_options_c1.2.2.2.1 wf_X7_64 (.inr (by exact hlp4)) ?_
    refine kz_if_ne (M := kt_M276) kX7_options_c1.2.2.2.2.1 (t := 33) rfl h (fun h => ?_) (fun h => ?_)
    · skip
      exact kz_weak [(0, .ref (w_adr E.2.1 6 0)), (1, va_rf (x1))] ⟨rfl, ⟨rfl, trivial⟩⟩ rfl (zt_X7_options_p33 hL  h)
    · skip
      refine kz_ic (M := kt_M276) 1 kX7_options_c1.2.2.2.2.2.1 rfl ?_
      refine kz_goto (M := kt_M276) kX7_options_c1.2.2.2.2.2.2.1 (t := 34) rfl ?_
      exact kz_weak [(0, .ref (w_adr E.2.1 6 0)), (1, va_rf (x1))] ⟨rfl, ⟨rfl, trivial⟩⟩ rfl (zt_X7_options_p34 hL  h)
def zL_X7_option_p95 (E : zE) (L : Nat) (Q : kx_Rs → wS → Prop) (x2 : Option Nat) (x5 : Int32) (w : wS) : Prop := kzE E L kt_M275 95 [(0, .ref (w_adr E.2.1 6 0)), (2, va_rf (x2)), (5, .int x5)] [] w Q
def zb_X7_option_p180 (E : zE) (L : Nat) (Q : kx_Rs → wS → Prop) (x2 : Option Nat) (w : wS) : Prop := (∃ p1, x2 = some p1 ∧ w_l (ws_i w 6 0 4 ((w_i w 6 0 4) + 1)) E.2.1 14 p1 ∧ (kx_inb (w_i w 6 0 4) (w_n w 6 0 1) = true ∧ Q (.inl none) (ws_a (ws_i w 6 0 4 ((w_i w 6 0 4) + 1)) 6 0 1 (w_i w 6 0 4).toNatClampNeg (w_i w 14 p1 19))))
theorem zt_X7_option_p180 {E : zE} {L : Nat} {Q : kx_Rs → wS → Prop} {x2 : Option Nat} {w : wS} (hL : 60 ≤ L) (h : zb_X7_option_p180 E L Q x2 w) : kzE E L kt_M275 180 [(0, .ref (w_adr E.2.1 6 0)), (2, va_rf (x2))] [] w Q := by
  unfold zb_X7_option_p180 at h
  refine kz_aload_n (M := kt_M275) kX7_option_c10.2.2.2.2.2.2.2.1 rfl ?_
  refine kz_gfa (M := kt_M275) (c := 6) (o := 0) kX7_option_c11.1 wf_X7_9 (.inl rfl) ?_
  refine kz_aload_n (M := kt_M275) kX7_option_c11.2.1 rfl ?_
  refine kz_dup (M := kt_M275) kX7_option_c11.2.2.1 rfl ?_
  refine kz_gfi (M := kt_M275) (c := 6) (o := 0) kX7_option_c11.2.2.2.1 wf_X7_218 (.inl rfl) ?_
  refine kz_dup_x1 (M := kt_M275) kX7_option_c11.2.2.2.2.1 ⟨rfl, rfl⟩ ?_
  refine kz_ic (M := kt_M275) 1 kX7_option_c11.2.2.2.2.2.1 rfl ?_
  refine kz_iadd (M := kt_M275) kX7_option_c11.2.2.2.2.2.2.1 ?_
  refine kz_pfi (M := kt_M275) (c := 6) (o := 0) kX7_option_c11.2.2.2.2.2.2.2.1 wq_X7_218 (.inl rfl) ?_
  refine kz_aload_nv (M := kt_M275) (x := x2) kX7_option_c12.1 rfl ?_
  obtain ⟨p1, hxp1, hlp1, h⟩ := h
  refine kz_nz0 (x := x2) hxp1 ?_
  refine kz_gfiR (M := kt_M275) (c := 14) (o := p1) (w_i w 14 p1 19) kX7_option_c12.2.1 wf_X7_74 (.inr (by exact hlp1)) (rd_i_i rfl) ?_
  refine kz_iastR (M := kt_M275) (n := w_n w 6 0 1) (c := 6) (o := 0) (k := 1) (a := (w_d w 6 0 1)) kX7_option_c12.2.2.1 ow_6_0_1 rfl ot_0 rd_n_i h (fun h => ?_)
  exact kz_ret (M := kt_M275) kX7_option_c12.2.2.2.1 rfl h
def zb_X7_option_p131 (E : zE) (L : Nat) (Q : kx_Rs → wS → Prop) (x2 : Option Nat) (x5 : Int32) (w : wS) : Prop := zL_X7_option_p95 E L Q x2 (x5 + 1) w
theorem zt_X7_option_p131 {E : zE} {L : Nat} {Q : kx_Rs → wS → Prop} {x2 : Option Nat} {x5 : Int32} {w : wS} (hL : 60 ≤ L) (h : zb_X7_option_p131 E L Q x2 x5 w) : kzE E L kt_M275 131 [(0, .ref (w_adr E.2.1 6 0)), (2, va_rf (x2)), (5, .int x5)] [] w Q := by
  unfold zb_X7_option_p131 at h
  refine kz_inc (M := kt_M275) [(0, .ref (w_adr E.2.1 6 0)), (2, va_rf (x2))] kX7_option_c7.2.2.2.2.2.2.1 rfl (Nat.le_of_ble_eq_true rfl) ⟨⟨rfl, rfl, .inl rfl⟩, ⟨⟨rfl, rfl, .inl rfl⟩, trivial⟩⟩ rfl ?_
  refine kz_goto (M := kt_M275) kX7_option_c7.2.2.2.2.2.2.2.1 (t := 95) rfl ?_
  exact kz_weak [(0, .ref (w_adr E.2.1 6 0)), (2, va_rf (x2)), (5, .int (x5 + 1))] ⟨rfl, ⟨rfl, ⟨rfl, trivial⟩⟩⟩ rfl h
def zb_X7_option_p95 (E : zE) (L : Nat) (Q : kx_Rs → wS → Prop) (x2 : Option Nat) (x5 : Int32) (w : wS) : Prop := (if w_i w 6 0 4 ≤ x5 then (if ¬ w_i w 6 0 4 = (Int32.ofNat (w_n w 6 0 1)) then zb_X7_option_p180 E L Q x2 w else ((¬ ((2 * (w_i w 6 0 4))) < 0 ∧ ((2 * (w_i w 6 0 4))).toNatClampNeg * 4 ≤ 536870912 ∧ 1 ≤ w_C w ∧ ((2 * (w_i w 6 0 4))).toNatClampNeg ≤ w_S w) ∧ ((w_o (ws_new w 0 ((2 * (w_i w 6 0 4))).toNatClampNeg) (w_z w) = some (99, (w_z w), 0) ∧ w_t (ws_new w 0 ((2 * (w_i w 6 0 4))).toNatClampNeg) (w_z w) = 0) ∧ (((¬ (0 : Int32) < 0 ∧ ¬ (0 : Int32) < 0 ∧ ¬ (w_i (ws_new w 0 ((2 * (w_i w 6 0 4))).toNatClampNeg) 6 0 4) < 0) ∧ (0 : Int32).toNatClampNeg + (w_i (ws_new w 0 ((2 * (w_i w 6 0 4))).toNatClampNeg) 6 0 4).toNatClampNeg ≤ w_n (ws_new w 0 ((2 * (w_i w 6 0 4))).toNatClampNeg) 6 0 1 ∧ (0 : Int32).toNatClampNeg + (w_i (ws_new w 0 ((2 * (w_i w 6 0 4))).toNatClampNeg) 6 0 4).toNatClampNeg ≤ w_n (ws_new w 0 ((2 * (w_i w 6 0 4))).toNatClampNeg) 99 (w_z w) 0 ∧ ∀ i, i < (w_i (ws_new w 0 ((2 * (w_i w 6 0 4))).toNatClampNeg) 6 0 4).toNatClampNeg → fits .int (.int (w_a (ws_new w 0 ((2 * (w_i w 6 0 4))).toNatClampNeg) 6 0 1 ((0 : Int32).toNatClampNeg + i))) = true) ∧ ((w_o (ws_A (ws_new w 0 ((2 * (w_i w 6 0 4))).toNatClampNeg) 99 (w_z w) 0 (va_cpy (w_a (ws_new w 0 ((2 * (w_i w 6 0 4))).toNatClampNeg) 6 0 1) (w_a (ws_new w 0 ((2 * (w_i w 6 0 4))).toNatClampNeg) 99 (w_z w) 0) (0 : Int32).toNatClampNeg (0 : Int32).toNatClampNeg (w_i (ws_new w 0 ((2 * (w_i w 6 0 4))).toNatClampNeg) 6 0 4).toNatClampNeg)) (w_z w) = some (99, (w_z w), 0) ∧ w_t (ws_A (ws_new w 0 ((2 * (w_i w 6 0 4))).toNatClampNeg) 99 (w_z w) 0 (va_cpy (w_a (ws_new w 0 ((2 * (w_i w 6 0 4))).toNatClampNeg) 6 0 1) (w_a (ws_new w 0 ((2 * (w_i w 6 0 4))).toNatClampNeg) 99 (w_z w) 0) (0 : Int32).toNatClampNeg (0 : Int32).toNatClampNeg (w_i (ws_new w 0 ((2 * (w_i w 6 0 4))).toNatClampNeg) 6 0 4).toNatClampNeg)) (w_z w) = 0) ∧ zb_X7_option_p180 E L Q x2 (ws_put (ws_A (ws_new w 0 ((2 * (w_i w 6 0 4))).toNatClampNeg) 99 (w_z w) 0 (va_cpy (w_a (ws_new w 0 ((2 * (w_i w 6 0 4))).toNatClampNeg) 6 0 1) (w_a (ws_new w 0 ((2 * (w_i w 6 0 4))).toNatClampNeg) 99 (w_z w) 0) (0 : Int32).toNatClampNeg (0 : Int32).toNatClampNeg (w_i (ws_new w 0 ((2 * (w_i w 6 0 4))).toNatClampNeg) 6 0 4).toNatClampNeg)) 6 0 1 (w_z w))))))) else (kx_inb x5 (w_n w 6 0 1) = true ∧ (∃ p1, x2 = some p1 ∧ w_l w E.2.1 14 p1 ∧ (if ¬ w_a w 6 0 1 (x5).toNatClampNeg = w_i w 14 p1 19 then zb_X7_option_p131 E L Q x2 x5 w else zw E (L - 22) kt_M56 [.ref (w_adr E.2.1 2 0), .int 10, .int (w_i w 14 p1 2)] w (wk0 (fun w2 => wle w w2 → zb_X7_option_p131 E L Q x2 x5 w2) (fun e w => Q (.inr e) w))))))
theorem zt_X7_option_p95 {E : zE} {L : Nat} {Q : kx_Rs → wS → Prop} {x2 : Option Nat} {x5 : Int32} {w : wS} (hL : 60 ≤ L) (h : zb_X7_option_p95 E L Q x2 x5 w) : kzE E L kt_M275 95 [(0, .ref (w_adr E.2.1 6 0)), (2, va_rf (x2)), (5, .int x5)] [] w Q := by
  unfold zb_X7_option_p95 at h
  refine kz_iload (M := kt_M275) kX7_option_c5.2.2.2.2.2.1 rfl ?_
  refine kz_aload_n (M := kt_M275) kX7_option_c5.2.2.2.2.2.2.1 rfl ?_
  refine kz_gfi (M := kt_M275) (c := 6) (o := 0) kX7_option_c5.2.2.2.2.2.2.2.1 wf_X7_218 (.inl rfl) ?_
  refine kz_icmp_ge (M := kt_M275) kX7_option_c6.1 (t := 137) rfl h (fun h => ?_) (fun h => ?_)
  · skip
    refine kz_aload_n (M := kt_M275) kX7_option_c8.1 rfl ?_
    refine kz_gfi (M := kt_M275) (c := 6) (o := 0) kX7_option_c8.2.1 wf_X7_218 (.inl rfl) ?_
    refine kz_aload_n (M := kt_M275) kX7_option_c8.2.2.1 rfl ?_
    refine kz_gfa (M := kt_M275) (c := 6) (o := 0) kX7_option_c8.2.2.2.1 wf_X7_9 (.inl rfl) ?_
    refine kz_alen (M := kt_M275) (c := 6) (o := 0) (k := 1) (a := (w_d w 6 0 1)) (τ := 0) kX7_option_c8.2.2.2.2.1 ow_6_0_1 oa_6_0_1 (Nat.le_of_ble_eq_true rfl) ?_
    refine kz_icmp_ne (M := kt_M275) kX7_option_c8.2.2.2.2.2.1 (t := 180) rfl h (fun h => ?_) (fun h => ?_)
    · skip
      exact kz_weak [(0, .ref (w_adr E.2.1 6 0)), (2, va_rf (x2))] ⟨rfl, ⟨rfl, trivial⟩⟩ rfl (zt_X7_option_p180 hL  h)
    · skip
      refine kz_ic (M := kt_M275) 2 kX7_option_c8.2.2.2.2.2.2.1 rfl ?_
      refine kz_aload_n (M := kt_M275) kX7_option_c8.2.2.2.2.2.2.2.1 rfl ?_
      refine kz_gfi (M := kt_M275) (c := 6) (o := 0) kX7_option_c9.1 wf_X7_218 (.inl rfl) ?_
      refine kz_imul (M := kt_M275) kX7_option_c9.2.1 ?_
      refine kz_newi (M := kt_M275) kX7_option_c9.2.2.1 ot_f0 ot_0 ot_ai h (fun h => ?_)
      refine kz_sta (M := kt_M275) [(0, .ref (w_adr E.2.1 6 0)), (2, va_rf (x2))] kX7_option_c9.2.2.2.1 (Nat.le_of_ble_eq_true rfl) ⟨⟨rfl, rfl, .inl rfl⟩, ⟨⟨rfl, rfl, .inl rfl⟩, trivial⟩⟩ rfl ?_
      refine kz_aload_n (M := kt_M275) kX7_option_c9.2.2.2.2.1 rfl ?_
      refine kz_gfa (M := kt_M275) (c := 6) (o := 0) kX7_option_c9.2.2.2.2.2.1 wf_X7_9 (.inl rfl) ?_
      refine kz_ic (M := kt_M275) 0 kX7_option_c9.2.2.2.2.2.2.1 rfl ?_
      refine kz_aload (M := kt_M275) kX7_option_c9.2.2.2.2.2.2.2.1 rfl ?_
      refine kz_ic (M := kt_M275) 0 kX7_option_c10.1 rfl ?_
      refine kz_aload_n (M := kt_M275) kX7_option_c10.2.1 rfl ?_
      refine kz_gfi (M := kt_M275) (c := 6) (o := 0) kX7_option_c10.2.2.1 wf_X7_218 (.inl rfl) ?_
      obtain ⟨h0, h⟩ := h
      refine kz_cpyi (M := kt_M275) (τ := 0) (ty := .int) (c0 := 6) (o0 := 0) (k0 := 1) (c := 99) (o := (w_z w)) (k := 0) (a0 := (w_d (ws_new w 0 ((2 * (w_i w 6 0 4))).toNatClampNeg) 6 0 1)) (a := (w_z w)) kX7_option_c10.2.2.2.1 (zac_X7_225) (by decide) rfl rfl ow_6_0_1 oa_6_0_1 (.inl ⟨rfl, rfl, h0.1, h0.2⟩) rfl (Nat.le_trans (by simp [kx_cat, w_cat, zac_w, z_ci, z_cr, z_cl, z_cn]) hL) h (fun h => ?_)
      refine kz_aload_n (M := kt_M275) kX7_option_c10.2.2.2.2.1 rfl ?_
      refine kz_aload (M := kt_M275) kX7_option_c10.2.2.2.2.2.1 rfl ?_
      refine kz_pfa (M := kt_M275) (c := 6) (o := 0) (τ := 0) kX7_option_c10.2.2.2.2.2.2.1 wq_X7_9 (.inl rfl) rfl h (fun h => ?_)
      exact kz_weak [(0, .ref (w_adr E.2.1 6 0)), (2, va_rf (x2))] ⟨rfl, ⟨rfl, trivial⟩⟩ rfl (zt_X7_option_p180 hL  h)
  · skip
    refine kz_aload_n (M := kt_M275) kX7_option_c6.2.1 rfl ?_
    refine kz_gfa (M := kt_M275) (c := 6) (o := 0) kX7_option_c6.2.2.1 wf_X7_9 (.inl rfl) ?_
    refine kz_iload (M := kt_M275) kX7_option_c6.2.2.2.1 rfl ?_
    refine kz_iald (M := kt_M275) (c := 6) (o := 0) (k := 1) (a := (w_d w 6 0 1)) kX7_option_c6.2.2.2.2.1 ow_6_0_1 oa_6_0_1 ot_0 h (fun h => ?_)
    refine kz_aload_nv (M := kt_M275) (x := x2) kX7_option_c6.2.2.2.2.2.1 rfl ?_
    obtain ⟨p1, hxp1, hlp1, h⟩ := h
    refine kz_nz0 (x := x2) hxp1 ?_
    refine kz_gfi (M := kt_M275) (c := 14) (o := p1) kX7_option_c6.2.2.2.2.2.2.1 wf_X7_74 (.inr (by exact hlp1)) ?_
    refine kz_icmp_ne (M := kt_M275) kX7_option_c6.2.2.2.2.2.2.2.1 (t := 131) rfl h (fun h => ?_) (fun h => ?_)
    · skip
      exact kz_weak [(0, .ref (w_adr E.2.1 6 0)), (2, va_rf (x2)), (5, .int x5)] ⟨rfl, ⟨rfl, ⟨rfl, trivial⟩⟩⟩ rfl (zt_X7_option_p131 hL  h)
    · skip
      refine kz_aload_n (M := kt_M275) kX7_option_c7.1 rfl ?_
      refine kz_gfc (M := kt_M275) (x := 8) (c := 6) (o := 0) kX7_option_c7.2.1 wf_X7_15 (.inl rfl) ?_
      refine kz_bi (M := kt_M275) 10 kX7_option_c7.2.2.1 rfl ?_
      refine kz_aload_nv (M := kt_M275) (x := x2) kX7_option_c7.2.2.2.1 rfl ?_
      refine kz_nz0 (x := x2) hxp1 ?_
      refine kz_gfi (M := kt_M275) (c := 14) (o := p1) kX7_option_c7.2.2.2.2.1 wf_X7_52 (.inr (by exact hlp1)) ?_
      refine kz_cv0 (M := kt_M275) (c := 2) (o := 0) (As := [.int 10, .int (w_i w 14 p1 2)]) (rest := []) kX7_option_c7.2.2.2.2.2.1 wl_X7_55 wMv_56 rfl (.inl rfl) rfl (Nat.le_trans (Nat.le_of_ble_eq_true rfl) hL) (Nat.le_of_ble_eq_true rfl) (Nat.le_of_ble_eq_true rfl) h (fun w2 hle h => ?_) (fun _ _ _ h => kzx_no rfl h)
      have h := h hle
      have hlp1 := w_l_le hlp1 hle
      exact kz_weak [(0, .ref (w_adr E.2.1 6 0)), (2, va_rf (x2)), (5, .int x5)] ⟨rfl, ⟨rfl, ⟨rfl, trivial⟩⟩⟩ rfl (zt_X7_option_p131 hL  h)
def zb_X7_option_p70 (E : zE) (L : Nat) (Q : kx_Rs → wS → Prop) (x2 : Option Nat) (x4 : Int32) (w : wS) : Prop := (∃ p1, x2 = some p1 ∧ w_l w E.2.1 14 p1 ∧ (if ¬ w_i w 14 p1 21 = 0 then zL_X7_option_p95 E L Q x2 x4 w else zw E (L - 22) kt_M56 [.ref (w_adr E.2.1 2 0), .int 9, .int (w_i w 14 p1 2)] w (wk0 (fun w2 => wle w w2 → Q (.inl none) w2) (fun e w => Q (.inr e) w))))
theorem zt_X7_option_p70 {E : zE} {L : Nat} {Q : kx_Rs → wS → Prop} {x2 : Option Nat} {x4 : Int32} {w : wS} (hL : 60 ≤ L) (h : zb_X7_option_p70 E L Q x2 x4 w) : kzE E L kt_M275 70 [(0, .ref (w_adr E.2.1 6 0)), (2, va_rf (x2)), (4, .int x4)] [] w Q := by
  unfold zb_X7_option_p70 at h
  refine kz_aload_nv (M := kt_M275) (x := x2) kX7_option_c4.2.1 rfl ?_
  obtain ⟨p1, hxp1, hlp1, h⟩ := h
  refine kz_nz0 (x := x2) hxp1 ?_
  refine kz_gfi (M := kt_M275) (c := 14) (o := p1) kX7_option_c4.2.2.1 wf_X7_68 (.inr (by exact hlp1)) ?_
  refine kz_if_ne (M := kt_M275) kX7_option_c4.2.2.2.1 (t := 91) rfl h (fun h => ?_) (fun h => ?_)
  · skip
    refine kz_iload (M := kt_M275) kX7_option_c5.2.2.2.1 rfl ?_
    refine kz_sti (M := kt_M275) [(0, .ref (w_adr E.2.1 6 0)), (2, va_rf (x2))] kX7_option_c5.2.2.2.2.1 (Nat.le_of_ble_eq_true rfl) ⟨⟨rfl, rfl, .inl rfl⟩, ⟨⟨rfl, rfl, .inl rfl⟩, trivial⟩⟩ rfl ?_
    exact kz_weak [(0, .ref (w_adr E.2.1 6 0)), (2, va_rf (x2)), (5, .int x4)] ⟨rfl, ⟨rfl, ⟨rfl, trivial⟩⟩⟩ rfl h
  · skip
    refine kz_aload_n (M := kt_M275) kX7_option_c4.2.2.2.2.1 rfl ?_
    refine kz_gfc (M := kt_M275) (x := 8) (c := 6) (o := 0) kX7_option_c4.2.2.2.2.2.1 wf_X7_15 (.inl rfl) ?_
    refine kz_bi (M := kt_M275) 9 kX7_option_c4.2.2.2.2.2.2.1 rfl ?_
    refine kz_aload_nv (M := kt_M275) (x := x2) kX7_option_c4.2.2.2.2.2.2.2.1 rfl ?_
    refine kz_nz0 (x := x2) hxp1 ?_
    refine kz_gfi (M := kt_M275) (c := 14) (o := p1) kX7_option_c5.1 wf_X7_52 (.inr (by exact hlp1)) ?_
    refine kz_cv0 (M := kt_M275) (c := 2) (o := 0) (As := [.int 9, .int (w_i w 14 p1 2)]) (rest := []) kX7_option_c5.2.1 wl_X7_55 wMv_56 rfl (.inl rfl) rfl (Nat.le_trans (Nat.le_of_ble_eq_true rfl) hL) (Nat.le_of_ble_eq_true rfl) (Nat.le_of_ble_eq_true rfl) h (fun w2 hle h => ?_) (fun _ _ _ h => kzx_no rfl h)
    have h := h hle
    have hlp1 := w_l_le hlp1 hle
    exact kz_ret (M := kt_M275) kX7_option_c5.2.2.1 rfl h
def zb_X7_option_p56 (E : zE) (L : Nat) (Q : kx_Rs → wS → Prop) (x2 : Option Nat) (w : wS) : Prop := (∃ p1, x2 = some p1 ∧ w_l w E.2.1 14 p1 ∧ zw E (L - 22) kt_M56 [.ref (w_adr E.2.1 2 0), .int 7, .int (w_i w 14 p1 2)] w (wk0 (fun w2 => wle w w2 → Q (.inl none) w2) (fun e w => Q (.inr e) w)))
theorem zt_X7_option_p56 {E : zE} {L : Nat} {Q : kx_Rs → wS → Prop} {x2 : Option Nat} {w : wS} (hL : 60 ≤ L) (h : zb_X7_option_p56 E L Q x2 w) : kzE E L kt_M275 56 [(0, .ref (w_adr E.2.1 6 0)), (2, va_rf (x2))] [] w Q := by
  unfold zb_X7_option_p56 at h
  refine kz_aload_n (M := kt_M275) kX7_option_c3.2.2.1 rfl ?_
  refine kz_gfc (M := kt_M275) (x := 8) (c := 6) (o := 0) kX7_option_c3.2.2.2.1 wf_X7_15 (.inl rfl) ?_
  refine kz_bi (M := kt_M275) 7 kX7_option_c3.2.2.2.2.1 rfl ?_
  refine kz_aload_nv (M := kt_M275) (x := x2) kX7_option_c3.2.2.2.2.2.1 rfl ?_
  obtain ⟨p1, hxp1, hlp1, h⟩ := h
  refine kz_nz0 (x := x2) hxp1 ?_
  refine kz_gfi (M := kt_M275) (c := 14) (o := p1) kX7_option_c3.2.2.2.2.2.2.1 wf_X7_52 (.inr (by exact hlp1)) ?_
  refine kz_cv0 (M := kt_M275) (c := 2) (o := 0) (As := [.int 7, .int (w_i w 14 p1 2)]) (rest := []) kX7_option_c3.2.2.2.2.2.2.2.1 wl_X7_55 wMv_56 rfl (.inl rfl) rfl (Nat.le_trans (Nat.le_of_ble_eq_true rfl) hL) (Nat.le_of_ble_eq_true rfl) (Nat.le_of_ble_eq_true rfl) h (fun w2 hle h => ?_) (fun _ _ _ h => kzx_no rfl h)
  have h := h hle
  have hlp1 := w_l_le hlp1 hle
  exact kz_ret (M := kt_M275) kX7_option_c4.1 rfl h
def zb_X7_option_p0 (E : zE) (L : Nat) (Q : kx_Rs → wS → Prop) (x1 : Option Nat) (x2 : Option Nat) (x3 : Int32) (x4 : Int32) (w : wS) : Prop := zw E (L - 21) kt_M266 [.ref (w_adr E.2.1 6 0), va_rf (x2)] w (wk0 (fun w1 => wle w w1 → (∃ p3, x2 = some p3 ∧ w_l w1 E.2.1 14 p3 ∧ (if ¬ w_i w1 14 p3 17 = 0 then (if ¬ w_i w1 14 p3 20 = 0 then zb_X7_option_p56 E L Q x2 w1 else (if w_i w1 14 p3 17 = 3 then zb_X7_option_p56 E L Q x2 w1 else (if x3 = 0 then zb_X7_option_p70 E L Q x2 x4 w1 else (∃ p4, x1 = some p4 ∧ w_l w1 E.2.1 14 p4 ∧ (∃ p5, w_p w1 14 p4 3 = some p5 ∧ w_l w1 E.2.1 14 p5 ∧ (if w_i w1 14 p5 17 = 0 then zb_X7_option_p70 E L Q x2 x4 w1 else (if w_i w1 14 p3 17 = w_i w1 14 p5 17 then zb_X7_option_p70 E L Q x2 x4 w1 else zb_X7_option_p56 E L Q x2 w1))))))) else Q (.inl none) w1))) (fun e w => Q (.inr e) w))
theorem zt_X7_option_p0 {E : zE} {L : Nat} {Q : kx_Rs → wS → Prop} {x1 : Option Nat} {x2 : Option Nat} {x3 : Int32} {x4 : Int32} {w : wS} (hL : 60 ≤ L) (h : zb_X7_option_p0 E L Q x1 x2 x3 x4 w) : kzE E L kt_M275 0 [(0, .ref (w_adr E.2.1 6 0)), (1, va_rf (x1)), (2, va_rf (x2)), (3, .int x3), (4, .int x4)] [] w Q := by
  unfold zb_X7_option_p0 at h
  refine kz_aload_n (M := kt_M275) kX7_option_c0.1 rfl ?_
  refine kz_aload_nv (M := kt_M275) (x := x2) kX7_option_c0.2.1 rfl ?_
  refine kz_cv0 (M := kt_M275) (c := 6) (o := 0) (As := [va_rf (x2)]) (rest := []) kX7_option_c0.2.2.1 wl_X7_71 wMv_266 rfl (.inl rfl) rfl (Nat.le_trans (Nat.le_of_ble_eq_true rfl) hL) (by simp [lg_sl, w_cat, z_ci, z_cr, z_cl, z_cn, kt_M266]) (Nat.le_of_ble_eq_true rfl) h (fun w1 hle h => ?_) (fun _ _ _ h => kzx_no rfl h)
  have h := h hle
  refine kz_aload_nv (M := kt_M275) (x := x2) kX7_option_c0.2.2.2.1 rfl ?_
  obtain ⟨p3, hxp3, hlp3, h⟩ := h
  refine kz_nz0 (x := x2) hxp3 ?_
  refine kz_gfi (M := kt_M275) (c := 14) (o := p3) kX7_option_c0.2.2.2.2.1 wf_X7_61 (.inr (by exact hlp3)) ?_
  refine kz_if_ne (M := kt_M275) kX7_option_c0.2.2.2.2.2.1 (t := 13) rfl h (fun h => ?_) (fun h => ?_)
  · skip
    refine kz_aload_nv (M := kt_M275) (x := x2) kX7_option_c0.2.2.2.2.2.2.2.1 rfl ?_
    refine kz_nz0 (x := x2) hxp3 ?_
    refine kz_gfi (M := kt_M275) (c := 14) (o := p3) kX7_option_c1.1 wf_X7_64 (.inr (by exact hlp3)) ?_
    refine kz_if_ne (M := kt_M275) kX7_option_c1.2.1 (t := 56) rfl h (fun h => ?_) (fun h => ?_)
    · skip
      exact kz_weak [(0, .ref (w_adr E.2.1 6 0)), (2, va_rf (x2))] ⟨rfl, ⟨rfl, trivial⟩⟩ rfl (zt_X7_option_p56 hL  h)
    · skip
      refine kz_aload_nv (M := kt_M275) (x := x2) kX7_option_c1.2.2.1 rfl ?_
      refine kz_nz0 (x := x2) hxp3 ?_
      refine kz_gfi (M := kt_M275) (c := 14) (o := p3) kX7_option_c1.2.2.2.1 wf_X7_61 (.inr (by exact hlp3)) ?_
      refine kz_ic (M := kt_M275) 3 kX7_option_c1.2.2.2.2.1 rfl ?_
      refine kz_icmp_eq (M := kt_M275) kX7_option_c1.2.2.2.2.2.1 (t := 56) rfl h (fun h => ?_) (fun h => ?_)
      · skip
        exact kz_weak [(0, .ref (w_adr E.2.1 6 0)), (2, va_rf (x2))] ⟨rfl, ⟨rfl, trivial⟩⟩ rfl (zt_X7_option_p56 hL  h)
      · skip
        refine kz_iload_n (M := kt_M275) kX7_option_c1.2.2.2.2.2.2.1 rfl ?_
        refine kz_if_eq (M := kt_M275) kX7_option_c1.2.2.2.2.2.2.2.1 (t := 70) rfl h (fun h => ?_) (fun h => ?_)
        · skip
          exact kz_weak [(0, .ref (w_adr E.2.1 6 0)), (2, va_rf (x2)), (4, .int x4)] ⟨rfl, ⟨rfl, ⟨rfl, trivial⟩⟩⟩ rfl (zt_X7_option_p70 hL  h)
        · skip
          refine kz_aload_nv (M := kt_M275) (x := x1) kX7_option_c2.1 rfl ?_
          obtain ⟨p4, hxp4, hlp4, h⟩ := h
          refine kz_nz0 (x := x1) hxp4 ?_
          refine kz_gfp (M := kt_M275) (c := 14) (o := p4) kX7_option_c2.2.1 wf_X7_34 (.inr (by exact hlp4)) ?_
          obtain ⟨p5, hxp5, hlp5, h⟩ := h
          refine kz_nz0 (x := w_p w1 14 p4 3) hxp5 ?_
          refine kz_gfi (M := kt_M275) (c := 14) (o := p5) kX7_option_c2.2.2.1 wf_X7_61 (.inr (by exact hlp5)) ?_
          refine kz_if_eq (M := kt_M275) kX7_option_c2.2.2.2.1 (t := 70) rfl h (fun h => ?_) (fun h => ?_)
          · skip
            exact kz_weak [(0, .ref (w_adr E.2.1 6 0)), (2, va_rf (x2)), (4, .int x4)] ⟨rfl, ⟨rfl, ⟨rfl, trivial⟩⟩⟩ rfl (zt_X7_option_p70 hL  h)
          · skip
            refine kz_aload_nv (M := kt_M275) (x := x2) kX7_option_c2.2.2.2.2.1 rfl ?_
            refine kz_nz0 (x := x2) hxp3 ?_
            refine kz_gfi (M := kt_M275) (c := 14) (o := p3) kX7_option_c2.2.2.2.2.2.1 wf_X7_61 (.inr (by exact hlp3)) ?_
            refine kz_aload_nv (M := kt_M275) (x := x1) kX7_option_c2.2.2.2.2.2.2.1 rfl ?_
            refine kz_nz0 (x := x1) hxp4 ?_
            refine kz_gfp (M := kt_M275) (c := 14) (o := p4) kX7_option_c2.2.2.2.2.2.2.2.1 wf_X7_34 (.inr (by exact hlp4)) ?_
            refine kz_nz0 (x := w_p w1 14 p4 3) hxp5 ?_
            refine kz_gfi (M := kt_M275) (c := 14) (o := p5) kX7_option_c3.1 wf_X7_61 (.inr (by exact hlp5)) ?_
            refine kz_icmp_eq (M := kt_M275) kX7_option_c3.2.1 (t := 70) rfl h (fun h => ?_) (fun h => ?_)
            · skip
              exact kz_weak [(0, .ref (w_adr E.2.1 6 0)), (2, va_rf (x2)), (4, .int x4)] ⟨rfl, ⟨rfl, ⟨rfl, trivial⟩⟩⟩ rfl (zt_X7_option_p70 hL  h)
            · skip
              exact kz_weak [(0, .ref (w_adr E.2.1 6 0)), (2, va_rf (x2))] ⟨rfl, ⟨rfl, trivial⟩⟩ rfl (zt_X7_option_p56 hL  h)
  · skip
    exact kz_ret (M := kt_M275) kX7_option_c0.2.2.2.2.2.2.1 rfl h
def zL_X7_alternation_p20 (E : zE) (L : Nat) (Q : kx_Rs → wS → Prop) (x2 : Int64) (x4 : Option Nat) (w : wS) : Prop := kzE E L kt_M257 20 [(0, .ref (w_adr E.2.1 6 0)), (2, .long (x2)), (4, va_rf (x4))] [] w Q
def zb_X7_alternation_p79 (E : zE) (L : Nat) (Q : kx_Rs → wS → Prop) (x2 : Int64) (x4 : Option Nat) (w : wS) : Prop := (∃ p1, x4 = some p1 ∧ w_l w E.2.1 14 p1 ∧ zL_X7_alternation_p20 E L Q x2 (w_p w 14 p1 7) w)
theorem zt_X7_alternation_p79 {E : zE} {L : Nat} {Q : kx_Rs → wS → Prop} {x2 : Int64} {x4 : Option Nat} {w : wS} (hL : 24 ≤ L) (h : zb_X7_alternation_p79 E L Q x2 x4 w) : kzE E L kt_M257 79 [(0, .ref (w_adr E.2.1 6 0)), (2, .long (x2)), (4, va_rf (x4))] [] w Q := by
  unfold zb_X7_alternation_p79 at h
  refine kz_aloadv (M := kt_M257) (x := x4) kX7_alternation_c4.2.2.2.2.1 rfl ?_
  obtain ⟨p1, hxp1, hlp1, h⟩ := h
  refine kz_nz0 (x := x4) hxp1 ?_
  refine kz_gfp (M := kt_M257) (c := 14) (o := p1) kX7_alternation_c4.2.2.2.2.2.1 wf_X7_43 (.inr (by exact hlp1)) ?_
  refine kz_stv (M := kt_M257) (x := w_p w 14 p1 7) [(0, .ref (w_adr E.2.1 6 0)), (2, .long (x2))] kX7_alternation_c4.2.2.2.2.2.2.1 (Nat.le_of_ble_eq_true rfl) ⟨⟨rfl, rfl, .inl rfl⟩, ⟨⟨rfl, rfl, .inl rfl⟩, trivial⟩⟩ rfl ?_
  refine kz_goto (M := kt_M257) kX7_alternation_c4.2.2.2.2.2.2.2.1 (t := 20) rfl ?_
  exact kz_weak [(0, .ref (w_adr E.2.1 6 0)), (2, .long (x2)), (4, va_rf (w_p w 14 p1 7))] ⟨rfl, ⟨rfl, ⟨rfl, trivial⟩⟩⟩ rfl h
def zb_X7_alternation_p62 (E : zE) (L : Nat) (Q : kx_Rs → wS → Prop) (x2 : Int64) (x4 : Option Nat) (w : wS) : Prop := (∃ p1, x4 = some p1 ∧ w_l w E.2.1 14 p1 ∧ (if (w_p w 14 p1 6) = none then zb_X7_alternation_p79 E L Q x2 x4 w else zw E (L - 22) kt_M280 [.ref (w_adr E.2.1 6 0), va_rf (w_p w 14 p1 6)] w (wk0 (fun w2 => wle w w2 → zb_X7_alternation_p79 E L Q x2 x4 w2) (fun e w => Q (.inr e) w))))
theorem zt_X7_alternation_p62 {E : zE} {L : Nat} {Q : kx_Rs → wS → Prop} {x2 : Int64} {x4 : Option Nat} {w : wS} (hL : 24 ≤ L) (h : zb_X7_alternation_p62 E L Q x2 x4 w) : kzE E L kt_M257 62 [(0, .ref (w_adr E.2.1 6 0)), (2, .long (x2)), (4, va_rf (x4))] [] w Q := by
  unfold zb_X7_alternation_p62 at h
  refine kz_aloadv (M := kt_M257) (x := x4) kX7_alternation_c3.2.2.2.2.2.1 rfl ?_
  obtain ⟨p1, hxp1, hlp1, h⟩ := h
  refine kz_nz0 (x := x4) hxp1 ?_
  refine kz_gfp (M := kt_M257) (c := 14) (o := p1) kX7_alternation_c3.2.2.2.2.2.2.1 wf_X7_164 (.inr (by exact hlp1)) ?_
  refine kz_ifnull (M := kt_M257) (x := w_p w 14 p1 6) kX7_alternation_c3.2.2.2.2.2.2.2.1 (t := 79) rfl h (fun h => ?_) (fun h => ?_)
  · skip
    exact kz_weak [(0, .ref (w_adr E.2.1 6 0)), (2, .long (x2)), (4, va_rf (x4))] ⟨rfl, ⟨rfl, ⟨rfl, trivial⟩⟩⟩ rfl (zt_X7_alternation_p79 hL  h)
  · skip
    refine kz_aload_n (M := kt_M257) kX7_alternation_c4.1 rfl ?_
    refine kz_aloadv (M := kt_M257) (x := x4) kX7_alternation_c4.2.1 rfl ?_
    refine kz_nz0 (x := x4) hxp1 ?_
    refine kz_gfp (M := kt_M257) (c := 14) (o := p1) kX7_alternation_c4.2.2.1 wf_X7_164 (.inr (by exact hlp1)) ?_
    refine kz_cv0 (M := kt_M257) (c := 6) (o := 0) (As := [va_rf (w_p w 14 p1 6)]) (rest := []) kX7_alternation_c4.2.2.2.1 wl_X7_30 wMv_280 rfl (.inl rfl) rfl (Nat.le_trans (Nat.le_of_ble_eq_true rfl) hL) (by simp [lg_sl, w_cat, z_ci, z_cr, z_cl, z_cn, kt_M280]) (Nat.le_of_ble_eq_true rfl) h (fun w2 hle h => ?_) (fun _ _ _ h => kzx_no rfl h)
    have h := h hle
    have hlp1 := w_l_le hlp1 hle
    exact kz_weak [(0, .ref (w_adr E.2.1 6 0)), (2, .long (x2)), (4, va_rf (x4))] ⟨rfl, ⟨rfl, ⟨rfl, trivial⟩⟩⟩ rfl (zt_X7_alternation_p79 hL  h)
def zb_X7_alternation_p43 (E : zE) (L : Nat) (Q : kx_Rs → wS → Prop) (x2 : Int64) (x4 : Option Nat) (w : wS) : Prop := (∃ p1, x4 = some p1 ∧ w_l w E.2.1 14 p1 ∧ (if w_i w 14 p1 10 ≤ 0 then zb_X7_alternation_p62 E L Q x2 x4 w else zw E (L - 24) kt_M271 [.ref (w_adr E.2.1 6 0), va_rf (x4), .int (w_i w 14 p1 10)] w (wk0 (fun w2 => wle w w2 → zb_X7_alternation_p62 E L Q x2 x4 w2) (fun e w => Q (.inr e) w))))
theorem zt_X7_alternation_p43 {E : zE} {L : Nat} {Q : kx_Rs → wS → Prop} {x2 : Int64} {x4 : Option Nat} {w : wS} (hL : 24 ≤ L) (h : zb_X7_alternation_p43 E L Q x2 x4 w) : kzE E L kt_M257 43 [(0, .ref (w_adr E.2.1 6 0)), (2, .long (x2)), (4, va_rf (x4))] [] w Q := by
  unfold zb_X7_alternation_p43 at h
  refine kz_aloadv (M := kt_M257) (x := x4) kX7_alternation_c2.2.2.2.2.2.1 rfl ?_
  obtain ⟨p1, hxp1, hlp1, h⟩ := h
  refine kz_nz0 (x := x4) hxp1 ?_
  refine kz_gfi (M := kt_M257) (c := 14) (o := p1) kX7_alternation_c2.2.2.2.2.2.2.1 wf_X7_231 (.inr (by exact hlp1)) ?_
  refine kz_if_le (M := kt_M257) kX7_alternation_c2.2.2.2.2.2.2.2.1 (t := 62) rfl h (fun h => ?_) (fun h => ?_)
  · skip
    exact kz_weak [(0, .ref (w_adr E.2.1 6 0)), (2, .long (x2)), (4, va_rf (x4))] ⟨rfl, ⟨rfl, ⟨rfl, trivial⟩⟩⟩ rfl (zt_X7_alternation_p62 hL  h)
  · skip
    refine kz_aload_n (M := kt_M257) kX7_alternation_c3.1 rfl ?_
    refine kz_aloadv (M := kt_M257) (x := x4) kX7_alternation_c3.2.1 rfl ?_
    refine kz_aloadv (M := kt_M257) (x := x4) kX7_alternation_c3.2.2.1 rfl ?_
    refine kz_nz0 (x := x4) hxp1 ?_
    refine kz_gfi (M := kt_M257) (c := 14) (o := p1) kX7_alternation_c3.2.2.2.1 wf_X7_231 (.inr (by exact hlp1)) ?_
    refine kz_cv0 (M := kt_M257) (c := 6) (o := 0) (As := [va_rf (x4), .int (w_i w 14 p1 10)]) (rest := []) kX7_alternation_c3.2.2.2.2.1 wl_X7_174 wMv_271 rfl (.inl rfl) rfl (Nat.le_trans (Nat.le_of_ble_eq_true rfl) hL) (by simp [lg_sl, w_cat, z_ci, z_cr, z_cl, z_cn, kt_M271]) (Nat.le_of_ble_eq_true rfl) h (fun w2 hle h => ?_) (fun _ _ _ h => kzx_no rfl h)
    have h := h hle
    have hlp1 := w_l_le hlp1 hle
    exact kz_weak [(0, .ref (w_adr E.2.1 6 0)), (2, .long (x2)), (4, va_rf (x4))] ⟨rfl, ⟨rfl, ⟨rfl, trivial⟩⟩⟩ rfl (zt_X7_alternation_p62 hL  h)
def zb_X7_alternation_p20 (E : zE) (L : Nat) (Q : kx_Rs → wS → Prop) (x2 : Int64) (x4 : Option Nat) (w : wS) : Prop := (if x4 = none then Q (.inl none) (ws_g w 6 0 5 x2) else (∃ p1, x4 = some p1 ∧ w_l w E.2.1 14 p1 ∧ (if (w_p w 14 p1 5) = none then zb_X7_alternation_p43 E L Q x2 x4 w else zw E (L - 22) kt_M289 [.ref (w_adr E.2.1 6 0), va_rf (w_p w 14 p1 5), .int 3] w (wk0 (fun w2 => wle w w2 → zb_X7_alternation_p43 E L Q x2 x4 w2) (fun e w => Q (.inr e) w)))))
theorem zt_X7_alternation_p20 {E : zE} {L : Nat} {Q : kx_Rs → wS → Prop} {x2 : Int64} {x4 : Option Nat} {w : wS} (hL : 24 ≤ L) (h : zb_X7_alternation_p20 E L Q x2 x4 w) : kzE E L kt_M257 20 [(0, .ref (w_adr E.2.1 6 0)), (2, .long (x2)), (4, va_rf (x4))] [] w Q := by
  unfold zb_X7_alternation_p20 at h
  refine kz_aloadv (M := kt_M257) (x := x4) kX7_alternation_c1.2.2.2.1 rfl ?_
  refine kz_ifnull (M := kt_M257) (x := x4) kX7_alternation_c1.2.2.2.2.1 (t := 89) rfl h (fun h => ?_) (fun h => ?_)
  · skip
    refine kz_aload_n (M := kt_M257) kX7_alternation_c5.1 rfl ?_
    refine kz_lload_n (M := kt_M257) kX7_alternation_c5.2.1 rfl ?_
    refine kz_pfg (M := kt_M257) (c := 6) (o := 0) kX7_alternation_c5.2.2.1 wq_X7_26 (.inl rfl) ?_
    exact kz_ret (M := kt_M257) kX7_alternation_c5.2.2.2.1 rfl h
  · skip
    refine kz_aloadv (M := kt_M257) (x := x4) kX7_alternation_c1.2.2.2.2.2.1 rfl ?_
    obtain ⟨p1, hxp1, hlp1, h⟩ := h
    refine kz_nz0 (x := x4) hxp1 ?_
    refine kz_gfp (M := kt_M257) (c := 14) (o := p1) kX7_alternation_c1.2.2.2.2.2.2.1 wf_X7_161 (.inr (by exact hlp1)) ?_
    refine kz_ifnull (M := kt_M257) (x := w_p w 14 p1 5) kX7_alternation_c1.2.2.2.2.2.2.2.1 (t := 43) rfl h (fun h => ?_) (fun h => ?_)
    · skip
      exact kz_weak [(0, .ref (w_adr E.2.1 6 0)), (2, .long (x2)), (4, va_rf (x4))] ⟨rfl, ⟨rfl, ⟨rfl, trivial⟩⟩⟩ rfl (zt_X7_alternation_p43 hL  h)
    · skip
      refine kz_aload_n (M := kt_M257) kX7_alternation_c2.1 rfl ?_
      refine kz_aloadv (M := kt_M257) (x := x4) kX7_alternation_c2.2.1 rfl ?_
      refine kz_nz0 (x := x4) hxp1 ?_
      refine kz_gfp (M := kt_M257) (c := 14) (o := p1) kX7_alternation_c2.2.2.1 wf_X7_161 (.inr (by exact hlp1)) ?_
      refine kz_ic (M := kt_M257) 3 kX7_alternation_c2.2.2.2.1 rfl ?_
      refine kz_cv0 (M := kt_M257) (c := 6) (o := 0) (As := [va_rf (w_p w 14 p1 5), .int 3]) (rest := []) kX7_alternation_c2.2.2.2.2.1 wl_X7_167 wMv_289 rfl (.inl rfl) rfl (Nat.le_trans (Nat.le_of_ble_eq_true rfl) hL) (by simp [lg_sl, w_cat, z_ci, z_cr, z_cl, z_cn, kt_M289]) (Nat.le_of_ble_eq_true rfl) h (fun w2 hle h => ?_) (fun _ _ _ h => kzx_no rfl h)
      have h := h hle
      have hlp1 := w_l_le hlp1 hle
      exact kz_weak [(0, .ref (w_adr E.2.1 6 0)), (2, .long (x2)), (4, va_rf (x4))] ⟨rfl, ⟨rfl, ⟨rfl, trivial⟩⟩⟩ rfl (zt_X7_alternation_p43 hL  h)
def zb_X7_alternation_p0 (E : zE) (L : Nat) (Q : kx_Rs → wS → Prop) (x1 : Option Nat) (w : wS) : Prop := (∃ p1, x1 = some p1 ∧ w_l w E.2.1 14 p1 ∧ zw E (L - 23) kt_M281 [.ref (w_adr E.2.1 6 0), va_rf (w_p w 14 p1 3), .int 1] w (wk0 (fun w2 => wle w w2 → zL_X7_alternation_p20 E L Q (w_g w 6 0 5) (w_p w2 14 p1 4) w2) (fun e w => Q (.inr e) w)))
theorem zt_X7_alternation_p0 {E : zE} {L : Nat} {Q : kx_Rs → wS → Prop} {x1 : Option Nat} {w : wS} (hL : 24 ≤ L) (h : zb_X7_alternation_p0 E L Q x1 w) : kzE E L kt_M257 0 [(0, .ref (w_adr E.2.1 6 0)), (1, va_rf (x1))] [] w Q := by
  unfold zb_X7_alternation_p0 at h
  refine kz_aload_n (M := kt_M257) kX7_alternation_c0.1 rfl ?_
  refine kz_gfg (M := kt_M257) (c := 6) (o := 0) kX7_alternation_c0.2.1 wf_X7_26 (.inl rfl) ?_
  refine kz_stl_n (M := kt_M257) [(0, .ref (w_adr E.2.1 6 0)), (1, va_rf (x1))] kX7_alternation_c0.2.2.1 (Nat.le_of_ble_eq_true rfl) ⟨⟨rfl, rfl, .inl rfl⟩, ⟨⟨rfl, rfl, .inr (w_cat (x1))⟩, trivial⟩⟩ rfl rfl ?_
  refine kz_aload_n (M := kt_M257) kX7_alternation_c0.2.2.2.1 rfl ?_
  refine kz_aload_nv (M := kt_M257) (x := x1) kX7_alternation_c0.2.2.2.2.1 rfl ?_
  obtain ⟨p1, hxp1, hlp1, h⟩ := h
  refine kz_nz0 (x := x1) hxp1 ?_
  refine kz_gfp (M := kt_M257) (c := 14) (o := p1) kX7_alternation_c0.2.2.2.2.2.1 wf_X7_34 (.inr (by exact hlp1)) ?_
  refine kz_ic (M := kt_M257) 1 kX7_alternation_c0.2.2.2.2.2.2.1 rfl ?_
  refine kz_cv0 (M := kt_M257) (c := 6) (o := 0) (As := [va_rf (w_p w 14 p1 3), .int 1]) (rest := []) kX7_alternation_c0.2.2.2.2.2.2.2.1 wl_X7_186 wMv_281 rfl (.inl rfl) rfl (Nat.le_trans (Nat.le_of_ble_eq_true rfl) hL) (by simp [lg_sl, w_cat, z_ci, z_cr, z_cl, z_cn, kt_M281]) (Nat.le_of_ble_eq_true rfl) h (fun w2 hle h => ?_) (fun _ _ _ h => kzx_no rfl h)
  have h := h hle
  have hlp1 := w_l_le hlp1 hle
  refine kz_aload_nv (M := kt_M257) (x := x1) kX7_alternation_c1.1 rfl ?_
  refine kz_nz0 (x := x1) hxp1 ?_
  refine kz_gfp (M := kt_M257) (c := 14) (o := p1) kX7_alternation_c1.2.1 wf_X7_46 (.inr (by exact hlp1)) ?_
  refine kz_stv (M := kt_M257) (x := w_p w2 14 p1 4) [(0, .ref (w_adr E.2.1 6 0)), (2, .long (w_g w 6 0 5))] kX7_alternation_c1.2.2.1 (Nat.le_of_ble_eq_true rfl) ⟨⟨rfl, rfl, .inl rfl⟩, ⟨⟨rfl, rfl, .inl rfl⟩, trivial⟩⟩ rfl ?_
  exact kz_weak [(0, .ref (w_adr E.2.1 6 0)), (2, .long (w_g w 6 0 5)), (4, va_rf (w_p w2 14 p1 4))] ⟨rfl, ⟨rfl, ⟨rfl, trivial⟩⟩⟩ rfl h
