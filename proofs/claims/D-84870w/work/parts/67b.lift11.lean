/-! ===== methods over the typed state (printed by tools/gen_lift.py) ===== -/
set_option maxRecDepth 100000
theorem zc_X11_220 {adE adK adV : Nat → Nat} {zr : Nat → Value} {b L0 : Nat} {xs : Nat → Int32} {lo : Nat} : kx_ci (kw_V adE adK adV zr b L0 xs lo) "MeetingHouse$Machine" 220 = some 1103515245 := by
  show kt_get kt_ciA "MeetingHouse$Machine" 220 = _
  decide +kernel
theorem wfn_X11_482 {E : zE} : wFn (zV E) wG "MeetingHouse$Machine" 482 11 3 3 := ⟨(show kt_get kt_flA "MeetingHouse$Machine" 482 = none from by decide +kernel), ("MeetingHouse$Memory", "told", "[I"), "MeetingHouse", RX12, TX12, 12, (show kx_fn kw_Ns "MeetingHouse$Machine" 482 = _ from by decide +kernel), rfl, by decide +kernel, by decide +kernel, by decide +kernel⟩
theorem zs_X11_422 {E : zE} : ∃ r n d, kx_fl (zV E) "MeetingHouse$Machine" 422 = some (r, n, d) ∧ kx_sv (zV E) r n d = some (va_rf (some (E.1.1 68))) := ⟨_, _, _, (show kt_get kt_flA "MeetingHouse$Machine" 422 = some ("MeetingHouse$State", "BRANCHES", "LMeetingHouse$State;") from by decide +kernel), kx_sv_E.trans (kw_sv_en zen_68)⟩
theorem zs_X11_460 {E : zE} : ∃ r n d, kx_fl (zV E) "MeetingHouse$Machine" 460 = some (r, n, d) ∧ kx_sv (zV E) r n d = some (va_rf (some (E.1.1 67))) := ⟨_, _, _, (show kt_get kt_flA "MeetingHouse$Machine" 460 = some ("MeetingHouse$State", "READS", "LMeetingHouse$State;") from by decide +kernel), kx_sv_E.trans (kw_sv_en zen_67)⟩
theorem zkl_X11_18 {E : zE} : kx_kl (zV E) "MeetingHouse$Machine" 18 = some "MeetingHouse$Task" := (show kt_get kt_klA "MeetingHouse$Machine" 18 = some "MeetingHouse$Task" from by decide +kernel)
theorem zmn_X11_72 : kx_mn kw_Ns "MeetingHouse$Machine" 72 = some (kt_M230.1, "MeetingHouse") := by decide +kernel
theorem wli_X11_72 {E : zE} : wLi (zV E) "MeetingHouse$Machine" 72 kt_M230 0 := ⟨.inr ⟨(show kt_get kt_mlA "MeetingHouse$Machine" 72 = none from by decide +kernel), _, zmn_X11_72⟩, kx_md_at (M' := kt_M230) (by decide +kernel), by decide +kernel, rfl, rfl, rfl, by decide +kernel, lw_g (lw_at lw_m11 118 rfl) rfl, lw_g (lw_at lw_m1 36 rfl) rfl⟩
theorem zmn_X11_428 : kx_mn kw_Ns "MeetingHouse$Machine" 428 = some (kt_M232.1, "MeetingHouse") := by decide +kernel
theorem wln_X11_428 {E : zE} : wLn (zV E) "MeetingHouse$Machine" 428 kt_M232 2 := ⟨(show kt_get kt_mlA "MeetingHouse$Machine" 428 = none from by decide +kernel), ⟨_, zmn_X11_428⟩, kx_md_at (M' := kt_M232) (by decide +kernel), by decide +kernel, rfl⟩
theorem wq_X11_107 {adE adK adV : Nat → Nat} {zr : Nat → Value} {b L0 : Nat} {xs : Nat → Int32} {lo : Nat} : wP (kw_V adE adK adV zr b L0 xs lo) wG "MeetingHouse$Machine" 107 10 4 0 .int := wPb_ok (by decide +kernel) wf_X11_107 (r := "MeetingHouse$Machine") (n := "taskMany") (d := "I") (by decide +kernel) (by decide +kernel)
theorem wq_X11_148 {adE adK adV : Nat → Nat} {zr : Nat → Value} {b L0 : Nat} {xs : Nat → Int32} {lo : Nat} : wP (kw_V adE adK adV zr b L0 xs lo) wG "MeetingHouse$Machine" 148 17 5 0 .int := wPb_ok (by decide +kernel) wf_X11_148 (r := "MeetingHouse$Task") (n := "pending") (d := "I") (by decide +kernel) (by decide +kernel)
theorem wq_X11_151 {adE adK adV : Nat → Nat} {zr : Nat → Value} {b L0 : Nat} {xs : Nat → Int32} {lo : Nat} : wP (kw_V adE adK adV zr b L0 xs lo) wG "MeetingHouse$Machine" 151 10 23 2 (.object "MeetingHouse$Task") := wPb_ok (by decide +kernel) wf_X11_151 (r := "MeetingHouse$Machine") (n := "making") (d := "LMeetingHouse$Task;") (by decide +kernel) (by decide +kernel)
theorem wq_X11_174 {adE adK adV : Nat → Nat} {zr : Nat → Value} {b L0 : Nat} {xs : Nat → Int32} {lo : Nat} : wP (kw_V adE adK adV zr b L0 xs lo) wG "MeetingHouse$Machine" 174 10 7 0 .int := wPb_ok (by decide +kernel) wf_X11_174 (r := "MeetingHouse$Machine") (n := "steps") (d := "I") (by decide +kernel) (by decide +kernel)
theorem wq_X11_177 {adE adK adV : Nat → Nat} {zr : Nat → Value} {b L0 : Nat} {xs : Nat → Int32} {lo : Nat} : wP (kw_V adE adK adV zr b L0 xs lo) wG "MeetingHouse$Machine" 177 10 8 0 .int := wPb_ok (by decide +kernel) wf_X11_177 (r := "MeetingHouse$Machine") (n := "clock") (d := "I") (by decide +kernel) (by decide +kernel)
theorem wq_X11_180 {adE adK adV : Nat → Nat} {zr : Nat → Value} {b L0 : Nat} {xs : Nat → Int32} {lo : Nat} : wP (kw_V adE adK adV zr b L0 xs lo) wG "MeetingHouse$Machine" 180 10 9 0 .int := wPb_ok (by decide +kernel) wf_X11_180 (r := "MeetingHouse$Machine") (n := "meetings") (d := "I") (by decide +kernel) (by decide +kernel)
theorem wq_X11_195 {adE adK adV : Nat → Nat} {zr : Nat → Value} {b L0 : Nat} {xs : Nat → Int32} {lo : Nat} : wP (kw_V adE adK adV zr b L0 xs lo) wG "MeetingHouse$Machine" 195 10 13 0 .int := wPb_ok (by decide +kernel) wf_X11_195 (r := "MeetingHouse$Machine") (n := "seed") (d := "I") (by decide +kernel) (by decide +kernel)
theorem wq_X11_204 {adE adK adV : Nat → Nat} {zr : Nat → Value} {b L0 : Nat} {xs : Nat → Int32} {lo : Nat} : wP (kw_V adE adK adV zr b L0 xs lo) wG "MeetingHouse$Machine" 204 10 32 0 .boolean := wPb_ok (by decide +kernel) wf_X11_204 (r := "MeetingHouse$Machine") (n := "takes") (d := "Z") (by decide +kernel) (by decide +kernel)
theorem wq_X11_207 {adE adK adV : Nat → Nat} {zr : Nat → Value} {b L0 : Nat} {xs : Nat → Int32} {lo : Nat} : wP (kw_V adE adK adV zr b L0 xs lo) wG "MeetingHouse$Machine" 207 10 14 0 .boolean := wPb_ok (by decide +kernel) wf_X11_207 (r := "MeetingHouse$Machine") (n := "begun") (d := "Z") (by decide +kernel) (by decide +kernel)
theorem wq_X11_425 {adE adK adV : Nat → Nat} {zr : Nat → Value} {b L0 : Nat} {xs : Nat → Int32} {lo : Nat} : wP (kw_V adE adK adV zr b L0 xs lo) wG "MeetingHouse$Machine" 425 17 12 3 (.array .int) := wPb_ok (by decide +kernel) wf_X11_425 (r := "MeetingHouse$Task") (n := "parts") (d := "[I") (by decide +kernel) (by decide +kernel)
theorem wq_X11_429 {adE adK adV : Nat → Nat} {zr : Nat → Value} {b L0 : Nat} {xs : Nat → Int32} {lo : Nat} : wP (kw_V adE adK adV zr b L0 xs lo) wG "MeetingHouse$Machine" 429 17 15 0 .int := wPb_ok (by decide +kernel) wf_X11_429 (r := "MeetingHouse$Task") (n := "partMany") (d := "I") (by decide +kernel) (by decide +kernel)
theorem wq_X11_448 {adE adK adV : Nat → Nat} {zr : Nat → Value} {b L0 : Nat} {xs : Nat → Int32} {lo : Nat} : wP (kw_V adE adK adV zr b L0 xs lo) wG "MeetingHouse$Machine" 448 17 18 0 .boolean := wPb_ok (by decide +kernel) wf_X11_448 (r := "MeetingHouse$Task") (n := "byTag") (d := "Z") (by decide +kernel) (by decide +kernel)
theorem wq_X11_463 {adE adK adV : Nat → Nat} {zr : Nat → Value} {b L0 : Nat} {xs : Nat → Int32} {lo : Nat} : wP (kw_V adE adK adV zr b L0 xs lo) wG "MeetingHouse$Machine" 463 10 24 2 (.object "MeetingHouse$Task") := wPb_ok (by decide +kernel) wf_X11_463 (r := "MeetingHouse$Machine") (n := "giver") (d := "LMeetingHouse$Task;") (by decide +kernel) (by decide +kernel)
theorem wq_X11_55 {adE adK adV : Nat → Nat} {zr : Nat → Value} {b L0 : Nat} {xs : Nat → Int32} {lo : Nat} : wP (kw_V adE adK adV zr b L0 xs lo) wG "MeetingHouse$Machine" 55 10 2 2 (.object "MeetingHouse$Row") := wPb_ok (by decide +kernel) wf_X11_55 (r := "MeetingHouse$Machine") (n := "code") (d := "LMeetingHouse$Row;") (by decide +kernel) (by decide +kernel)
theorem wq_X11_68 {adE adK adV : Nat → Nat} {zr : Nat → Value} {b L0 : Nat} {xs : Nat → Int32} {lo : Nat} : wP (kw_V adE adK adV zr b L0 xs lo) wG "MeetingHouse$Machine" 68 10 5 2 (.object "MeetingHouse$Task") := wPb_ok (by decide +kernel) wf_X11_68 (r := "MeetingHouse$Machine") (n := "spare") (d := "LMeetingHouse$Task;") (by decide +kernel) (by decide +kernel)
theorem wq_X11_73 {adE adK adV : Nat → Nat} {zr : Nat → Value} {b L0 : Nat} {xs : Nat → Int32} {lo : Nat} : wP (kw_V adE adK adV zr b L0 xs lo) wG "MeetingHouse$Machine" 73 17 11 2 (.object "MeetingHouse$Task") := wPb_ok (by decide +kernel) wf_X11_73 (r := "MeetingHouse$Task") (n := "next") (d := "LMeetingHouse$Task;") (by decide +kernel) (by decide +kernel)
theorem wq_X11_98 {adE adK adV : Nat → Nat} {zr : Nat → Value} {b L0 : Nat} {xs : Nat → Int32} {lo : Nat} : wP (kw_V adE adK adV zr b L0 xs lo) wG "MeetingHouse$Machine" 98 10 6 0 .int := wPb_ok (by decide +kernel) wf_X11_98 (r := "MeetingHouse$Machine") (n := "numbers") (d := "I") (by decide +kernel) (by decide +kernel)
def zL_X11_parts_p4 (E : zE) (L : Nat) (Q : kx_Rs → wS → Prop) (x2 : Int32) (w : wS) : Prop := kzE E L kt_M94 4 [(0, .ref (w_adr E.2.1 10 0)), (2, .int x2)] [] w Q
def zb_X11_parts_p4 (E : zE) (L : Nat) (Q : kx_Rs → wS → Prop) (x2 : Int32) (w : wS) : Prop := (∃ p1, w_p w 10 0 21 = some p1 ∧ w_l w E.2.1 17 p1 ∧ (if x2 ≤ (Int32.ofNat (w_n w 17 p1 12)) then (((¬ (((w_i w 10 0 29) - x2)) < 0 ∧ ¬ (0 : Int32) < 0 ∧ ¬ (x2) < 0) ∧ (((w_i w 10 0 29) - x2)).toNatClampNeg + (x2).toNatClampNeg ≤ w_n (ws_i w 10 0 29 ((w_i w 10 0 29) - x2)) 10 0 30 ∧ (0 : Int32).toNatClampNeg + (x2).toNatClampNeg ≤ w_n (ws_i w 10 0 29 ((w_i w 10 0 29) - x2)) 17 p1 12 ∧ ∀ i, i < (x2).toNatClampNeg → fits .int (.int (w_a (ws_i w 10 0 29 ((w_i w 10 0 29) - x2)) 10 0 30 ((((w_i w 10 0 29) - x2)).toNatClampNeg + i))) = true) ∧ (∃ p2, w_p (ws_A (ws_i w 10 0 29 ((w_i w 10 0 29) - x2)) 17 p1 12 (va_cpy (w_a (ws_i w 10 0 29 ((w_i w 10 0 29) - x2)) 10 0 30) (w_a (ws_i w 10 0 29 ((w_i w 10 0 29) - x2)) 17 p1 12) (((w_i w 10 0 29) - x2)).toNatClampNeg (0 : Int32).toNatClampNeg (x2).toNatClampNeg)) 10 0 21 = some p2 ∧ w_l (ws_A (ws_i w 10 0 29 ((w_i w 10 0 29) - x2)) 17 p1 12 (va_cpy (w_a (ws_i w 10 0 29 ((w_i w 10 0 29) - x2)) 10 0 30) (w_a (ws_i w 10 0 29 ((w_i w 10 0 29) - x2)) 17 p1 12) (((w_i w 10 0 29) - x2)).toNatClampNeg (0 : Int32).toNatClampNeg (x2).toNatClampNeg)) E.2.1 17 p2 ∧ Q (.inl none) (ws_i (ws_A (ws_i w 10 0 29 ((w_i w 10 0 29) - x2)) 17 p1 12 (va_cpy (w_a (ws_i w 10 0 29 ((w_i w 10 0 29) - x2)) 10 0 30) (w_a (ws_i w 10 0 29 ((w_i w 10 0 29) - x2)) 17 p1 12) (((w_i w 10 0 29) - x2)).toNatClampNeg (0 : Int32).toNatClampNeg (x2).toNatClampNeg)) 17 p2 15 x2))) else zw E (L - 22) kt_M232 [.ref (w_d w 17 p1 12), .int 0] w (wkr (fun v4 w3 => wle w w3 → (∃ a5, v4 = some a5 ∧ (w_o w3 a5 = some (99, a5, 0) ∧ w_t w3 a5 = 0) ∧ zL_X11_parts_p4 E L Q x2 (ws_put w3 17 p1 12 a5))) (fun e w => Q (.inr e) w))))
theorem zt_X11_parts_p4 {E : zE} {L : Nat} {Q : kx_Rs → wS → Prop} {x2 : Int32} {w : wS} (hL : 60 ≤ L) (h : zb_X11_parts_p4 E L Q x2 w) : kzE E L kt_M94 4 [(0, .ref (w_adr E.2.1 10 0)), (2, .int x2)] [] w Q := by
  unfold zb_X11_parts_p4 at h
  refine kz_aload_n (M := kt_M94) kX11_parts_c0.2.2.2.2.1 rfl ?_
  refine kz_gfp (M := kt_M94) (c := 10) (o := 0) kX11_parts_c0.2.2.2.2.2.1 wf_X11_110 (.inl rfl) ?_
  obtain ⟨p1, hxp1, hlp1, h⟩ := h
  refine kz_nz0 (x := w_p w 10 0 21) hxp1 ?_
  refine kz_gfa (M := kt_M94) (c := 17) (o := p1) kX11_parts_c0.2.2.2.2.2.2.1 wf_X11_425 (.inr (by exact hlp1)) ?_
  refine kz_alen (M := kt_M94) (c := 17) (o := p1) (k := 12) (a := (w_d w 17 p1 12)) (τ := 0) kX11_parts_c0.2.2.2.2.2.2.2.1 (.inr ⟨.inr (by exact hlp1), rfl, rfl⟩) rfl (Nat.le_of_ble_eq_true rfl) ?_
  refine kz_iload_n (M := kt_M94) kX11_parts_c1.1 rfl ?_
  refine kz_icmp_ge (M := kt_M94) kX11_parts_c1.2.1 (t := 37) rfl h (fun h => ?_) (fun h => ?_)
  · skip
    refine kz_aload_n (M := kt_M94) kX11_parts_c2.2.2.2.1 rfl ?_
    refine kz_dup (M := kt_M94) kX11_parts_c2.2.2.2.2.1 rfl ?_
    refine kz_gfi (M := kt_M94) (c := 10) (o := 0) kX11_parts_c2.2.2.2.2.2.1 wf_X11_45 (.inl rfl) ?_
    refine kz_iload_n (M := kt_M94) kX11_parts_c2.2.2.2.2.2.2.1 rfl ?_
    refine kz_isub (M := kt_M94) kX11_parts_c2.2.2.2.2.2.2.2.1 ?_
    refine kz_pfi (M := kt_M94) (c := 10) (o := 0) kX11_parts_c3.1 wq_X11_45 (.inl rfl) ?_
    refine kz_aload_n (M := kt_M94) kX11_parts_c3.2.1 rfl ?_
    refine kz_gfa (M := kt_M94) (c := 10) (o := 0) kX11_parts_c3.2.2.1 wf_X11_38 (.inl rfl) ?_
    refine kz_aload_n (M := kt_M94) kX11_parts_c3.2.2.2.1 rfl ?_
    refine kz_gfiR (M := kt_M94) (c := 10) (o := 0) ((w_i w 10 0 29) - x2) kX11_parts_c3.2.2.2.2.1 wf_X11_45 (.inl rfl) rd_i_e ?_
    refine kz_aload_n (M := kt_M94) kX11_parts_c3.2.2.2.2.2.1 rfl ?_
    refine kz_gfpR (M := kt_M94) (c := 10) (o := 0) (w_p w 10 0 21) kX11_parts_c3.2.2.2.2.2.2.1 wf_X11_110 (.inl rfl) rd_p_i ?_
    refine kz_nz0 (x := w_p w 10 0 21) hxp1 ?_
    refine kz_gfa (M := kt_M94) (c := 17) (o := p1) kX11_parts_c3.2.2.2.2.2.2.2.1 wf_X11_425 (.inr (by exact hlp1)) ?_
    refine kz_ic (M := kt_M94) 0 kX11_parts_c4.1 rfl ?_
    refine kz_iload_n (M := kt_M94) kX11_parts_c4.2.1 rfl ?_
    refine kz_cpyi (M := kt_M94) (τ := 0) (ty := .int) (c0 := 10) (o0 := 0) (k0 := 30) (c := 17) (o := p1) (k := 12) (a0 := (w_d (ws_i w 10 0 29 ((w_i w 10 0 29) - x2)) 10 0 30)) (a := (w_d (ws_i w 10 0 29 ((w_i w 10 0 29) - x2)) 17 p1 12)) kX11_parts_c4.2.2.1 (zac_X11_49) (by decide) rfl rfl ow_10_0_30 oa_10_0_30 (.inr ⟨.inr (by exact hlp1), rfl, rfl⟩) rfl (Nat.le_trans (by simp [kx_cat, w_cat, zac_w, z_ci, z_cr, z_cl, z_cn]) hL) h (fun h => ?_)
    refine kz_aload_n (M := kt_M94) kX11_parts_c4.2.2.2.1 rfl ?_
    refine kz_gfp (M := kt_M94) (c := 10) (o := 0) kX11_parts_c4.2.2.2.2.1 wf_X11_110 (.inl rfl) ?_
    refine kz_iload_n (M := kt_M94) kX11_parts_c4.2.2.2.2.2.1 rfl ?_
    obtain ⟨p2, hxp2, hlp2, h⟩ := h
    refine kz_nz1 (x := w_p (ws_A (ws_i w 10 0 29 ((w_i w 10 0 29) - x2)) 17 p1 12 (va_cpy (w_a (ws_i w 10 0 29 ((w_i w 10 0 29) - x2)) 10 0 30) (w_a (ws_i w 10 0 29 ((w_i w 10 0 29) - x2)) 17 p1 12) (((w_i w 10 0 29) - x2)).toNatClampNeg (0 : Int32).toNatClampNeg (x2).toNatClampNeg)) 10 0 21) hxp2 ?_
    refine kz_pfi (M := kt_M94) (c := 17) (o := p2) kX11_parts_c4.2.2.2.2.2.2.1 wq_X11_429 (.inr (by exact hlp2)) ?_
    exact kz_ret (M := kt_M94) kX11_parts_c4.2.2.2.2.2.2.2.1 rfl h
  · skip
    refine kz_aload_n (M := kt_M94) kX11_parts_c1.2.2.1 rfl ?_
    refine kz_gfp (M := kt_M94) (c := 10) (o := 0) kX11_parts_c1.2.2.2.1 wf_X11_110 (.inl rfl) ?_
    refine kz_aload_n (M := kt_M94) kX11_parts_c1.2.2.2.2.1 rfl ?_
    refine kz_gfp (M := kt_M94) (c := 10) (o := 0) kX11_parts_c1.2.2.2.2.2.1 wf_X11_110 (.inl rfl) ?_
    refine kz_nz0 (x := w_p w 10 0 21) hxp1 ?_
    refine kz_gfa (M := kt_M94) (c := 17) (o := p1) kX11_parts_c1.2.2.2.2.2.2.1 wf_X11_425 (.inr (by exact hlp1)) ?_
    refine kz_ic (M := kt_M94) 0 kX11_parts_c1.2.2.2.2.2.2.2.1 rfl ?_
    refine kz_cNr (M := kt_M94) (As := [.ref (w_d w 17 p1 12), .int 0]) (rest := [va_rf (w_p w 10 0 21)]) kX11_parts_c2.1 wln_X11_428 wMs_232 rfl (Nat.le_trans (Nat.le_of_ble_eq_true rfl) hL) (Nat.le_of_ble_eq_true rfl) (by simp [kx_cat, w_cat, z_ci, z_cr, z_cl, z_cn]) h (fun v4 w3 hle h => ?_) (fun _ _ _ h => kzx_no rfl h)
    have h := h hle
    have hlp1 := w_l_le hlp1 hle
    refine kz_nz1 (x := w_p w 10 0 21) hxp1 ?_
    obtain ⟨a5, hx, h⟩ := h
    refine kz_nz0 (M := kt_M94) (x := v4) hx ?_
    refine kz_pfa (M := kt_M94) (c := 17) (o := p1) (τ := 0) kX11_parts_c2.2.1 wq_X11_425 (.inr (by exact hlp1)) rfl h (fun h => ?_)
    refine kz_goto (M := kt_M94) kX11_parts_c2.2.2.1 (t := 4) rfl ?_
    exact kz_weak [(0, .ref (w_adr E.2.1 10 0)), (2, .int x2)] ⟨rfl, ⟨rfl, trivial⟩⟩ rfl h
def zb_X11_parts_p0 (E : zE) (L : Nat) (Q : kx_Rs → wS → Prop) (x1 : Int32) (w : wS) : Prop := zL_X11_parts_p4 E L Q (2 * x1) w
theorem zt_X11_parts_p0 {E : zE} {L : Nat} {Q : kx_Rs → wS → Prop} {x1 : Int32} {w : wS} (hL : 60 ≤ L) (h : zb_X11_parts_p0 E L Q x1 w) : kzE E L kt_M94 0 [(0, .ref (w_adr E.2.1 10 0)), (1, .int x1)] [] w Q := by
  unfold zb_X11_parts_p0 at h
  refine kz_ic (M := kt_M94) 2 kX11_parts_c0.1 rfl ?_
  refine kz_iload_n (M := kt_M94) kX11_parts_c0.2.1 rfl ?_
  refine kz_imul (M := kt_M94) kX11_parts_c0.2.2.1 ?_
  refine kz_sti_n (M := kt_M94) [(0, .ref (w_adr E.2.1 10 0))] kX11_parts_c0.2.2.2.1 (Nat.le_of_ble_eq_true rfl) ⟨⟨rfl, rfl, .inl rfl⟩, trivial⟩ rfl ?_
  exact kz_weak [(0, .ref (w_adr E.2.1 10 0)), (2, .int (2 * x1))] ⟨rfl, ⟨rfl, trivial⟩⟩ rfl h
def zb_X11_wait_p0 (E : zE) (L : Nat) (Q : kx_Rs → wS → Prop) (x1 : Option Nat) (w : wS) : Prop := (∃ p1, w_p w 10 0 21 = some p1 ∧ w_l w E.2.1 17 p1 ∧ zw E (L - 20) kt_M102 [.ref (w_adr E.2.1 10 0)] (ws_p w 17 p1 9 x1) (wk0 (fun w2 => wle (ws_p w 17 p1 9 x1) w2 → Q (.inl none) w2) (fun e w => Q (.inr e) w)))
theorem zt_X11_wait_p0 {E : zE} {L : Nat} {Q : kx_Rs → wS → Prop} {x1 : Option Nat} {w : wS} (hL : 20 ≤ L) (h : zb_X11_wait_p0 E L Q x1 w) : kzE E L kt_M114 0 [(0, .ref (w_adr E.2.1 10 0)), (1, va_rf (x1))] [] w Q := by
  unfold zb_X11_wait_p0 at h
  refine kz_aload_n (M := kt_M114) kX11_wait_c0.1 rfl ?_
  refine kz_gfp (M := kt_M114) (c := 10) (o := 0) kX11_wait_c0.2.1 wf_X11_110 (.inl rfl) ?_
  refine kz_aload_nv (M := kt_M114) (x := x1) kX11_wait_c0.2.2.1 rfl ?_
  obtain ⟨p1, hxp1, hlp1, h⟩ := h
  refine kz_nz1 (x := w_p w 10 0 21) hxp1 ?_
  refine kz_pfp (M := kt_M114) (n := x1) (c := 17) (o := p1) kX11_wait_c0.2.2.2.1 wq_X11_125 (.inr (by exact hlp1)) ?_
  refine kz_aload_n (M := kt_M114) kX11_wait_c0.2.2.2.2.1 rfl ?_
  refine kz_cv0 (M := kt_M114) (c := 10) (o := 0) (As := []) (rest := []) kX11_wait_c0.2.2.2.2.2.1 wl_X11_138 wMv_102 rfl (.inl rfl) rfl (Nat.le_trans (Nat.le_of_ble_eq_true rfl) hL) (Nat.le_of_ble_eq_true rfl) (Nat.le_of_ble_eq_true rfl) h (fun w2 hle h => ?_) (fun _ _ _ h => kzx_no rfl h)
  have h := h hle
  have hlp1 := w_l_le hlp1 hle
  exact kz_ret (M := kt_M114) kX11_wait_c0.2.2.2.2.2.2.1 rfl h
def zL_X11_numbered_p2 (E : zE) (L : Nat) (Q : kx_Rs → wS → Prop) (x1 : Int32) (x2 : Int32) (w : wS) : Prop := kzE E L kt_M90 2 [(0, .ref (w_adr E.2.1 10 0)), (1, .int x1), (2, .int x2)] [] w Q
def zb_X11_numbered_p2 (E : zE) (L : Nat) (Q : kx_Rs → wS → Prop) (x1 : Int32) (x2 : Int32) (w : wS) : Prop := (kx_inb x2 (w_n w 10 0 3) = true ∧ (∃ p1, w_r w 10 0 3 (x2).toNatClampNeg = some p1 ∧ w_l w E.2.1 17 p1 ∧ (if w_i w 17 p1 0 = x1 then (kx_inb x2 (w_n w 10 0 3) = true ∧ Q (.inl (some (va_rf (w_r w 10 0 3 (x2).toNatClampNeg)))) w) else zL_X11_numbered_p2 E L Q x1 (x2 + 1) w)))
theorem zt_X11_numbered_p2 {E : zE} {L : Nat} {Q : kx_Rs → wS → Prop} {x1 : Int32} {x2 : Int32} {w : wS} (hL : 19 ≤ L) (h : zb_X11_numbered_p2 E L Q x1 x2 w) : kzE E L kt_M90 2 [(0, .ref (w_adr E.2.1 10 0)), (1, .int x1), (2, .int x2)] [] w Q := by
  unfold zb_X11_numbered_p2 at h
  refine kz_aload_n (M := kt_M90) kX11_numbered_c0.2.2.1 rfl ?_
  refine kz_gfc (M := kt_M90) (x := 3563) (c := 10) (o := 0) kX11_numbered_c0.2.2.2.1 wf_X11_20 (.inl rfl) ?_
  refine kz_iload_n (M := kt_M90) kX11_numbered_c0.2.2.2.2.1 rfl ?_
  refine kz_aald (M := kt_M90) (τ := 4) (c := 10) (o := 0) (k := 3) (a := (E.2.1 3563)) kX11_numbered_c0.2.2.2.2.2.1 ow_10_0_3 oa_10_0_3 ot_8 rfl h (fun h => ?_)
  obtain ⟨p1, hxp1, hlp1, h⟩ := h
  refine kz_nz0 (x := w_r w 10 0 3 (x2).toNatClampNeg) hxp1 ?_
  refine kz_gfi (M := kt_M90) (c := 17) (o := p1) kX11_numbered_c0.2.2.2.2.2.2.1 wf_X11_249 (.inr (by exact hlp1)) ?_
  refine kz_iload_n (M := kt_M90) kX11_numbered_c0.2.2.2.2.2.2.2.1 rfl ?_
  refine kz_icmp_eq (M := kt_M90) kX11_numbered_c1.1 (t := 21) rfl h (fun h => ?_) (fun h => ?_)
  · skip
    refine kz_aload_n (M := kt_M90) kX11_numbered_c1.2.2.2.1 rfl ?_
    refine kz_gfc (M := kt_M90) (x := 3563) (c := 10) (o := 0) kX11_numbered_c1.2.2.2.2.1 wf_X11_20 (.inl rfl) ?_
    refine kz_iload_n (M := kt_M90) kX11_numbered_c1.2.2.2.2.2.1 rfl ?_
    refine kz_aald (M := kt_M90) (τ := 4) (c := 10) (o := 0) (k := 3) (a := (E.2.1 3563)) kX11_numbered_c1.2.2.2.2.2.2.1 ow_10_0_3 oa_10_0_3 ot_8 rfl h (fun h => ?_)
    exact kz_areto (x := w_r w 10 0 3 (x2).toNatClampNeg) (M := kt_M90) kX11_numbered_c1.2.2.2.2.2.2.2.1 rfl h
  · skip
    refine kz_inc (M := kt_M90) [(0, .ref (w_adr E.2.1 10 0)), (1, .int x1)] kX11_numbered_c1.2.1 rfl (Nat.le_of_ble_eq_true rfl) ⟨⟨rfl, rfl, .inl rfl⟩, ⟨⟨rfl, rfl, .inr rfl⟩, trivial⟩⟩ rfl ?_
    refine kz_goto (M := kt_M90) kX11_numbered_c1.2.2.1 (t := 2) rfl ?_
    exact kz_weak [(0, .ref (w_adr E.2.1 10 0)), (1, .int x1), (2, .int (x2 + 1))] ⟨rfl, ⟨rfl, ⟨rfl, trivial⟩⟩⟩ rfl h
def zb_X11_numbered_p0 (E : zE) (L : Nat) (Q : kx_Rs → wS → Prop) (x1 : Int32) (w : wS) : Prop := zL_X11_numbered_p2 E L Q x1 0 w
theorem zt_X11_numbered_p0 {E : zE} {L : Nat} {Q : kx_Rs → wS → Prop} {x1 : Int32} {w : wS} (hL : 19 ≤ L) (h : zb_X11_numbered_p0 E L Q x1 w) : kzE E L kt_M90 0 [(0, .ref (w_adr E.2.1 10 0)), (1, .int x1)] [] w Q := by
  unfold zb_X11_numbered_p0 at h
  refine kz_ic (M := kt_M90) 0 kX11_numbered_c0.1 rfl ?_
  refine kz_sti_n (M := kt_M90) [(0, .ref (w_adr E.2.1 10 0)), (1, .int x1)] kX11_numbered_c0.2.1 (Nat.le_of_ble_eq_true rfl) ⟨⟨rfl, rfl, .inl rfl⟩, ⟨⟨rfl, rfl, .inr rfl⟩, trivial⟩⟩ rfl ?_
  exact kz_weak [(0, .ref (w_adr E.2.1 10 0)), (1, .int x1), (2, .int 0)] ⟨rfl, ⟨rfl, ⟨rfl, trivial⟩⟩⟩ rfl h
def zL_X11_met_p18 (E : zE) (L : Nat) (Q : kx_Rs → wS → Prop) (x1 : Int32) (x2 : Option Nat) (x3 : Option Nat) (x4 : Int32) (x5 : Int32) (x6 : Int32) (w : wS) : Prop := kzE E L kt_M83 18 [(0, .ref (w_adr E.2.1 10 0)), (1, .int x1), (2, va_rf (x2)), (3, va_rf (x3)), (4, .int x4), (5, .int x5), (6, .int x6)] [] w Q
def zb_X11_met_p162 (E : zE) (L : Nat) (Q : kx_Rs → wS → Prop) (x4 : Int32) (y0 : Int32) (y1 : Int32) (w : wS) : Prop := (kx_inb y1 (w_n w 10 0 17) = true ∧ (kx_inb (x4 + 6) (w_n w 10 0 17) = true ∧ Q (.inl none) (ws_a (ws_a w 10 0 17 (y1).toNatClampNeg y0) 10 0 17 ((x4 + 6)).toNatClampNeg (w_i w 10 0 7))))
theorem zt_X11_met_p162 {E : zE} {L : Nat} {Q : kx_Rs → wS → Prop} {x4 : Int32} {y0 : Int32} {y1 : Int32} {w : wS} (hL : 25 ≤ L) (h : zb_X11_met_p162 E L Q x4 y0 y1 w) : kzE E L kt_M83 162 [(0, .ref (w_adr E.2.1 10 0)), (4, .int x4)] [.int y0, .int y1, .ref (E.2.1 3577)] w Q := by
  unfold zb_X11_met_p162 at h
  refine kz_iast (M := kt_M83) (c := 10) (o := 0) (k := 17) (a := (E.2.1 3577)) kX11_met_c11.2.2.2.2.2.2.1 ow_10_0_17 oa_10_0_17 ot_0 h (fun h => ?_)
  refine kz_aload_n (M := kt_M83) kX11_met_c11.2.2.2.2.2.2.2.1 rfl ?_
  refine kz_gfc (M := kt_M83) (x := 3577) (c := 10) (o := 0) kX11_met_c12.1 wf_X11_31 (.inl rfl) ?_
  refine kz_iload (M := kt_M83) kX11_met_c12.2.1 rfl ?_
  refine kz_bi (M := kt_M83) 6 kX11_met_c12.2.2.1 rfl ?_
  refine kz_iadd (M := kt_M83) kX11_met_c12.2.2.2.1 ?_
  refine kz_aload_n (M := kt_M83) kX11_met_c12.2.2.2.2.1 rfl ?_
  refine kz_gfiR (M := kt_M83) (c := 10) (o := 0) (w_i w 10 0 7) kX11_met_c12.2.2.2.2.2.1 wf_X11_174 (.inl rfl) rd_i_a ?_
  refine kz_iastR (M := kt_M83) (n := w_n w 10 0 17) (c := 10) (o := 0) (k := 17) (a := (E.2.1 3577)) kX11_met_c12.2.2.2.2.2.2.1 ow_10_0_17 oa_10_0_17 ot_0 rd_n_a h (fun h => ?_)
  exact kz_ret (M := kt_M83) kX11_met_c12.2.2.2.2.2.2.2.1 rfl h
def zb_X11_met_p18 (E : zE) (L : Nat) (Q : kx_Rs → wS → Prop) (x1 : Int32) (x2 : Option Nat) (x3 : Option Nat) (x4 : Int32) (x5 : Int32) (x6 : Int32) (w : wS) : Prop := (∃ p1, x2 = some p1 ∧ w_l w E.2.1 17 p1 ∧ (if w_i w 17 p1 15 ≤ x6 then zw E (L - 25) kt_M80 [.ref (w_adr E.2.1 10 0), .int x1] (ws_i w 10 0 9 ((w_i w 10 0 9) + 1)) (wk1 (fun v3 w2 => wle (ws_i w 10 0 9 ((w_i w 10 0 9) + 1)) w2 → (kx_inb x4 (w_n w2 10 0 17) = true ∧ zw E (L - 21) kt_M89 [.ref (w_adr E.2.1 10 0), .int x1] (ws_a w2 10 0 17 (x4).toNatClampNeg v3) (wk1 (fun v5 w4 => wle (ws_a w2 10 0 17 (x4).toNatClampNeg v3) w4 → (kx_inb (x4 + 1) (w_n w4 10 0 17) = true ∧ (kx_inb (x4 + 2) (w_n w4 10 0 17) = true ∧ (∃ p6, x3 = some p6 ∧ w_l (ws_a (ws_a w4 10 0 17 ((x4 + 1)).toNatClampNeg v5) 10 0 17 ((x4 + 2)).toNatClampNeg (w_i w4 17 p1 0)) E.2.1 17 p6 ∧ (kx_inb (x4 + 3) (w_n w4 10 0 17) = true ∧ (kx_inb (x4 + 4) (w_n w4 10 0 17) = true ∧ (kx_inb 1 (w_n w4 17 p1 12) = true ∧ (if ¬ w_a w4 17 p1 12 (1 : Int32).toNatClampNeg = (-1) then (kx_inb 0 (w_n w4 17 p1 12) = true ∧ zw E (L - 21) kt_M123 [.ref (w_adr E.2.1 11 0), .int (w_a w4 17 p1 12 (0 : Int32).toNatClampNeg)] (ws_a (ws_a (ws_a (ws_a w4 10 0 17 ((x4 + 1)).toNatClampNeg v5) 10 0 17 ((x4 + 2)).toNatClampNeg (w_i w4 17 p1 0)) 10 0 17 ((x4 + 3)).toNatClampNeg (w_i w4 17 p6 0)) 10 0 17 ((x4 + 4)).toNatClampNeg x5) (wk1 (fun v8 w7 => wle (ws_a (ws_a (ws_a (ws_a w4 10 0 17 ((x4 + 1)).toNatClampNeg v5) 10 0 17 ((x4 + 2)).toNatClampNeg (w_i w4 17 p1 0)) 10 0 17 ((x4 + 3)).toNatClampNeg (w_i w4 17 p6 0)) 10 0 17 ((x4 + 4)).toNatClampNeg x5) w7 → zb_X11_met_p162 E L Q x4 v8 (x4 + 5) w7) (fun e w => Q (.inr e) w))) else (kx_inb 0 (w_n w4 17 p1 12) = true ∧ zb_X11_met_p162 E L Q x4 (w_a w4 17 p1 12 (0 : Int32).toNatClampNeg) (x4 + 5) (ws_a (ws_a (ws_a (ws_a w4 10 0 17 ((x4 + 1)).toNatClampNeg v5) 10 0 17 ((x4 + 2)).toNatClampNeg (w_i w4 17 p1 0)) 10 0 17 ((x4 + 3)).toNatClampNeg (w_i w4 17 p6 0)) 10 0 17 ((x4 + 4)).toNatClampNeg x5)))))))))) (fun e w => Q (.inr e) w)))) (fun e w => Q (.inr e) w)) else (kx_inb x6 (w_n w 17 p1 12) = true ∧ zL_X11_met_p18 E L Q x1 x2 x3 x4 (x5 + (if (w_a w 17 p1 12 (x6).toNatClampNeg) < 1 then 1 else (w_a w 17 p1 12 (x6).toNatClampNeg))) (x6 + 2) w)))
theorem zt_X11_met_p18 {E : zE} {L : Nat} {Q : kx_Rs → wS → Prop} {x1 : Int32} {x2 : Option Nat} {x3 : Option Nat} {x4 : Int32} {x5 : Int32} {x6 : Int32} {w : wS} (hL : 25 ≤ L) (h : zb_X11_met_p18 E L Q x1 x2 x3 x4 x5 x6 w) : kzE E L kt_M83 18 [(0, .ref (w_adr E.2.1 10 0)), (1, .int x1), (2, va_rf (x2)), (3, va_rf (x3)), (4, .int x4), (5, .int x5), (6, .int x6)] [] w Q := by
  unfold zb_X11_met_p18 at h
  refine kz_iload (M := kt_M83) kX11_met_c1.2.2.2.1 rfl ?_
  refine kz_aload_nv (M := kt_M83) (x := x2) kX11_met_c1.2.2.2.2.1 rfl ?_
  obtain ⟨p1, hxp1, hlp1, h⟩ := h
  refine kz_nz0 (x := x2) hxp1 ?_
  refine kz_gfi (M := kt_M83) (c := 17) (o := p1) kX11_met_c1.2.2.2.2.2.1 wf_X11_429 (.inr (by exact hlp1)) ?_
  refine kz_icmp_ge (M := kt_M83) kX11_met_c1.2.2.2.2.2.2.1 (t := 49) rfl h (fun h => ?_) (fun h => ?_)
  · skip
    refine kz_aload_n (M := kt_M83) kX11_met_c3.2.2.1 rfl ?_
    refine kz_dup (M := kt_M83) kX11_met_c3.2.2.2.1 rfl ?_
    refine kz_gfi (M := kt_M83) (c := 10) (o := 0) kX11_met_c3.2.2.2.2.1 wf_X11_180 (.inl rfl) ?_
    refine kz_ic (M := kt_M83) 1 kX11_met_c3.2.2.2.2.2.1 rfl ?_
    refine kz_iadd (M := kt_M83) kX11_met_c3.2.2.2.2.2.2.1 ?_
    refine kz_pfi (M := kt_M83) (c := 10) (o := 0) kX11_met_c3.2.2.2.2.2.2.2.1 wq_X11_180 (.inl rfl) ?_
    refine kz_aload_n (M := kt_M83) kX11_met_c4.1 rfl ?_
    refine kz_gfc (M := kt_M83) (x := 3577) (c := 10) (o := 0) kX11_met_c4.2.1 wf_X11_31 (.inl rfl) ?_
    refine kz_iload (M := kt_M83) kX11_met_c4.2.2.1 rfl ?_
    refine kz_aload_n (M := kt_M83) kX11_met_c4.2.2.2.1 rfl ?_
    refine kz_iload_n (M := kt_M83) kX11_met_c4.2.2.2.2.1 rfl ?_
    refine kz_cv1 (M := kt_M83) (c := 10) (o := 0) (As := [.int x1]) (rest := [.int x4, .ref (E.2.1 3577)]) kX11_met_c4.2.2.2.2.2.1 wl_X11_476 wMv_80 rfl (.inl rfl) rfl (Nat.le_trans (Nat.le_of_ble_eq_true rfl) hL) (Nat.le_of_ble_eq_true rfl) (Nat.le_of_ble_eq_true rfl) h (fun v3 w2 hle h => ?_) (fun _ _ _ h => kzx_no rfl h)
    have h := h hle
    have hlp1 := w_l_le hlp1 hle
    refine kz_iast (M := kt_M83) (c := 10) (o := 0) (k := 17) (a := (E.2.1 3577)) kX11_met_c4.2.2.2.2.2.2.1 ow_10_0_17 oa_10_0_17 ot_0 h (fun h => ?_)
    refine kz_aload_n (M := kt_M83) kX11_met_c4.2.2.2.2.2.2.2.1 rfl ?_
    refine kz_gfc (M := kt_M83) (x := 3577) (c := 10) (o := 0) kX11_met_c5.1 wf_X11_31 (.inl rfl) ?_
    refine kz_iload (M := kt_M83) kX11_met_c5.2.1 rfl ?_
    refine kz_ic (M := kt_M83) 1 kX11_met_c5.2.2.1 rfl ?_
    refine kz_iadd (M := kt_M83) kX11_met_c5.2.2.2.1 ?_
    refine kz_aload_n (M := kt_M83) kX11_met_c5.2.2.2.2.1 rfl ?_
    refine kz_iload_n (M := kt_M83) kX11_met_c5.2.2.2.2.2.1 rfl ?_
    refine kz_cv1 (M := kt_M83) (c := 10) (o := 0) (As := [.int x1]) (rest := [.int (x4 + 1), .ref (E.2.1 3577)]) kX11_met_c5.2.2.2.2.2.2.1 wl_X11_479 wMv_89 rfl (.inl rfl) rfl (Nat.le_trans (Nat.le_of_ble_eq_true rfl) hL) (Nat.le_of_ble_eq_true rfl) (Nat.le_of_ble_eq_true rfl) h (fun v5 w4 hle h => ?_) (fun _ _ _ h => kzx_no rfl h)
    have h := h hle
    have hlp1 := w_l_le hlp1 hle
    refine kz_iast (M := kt_M83) (c := 10) (o := 0) (k := 17) (a := (E.2.1 3577)) kX11_met_c5.2.2.2.2.2.2.2.1 ow_10_0_17 oa_10_0_17 ot_0 h (fun h => ?_)
    refine kz_aload_n (M := kt_M83) kX11_met_c6.1 rfl ?_
    refine kz_gfc (M := kt_M83) (x := 3577) (c := 10) (o := 0) kX11_met_c6.2.1 wf_X11_31 (.inl rfl) ?_
    refine kz_iload (M := kt_M83) kX11_met_c6.2.2.1 rfl ?_
    refine kz_ic (M := kt_M83) 2 kX11_met_c6.2.2.2.1 rfl ?_
    refine kz_iadd (M := kt_M83) kX11_met_c6.2.2.2.2.1 ?_
    refine kz_aload_nv (M := kt_M83) (x := x2) kX11_met_c6.2.2.2.2.2.1 rfl ?_
    refine kz_nz0 (x := x2) hxp1 ?_
    refine kz_gfiR (M := kt_M83) (c := 17) (o := p1) (w_i w4 17 p1 0) kX11_met_c6.2.2.2.2.2.2.1 wf_X11_249 (.inr (by exact hlp1)) rd_i_a ?_
    refine kz_iastR (M := kt_M83) (n := w_n w4 10 0 17) (c := 10) (o := 0) (k := 17) (a := (E.2.1 3577)) kX11_met_c6.2.2.2.2.2.2.2.1 ow_10_0_17 oa_10_0_17 ot_0 rd_n_a h (fun h => ?_)
    refine kz_aload_n (M := kt_M83) kX11_met_c7.1 rfl ?_
    refine kz_gfc (M := kt_M83) (x := 3577) (c := 10) (o := 0) kX11_met_c7.2.1 wf_X11_31 (.inl rfl) ?_
    refine kz_iload (M := kt_M83) kX11_met_c7.2.2.1 rfl ?_
    refine kz_ic (M := kt_M83) 3 kX11_met_c7.2.2.2.1 rfl ?_
    refine kz_iadd (M := kt_M83) kX11_met_c7.2.2.2.2.1 ?_
    refine kz_aload_nv (M := kt_M83) (x := x3) kX11_met_c7.2.2.2.2.2.1 rfl ?_
    obtain ⟨p6, hxp6, hlp6, h⟩ := h
    refine kz_nz0 (x := x3) hxp6 ?_
    refine kz_gfiR (M := kt_M83) (c := 17) (o := p6) (w_i w4 17 p6 0) kX11_met_c7.2.2.2.2.2.2.1 wf_X11_249 (.inr (by exact hlp6)) (rd_i_a.trans rd_i_a) ?_
    refine kz_iastR (M := kt_M83) (n := w_n w4 10 0 17) (c := 10) (o := 0) (k := 17) (a := (E.2.1 3577)) kX11_met_c7.2.2.2.2.2.2.2.1 ow_10_0_17 oa_10_0_17 ot_0 (rd_n_a.trans rd_n_a) h (fun h => ?_)
    refine kz_aload_n (M := kt_M83) kX11_met_c8.1 rfl ?_
    refine kz_gfc (M := kt_M83) (x := 3577) (c := 10) (o := 0) kX11_met_c8.2.1 wf_X11_31 (.inl rfl) ?_
    refine kz_iload (M := kt_M83) kX11_met_c8.2.2.1 rfl ?_
    refine kz_ic (M := kt_M83) 4 kX11_met_c8.2.2.2.1 rfl ?_
    refine kz_iadd (M := kt_M83) kX11_met_c8.2.2.2.2.1 ?_
    refine kz_iload (M := kt_M83) kX11_met_c8.2.2.2.2.2.1 rfl ?_
    refine kz_iastR (M := kt_M83) (n := w_n w4 10 0 17) (c := 10) (o := 0) (k := 17) (a := (E.2.1 3577)) kX11_met_c8.2.2.2.2.2.2.1 ow_10_0_17 oa_10_0_17 ot_0 (rd_n_a.trans (rd_n_a.trans rd_n_a)) h (fun h => ?_)
    refine kz_aload_n (M := kt_M83) kX11_met_c8.2.2.2.2.2.2.2.1 rfl ?_
    refine kz_gfc (M := kt_M83) (x := 3577) (c := 10) (o := 0) kX11_met_c9.1 wf_X11_31 (.inl rfl) ?_
    refine kz_iload (M := kt_M83) kX11_met_c9.2.1 rfl ?_
    refine kz_ic (M := kt_M83) 5 kX11_met_c9.2.2.1 rfl ?_
    refine kz_iadd (M := kt_M83) kX11_met_c9.2.2.2.1 ?_
    refine kz_aload_nv (M := kt_M83) (x := x2) kX11_met_c9.2.2.2.2.1 rfl ?_
    refine kz_nz0 (x := x2) hxp1 ?_
    refine kz_gfa (M := kt_M83) (c := 17) (o := p1) kX11_met_c9.2.2.2.2.2.1 wf_X11_425 (.inr (by exact hlp1)) ?_
    refine kz_ic (M := kt_M83) 1 kX11_met_c9.2.2.2.2.2.2.1 rfl ?_
    refine kz_ialdR (M := kt_M83) (n := w_n w4 17 p1 12) (c := 17) (o := p1) (k := 12) (a := (w_d (ws_a (ws_a (ws_a (ws_a w4 10 0 17 ((x4 + 1)).toNatClampNeg v5) 10 0 17 ((x4 + 2)).toNatClampNeg (w_i w4 17 p1 0)) 10 0 17 ((x4 + 3)).toNatClampNeg (w_i w4 17 p6 0)) 10 0 17 ((x4 + 4)).toNatClampNeg x5) 17 p1 12)) (w_a w4 17 p1 12 (1 : Int32).toNatClampNeg) kX11_met_c9.2.2.2.2.2.2.2.1 (.inr ⟨.inr (by exact hlp1), rfl, rfl⟩) rfl ot_0 (rd_n_a.trans (rd_n_a.trans (rd_n_a.trans rd_n_a))) ((rd_a_a rfl).trans ((rd_a_a rfl).trans ((rd_a_a rfl).trans (rd_a_a rfl)))) h (fun h => ?_)
    refine kz_ic (M := kt_M83) (-1) kX11_met_c10.1 rfl ?_
    refine kz_icmp_ne (M := kt_M83) kX11_met_c10.2.1 (t := 149) rfl h (fun h => ?_) (fun h => ?_)
    · skip
      refine kz_aload_n (M := kt_M83) kX11_met_c10.2.2.2.2.2.2.2.1 rfl ?_
      refine kz_gfc (M := kt_M83) (x := 44) (c := 10) (o := 0) kX11_met_c11.1 wf_X11_12 (.inl rfl) ?_
      refine kz_aload_nv (M := kt_M83) (x := x2) kX11_met_c11.2.1 rfl ?_
      refine kz_nz0 (x := x2) hxp1 ?_
      refine kz_gfa (M := kt_M83) (c := 17) (o := p1) kX11_met_c11.2.2.1 wf_X11_425 (.inr (by exact hlp1)) ?_
      refine kz_ic (M := kt_M83) 0 kX11_met_c11.2.2.2.1 rfl ?_
      refine kz_ialdR (M := kt_M83) (n := w_n w4 17 p1 12) (c := 17) (o := p1) (k := 12) (a := (w_d (ws_a (ws_a (ws_a (ws_a w4 10 0 17 ((x4 + 1)).toNatClampNeg v5) 10 0 17 ((x4 + 2)).toNatClampNeg (w_i w4 17 p1 0)) 10 0 17 ((x4 + 3)).toNatClampNeg (w_i w4 17 p6 0)) 10 0 17 ((x4 + 4)).toNatClampNeg x5) 17 p1 12)) (w_a w4 17 p1 12 (0 : Int32).toNatClampNeg) kX11_met_c11.2.2.2.2.1 (.inr ⟨.inr (by exact hlp1), rfl, rfl⟩) rfl ot_0 (rd_n_a.trans (rd_n_a.trans (rd_n_a.trans rd_n_a))) ((rd_a_a rfl).trans ((rd_a_a rfl).trans ((rd_a_a rfl).trans (rd_a_a rfl)))) h (fun h => ?_)
      refine kz_cv1 (M := kt_M83) (c := 11) (o := 0) (As := [.int (w_a w4 17 p1 12 (0 : Int32).toNatClampNeg)]) (rest := [.int (x4 + 5), .ref (E.2.1 3577)]) kX11_met_c11.2.2.2.2.2.1 wl_X11_307 wMv_123 rfl (.inl rfl) rfl (Nat.le_trans (Nat.le_of_ble_eq_true rfl) hL) (Nat.le_of_ble_eq_true rfl) (Nat.le_of_ble_eq_true rfl) h (fun v8 w7 hle h => ?_) (fun _ _ _ h => kzx_no rfl h)
      have h := h hle
      have hlp1 := w_l_le hlp1 hle
      have hlp6 := w_l_le hlp6 hle
      exact kz_weak [(0, .ref (w_adr E.2.1 10 0)), (4, .int x4)] ⟨rfl, ⟨rfl, trivial⟩⟩ rfl (zt_X11_met_p162 hL  h)
    · skip
      refine kz_aload_nv (M := kt_M83) (x := x2) kX11_met_c10.2.2.1 rfl ?_
      refine kz_nz0 (x := x2) hxp1 ?_
      refine kz_gfa (M := kt_M83) (c := 17) (o := p1) kX11_met_c10.2.2.2.1 wf_X11_425 (.inr (by exact hlp1)) ?_
      refine kz_ic (M := kt_M83) 0 kX11_met_c10.2.2.2.2.1 rfl ?_
      refine kz_ialdR (M := kt_M83) (n := w_n w4 17 p1 12) (c := 17) (o := p1) (k := 12) (a := (w_d (ws_a (ws_a (ws_a (ws_a w4 10 0 17 ((x4 + 1)).toNatClampNeg v5) 10 0 17 ((x4 + 2)).toNatClampNeg (w_i w4 17 p1 0)) 10 0 17 ((x4 + 3)).toNatClampNeg (w_i w4 17 p6 0)) 10 0 17 ((x4 + 4)).toNatClampNeg x5) 17 p1 12)) (w_a w4 17 p1 12 (0 : Int32).toNatClampNeg) kX11_met_c10.2.2.2.2.2.1 (.inr ⟨.inr (by exact hlp1), rfl, rfl⟩) rfl ot_0 (rd_n_a.trans (rd_n_a.trans (rd_n_a.trans rd_n_a))) ((rd_a_a rfl).trans ((rd_a_a rfl).trans ((rd_a_a rfl).trans (rd_a_a rfl)))) h (fun h => ?_)
      refine kz_goto (M := kt_M83) kX11_met_c10.2.2.2.2.2.2.1 (t := 162) rfl ?_
      exact kz_weak [(0, .ref (w_adr E.2.1 10 0)), (4, .int x4)] ⟨rfl, ⟨rfl, trivial⟩⟩ rfl (zt_X11_met_p162 hL  h)
  · skip
    refine kz_iload (M := kt_M83) kX11_met_c1.2.2.2.2.2.2.2.1 rfl ?_
    refine kz_aload_nv (M := kt_M83) (x := x2) kX11_met_c2.1 rfl ?_
    refine kz_nz0 (x := x2) hxp1 ?_
    refine kz_gfa (M := kt_M83) (c := 17) (o := p1) kX11_met_c2.2.1 wf_X11_425 (.inr (by exact hlp1)) ?_
    refine kz_iload (M := kt_M83) kX11_met_c2.2.2.1 rfl ?_
    refine kz_iald (M := kt_M83) (c := 17) (o := p1) (k := 12) (a := (w_d w 17 p1 12)) kX11_met_c2.2.2.2.1 (.inr ⟨.inr (by exact hlp1), rfl, rfl⟩) rfl ot_0 h (fun h => ?_)
    refine kz_ic (M := kt_M83) 1 kX11_met_c2.2.2.2.2.1 rfl ?_
    refine kz_mmax (M := kt_M83) kX11_met_c2.2.2.2.2.2.1 zm_l_X11_366 zm_s_max zm_i zm_c_max (Nat.le_trans (Nat.le_of_ble_eq_true rfl) hL) (Nat.le_of_ble_eq_true rfl) ?_
    refine kz_iadd (M := kt_M83) kX11_met_c2.2.2.2.2.2.2.1 ?_
    refine kz_sti (M := kt_M83) [(0, .ref (w_adr E.2.1 10 0)), (1, .int x1), (2, va_rf (x2)), (3, va_rf (x3)), (4, .int x4), (6, .int x6)] kX11_met_c2.2.2.2.2.2.2.2.1 (Nat.le_of_ble_eq_true rfl) ⟨⟨rfl, rfl, .inl rfl⟩, ⟨⟨rfl, rfl, .inl rfl⟩, ⟨⟨rfl, rfl, .inl rfl⟩, ⟨⟨rfl, rfl, .inl rfl⟩, ⟨⟨rfl, rfl, .inr rfl⟩, ⟨⟨rfl, rfl, .inl rfl⟩, trivial⟩⟩⟩⟩⟩⟩ rfl ?_
    refine kz_inc (M := kt_M83) [(0, .ref (w_adr E.2.1 10 0)), (1, .int x1), (2, va_rf (x2)), (3, va_rf (x3)), (4, .int x4), (5, .int (x5 + (if (w_a w 17 p1 12 (x6).toNatClampNeg) < 1 then 1 else (w_a w 17 p1 12 (x6).toNatClampNeg))))] kX11_met_c3.1 rfl (Nat.le_of_ble_eq_true rfl) ⟨⟨rfl, rfl, .inl rfl⟩, ⟨⟨rfl, rfl, .inl rfl⟩, ⟨⟨rfl, rfl, .inl rfl⟩, ⟨⟨rfl, rfl, .inl rfl⟩, ⟨⟨rfl, rfl, .inl rfl⟩, ⟨⟨rfl, rfl, .inr rfl⟩, trivial⟩⟩⟩⟩⟩⟩ rfl ?_
    refine kz_goto (M := kt_M83) kX11_met_c3.2.1 (t := 18) rfl ?_
    exact kz_weak [(0, .ref (w_adr E.2.1 10 0)), (1, .int x1), (2, va_rf (x2)), (3, va_rf (x3)), (4, .int x4), (5, .int (x5 + (if (w_a w 17 p1 12 (x6).toNatClampNeg) < 1 then 1 else (w_a w 17 p1 12 (x6).toNatClampNeg)))), (6, .int (x6 + 2))] ⟨rfl, ⟨rfl, ⟨rfl, ⟨rfl, ⟨rfl, ⟨rfl, ⟨rfl, trivial⟩⟩⟩⟩⟩⟩⟩ rfl h
def zb_X11_met_p0 (E : zE) (L : Nat) (Q : kx_Rs → wS → Prop) (x1 : Int32) (x2 : Option Nat) (x3 : Option Nat) (w : wS) : Prop := zL_X11_met_p18 E L Q x1 x2 x3 (((w_i w 10 0 9) - (w_i w 10 0 9) / 64 * 64) * 7) 0 1 w
theorem zt_X11_met_p0 {E : zE} {L : Nat} {Q : kx_Rs → wS → Prop} {x1 : Int32} {x2 : Option Nat} {x3 : Option Nat} {w : wS} (hL : 25 ≤ L) (h : zb_X11_met_p0 E L Q x1 x2 x3 w) : kzE E L kt_M83 0 [(0, .ref (w_adr E.2.1 10 0)), (1, .int x1), (2, va_rf (x2)), (3, va_rf (x3))] [] w Q := by
  unfold zb_X11_met_p0 at h
  refine kz_aload_n (M := kt_M83) kX11_met_c0.1 rfl ?_
  refine kz_gfi (M := kt_M83) (c := 10) (o := 0) kX11_met_c0.2.1 wf_X11_180 (.inl rfl) ?_
  refine kz_bi (M := kt_M83) 64 kX11_met_c0.2.2.1 rfl ?_
  refine kz_irem (M := kt_M83) kX11_met_c0.2.2.2.1 (by decide) ?_
  refine kz_bi (M := kt_M83) 7 kX11_met_c0.2.2.2.2.1 rfl ?_
  refine kz_imul (M := kt_M83) kX11_met_c0.2.2.2.2.2.1 ?_
  refine kz_sti (M := kt_M83) [(0, .ref (w_adr E.2.1 10 0)), (1, .int x1), (2, va_rf (x2)), (3, va_rf (x3))] kX11_met_c0.2.2.2.2.2.2.1 (Nat.le_of_ble_eq_true rfl) ⟨⟨rfl, rfl, .inl rfl⟩, ⟨⟨rfl, rfl, .inl rfl⟩, ⟨⟨rfl, rfl, .inl rfl⟩, ⟨⟨rfl, rfl, .inr (w_cat (x3))⟩, trivial⟩⟩⟩⟩ rfl ?_
  refine kz_ic (M := kt_M83) 0 kX11_met_c0.2.2.2.2.2.2.2.1 rfl ?_
  refine kz_sti (M := kt_M83) [(0, .ref (w_adr E.2.1 10 0)), (1, .int x1), (2, va_rf (x2)), (3, va_rf (x3)), (4, .int (((w_i w 10 0 9) - (w_i w 10 0 9) / 64 * 64) * 7))] kX11_met_c1.1 (Nat.le_of_ble_eq_true rfl) ⟨⟨rfl, rfl, .inl rfl⟩, ⟨⟨rfl, rfl, .inl rfl⟩, ⟨⟨rfl, rfl, .inl rfl⟩, ⟨⟨rfl, rfl, .inl rfl⟩, ⟨⟨rfl, rfl, .inr rfl⟩, trivial⟩⟩⟩⟩⟩ rfl ?_
  refine kz_ic (M := kt_M83) 1 kX11_met_c1.2.1 rfl ?_
  refine kz_sti (M := kt_M83) [(0, .ref (w_adr E.2.1 10 0)), (1, .int x1), (2, va_rf (x2)), (3, va_rf (x3)), (4, .int (((w_i w 10 0 9) - (w_i w 10 0 9) / 64 * 64) * 7)), (5, .int 0)] kX11_met_c1.2.2.1 (Nat.le_of_ble_eq_true rfl) ⟨⟨rfl, rfl, .inl rfl⟩, ⟨⟨rfl, rfl, .inl rfl⟩, ⟨⟨rfl, rfl, .inl rfl⟩, ⟨⟨rfl, rfl, .inl rfl⟩, ⟨⟨rfl, rfl, .inl rfl⟩, ⟨⟨rfl, rfl, .inr rfl⟩, trivial⟩⟩⟩⟩⟩⟩ rfl ?_
  exact kz_weak [(0, .ref (w_adr E.2.1 10 0)), (1, .int x1), (2, va_rf (x2)), (3, va_rf (x3)), (4, .int (((w_i w 10 0 9) - (w_i w 10 0 9) / 64 * 64) * 7)), (5, .int 0), (6, .int 1)] ⟨rfl, ⟨rfl, ⟨rfl, ⟨rfl, ⟨rfl, ⟨rfl, ⟨rfl, trivial⟩⟩⟩⟩⟩⟩⟩ rfl h
def zL_X11_lineOf_p55 (E : zE) (L : Nat) (Q : kx_Rs → wS → Prop) (x3 : Int32) (x4 : Int32) (x5 : Int32) (w : wS) : Prop := kzE E L kt_M80 55 [(0, .ref (w_adr E.2.1 10 0)), (3, .int x3), (4, .int x4), (5, .int x5)] [] w Q
def zb_X11_lineOf_p120 (E : zE) (L : Nat) (Q : kx_Rs → wS → Prop) (x3 : Int32) (x4 : Int32) (x5 : Int32) (w : wS) : Prop := zL_X11_lineOf_p55 E L Q x3 x4 (x5 + 3) w
theorem zt_X11_lineOf_p120 {E : zE} {L : Nat} {Q : kx_Rs → wS → Prop} {x3 : Int32} {x4 : Int32} {x5 : Int32} {w : wS} (hL : 21 ≤ L) (h : zb_X11_lineOf_p120 E L Q x3 x4 x5 w) : kzE E L kt_M80 120 [(0, .ref (w_adr E.2.1 10 0)), (3, .int x3), (4, .int x4), (5, .int x5)] [] w Q := by
  unfold zb_X11_lineOf_p120 at h
  refine kz_inc (M := kt_M80) [(0, .ref (w_adr E.2.1 10 0)), (3, .int x3), (4, .int x4)] kX11_lineOf_c8.1 rfl (Nat.le_of_ble_eq_true rfl) ⟨⟨rfl, rfl, .inl rfl⟩, ⟨⟨rfl, rfl, .inl rfl⟩, ⟨⟨rfl, rfl, .inr rfl⟩, trivial⟩⟩⟩ rfl ?_
  refine kz_goto (M := kt_M80) kX11_lineOf_c8.2.1 (t := 55) rfl ?_
  exact kz_weak [(0, .ref (w_adr E.2.1 10 0)), (3, .int x3), (4, .int x4), (5, .int (x5 + 3))] ⟨rfl, ⟨rfl, ⟨rfl, ⟨rfl, trivial⟩⟩⟩⟩ rfl h
def zb_X11_lineOf_p55 (E : zE) (L : Nat) (Q : kx_Rs → wS → Prop) (x3 : Int32) (x4 : Int32) (x5 : Int32) (w : wS) : Prop := (if w_i w 9 1 1 ≤ x5 then Q (.inl (some (.int 0))) w else zw E (L - 21) kt_M221 [.ref (w_adr E.2.1 9 1), .int x5] w (wk1 (fun v2 w1 => wle w w1 → (if ¬ v2 = x3 then zb_X11_lineOf_p120 E L Q x3 x4 x5 w1 else zw E (L - 21) kt_M221 [.ref (w_adr E.2.1 9 1), .int (x5 + 1)] w1 (wk1 (fun v4 w3 => wle w1 w3 → (if ¬ v4 = x4 then zb_X11_lineOf_p120 E L Q x3 x4 x5 w3 else zw E (L - 21) kt_M221 [.ref (w_adr E.2.1 9 1), .int (x5 + 2)] w3 (wk1 (fun v6 w5 => wle w3 w5 → Q (.inl (some (.int v6))) w5) (fun e w => Q (.inr e) w)))) (fun e w => Q (.inr e) w)))) (fun e w => Q (.inr e) w)))
theorem zt_X11_lineOf_p55 {E : zE} {L : Nat} {Q : kx_Rs → wS → Prop} {x3 : Int32} {x4 : Int32} {x5 : Int32} {w : wS} (hL : 21 ≤ L) (h : zb_X11_lineOf_p55 E L Q x3 x4 x5 w) : kzE E L kt_M80 55 [(0, .ref (w_adr E.2.1 10 0)), (3, .int x3), (4, .int x4), (5, .int x5)] [] w Q := by
  unfold zb_X11_lineOf_p55 at h
  refine kz_iload (M := kt_M80) kX11_lineOf_c4.2.2.1 rfl ?_
  refine kz_aload_n (M := kt_M80) kX11_lineOf_c4.2.2.2.1 rfl ?_
  refine kz_gfc (M := kt_M80) (x := 32) (c := 10) (o := 0) kX11_lineOf_c4.2.2.2.2.1 wf_X11_41 (.inl rfl) ?_
  refine kz_gfc (M := kt_M80) (x := 37) (c := 8) (o := 0) kX11_lineOf_c4.2.2.2.2.2.1 wf_X11_485 (.inl rfl) ?_
  refine kz_gfNi (M := kt_M80) (c := 9) (o := 1) kX11_lineOf_c4.2.2.2.2.2.2.1 wfn_X11_363 (.inl rfl) ?_
  refine kz_icmp_ge (M := kt_M80) kX11_lineOf_c4.2.2.2.2.2.2.2.1 (t := 126) rfl h (fun h => ?_) (fun h => ?_)
  · skip
    refine kz_ic (M := kt_M80) 0 kX11_lineOf_c8.2.2.1 rfl ?_
    exact kz_iret (M := kt_M80) kX11_lineOf_c8.2.2.2.1 rfl rfl h
  · skip
    refine kz_aload_n (M := kt_M80) kX11_lineOf_c5.1 rfl ?_
    refine kz_gfc (M := kt_M80) (x := 32) (c := 10) (o := 0) kX11_lineOf_c5.2.1 wf_X11_41 (.inl rfl) ?_
    refine kz_gfc (M := kt_M80) (x := 37) (c := 8) (o := 0) kX11_lineOf_c5.2.2.1 wf_X11_485 (.inl rfl) ?_
    refine kz_iload (M := kt_M80) kX11_lineOf_c5.2.2.2.1 rfl ?_
    refine kz_cv1 (M := kt_M80) (c := 9) (o := 1) (As := [.int x5]) (rest := []) kX11_lineOf_c5.2.2.2.2.1 wl_X11_62 wMv_221 rfl (.inl rfl) rfl (Nat.le_trans (Nat.le_of_ble_eq_true rfl) hL) (Nat.le_of_ble_eq_true rfl) (Nat.le_of_ble_eq_true rfl) h (fun v2 w1 hle h => ?_) (fun _ _ _ h => kzx_no rfl h)
    have h := h hle
    refine kz_iload_n (M := kt_M80) kX11_lineOf_c5.2.2.2.2.2.1 rfl ?_
    refine kz_icmp_ne (M := kt_M80) kX11_lineOf_c5.2.2.2.2.2.2.1 (t := 120) rfl h (fun h => ?_) (fun h => ?_)
    · skip
      exact kz_weak [(0, .ref (w_adr E.2.1 10 0)), (3, .int x3), (4, .int x4), (5, .int x5)] ⟨rfl, ⟨rfl, ⟨rfl, ⟨rfl, trivial⟩⟩⟩⟩ rfl (zt_X11_lineOf_p120 hL  h)
    · skip
      refine kz_aload_n (M := kt_M80) kX11_lineOf_c5.2.2.2.2.2.2.2.1 rfl ?_
      refine kz_gfc (M := kt_M80) (x := 32) (c := 10) (o := 0) kX11_lineOf_c6.1 wf_X11_41 (.inl rfl) ?_
      refine kz_gfc (M := kt_M80) (x := 37) (c := 8) (o := 0) kX11_lineOf_c6.2.1 wf_X11_485 (.inl rfl) ?_
      refine kz_iload (M := kt_M80) kX11_lineOf_c6.2.2.1 rfl ?_
      refine kz_ic (M := kt_M80) 1 kX11_lineOf_c6.2.2.2.1 rfl ?_
      refine kz_iadd (M := kt_M80) kX11_lineOf_c6.2.2.2.2.1 ?_
      refine kz_cv1 (M := kt_M80) (c := 9) (o := 1) (As := [.int (x5 + 1)]) (rest := []) kX11_lineOf_c6.2.2.2.2.2.1 wl_X11_62 wMv_221 rfl (.inl rfl) rfl (Nat.le_trans (Nat.le_of_ble_eq_true rfl) hL) (Nat.le_of_ble_eq_true rfl) (Nat.le_of_ble_eq_true rfl) h (fun v4 w3 hle h => ?_) (fun _ _ _ h => kzx_no rfl h)
      have h := h hle
      refine kz_iload (M := kt_M80) kX11_lineOf_c6.2.2.2.2.2.2.1 rfl ?_
      refine kz_icmp_ne (M := kt_M80) kX11_lineOf_c6.2.2.2.2.2.2.2.1 (t := 120) rfl h (fun h => ?_) (fun h => ?_)
      · skip
        exact kz_weak [(0, .ref (w_adr E.2.1 10 0)), (3, .int x3), (4, .int x4), (5, .int x5)] ⟨rfl, ⟨rfl, ⟨rfl, ⟨rfl, trivial⟩⟩⟩⟩ rfl (zt_X11_lineOf_p120 hL  h)
      · skip
        refine kz_aload_n (M := kt_M80) kX11_lineOf_c7.1 rfl ?_
        refine kz_gfc (M := kt_M80) (x := 32) (c := 10) (o := 0) kX11_lineOf_c7.2.1 wf_X11_41 (.inl rfl) ?_
        refine kz_gfc (M := kt_M80) (x := 37) (c := 8) (o := 0) kX11_lineOf_c7.2.2.1 wf_X11_485 (.inl rfl) ?_
        refine kz_iload (M := kt_M80) kX11_lineOf_c7.2.2.2.1 rfl ?_
        refine kz_ic (M := kt_M80) 2 kX11_lineOf_c7.2.2.2.2.1 rfl ?_
        refine kz_iadd (M := kt_M80) kX11_lineOf_c7.2.2.2.2.2.1 ?_
        refine kz_cv1 (M := kt_M80) (c := 9) (o := 1) (As := [.int (x5 + 2)]) (rest := []) kX11_lineOf_c7.2.2.2.2.2.2.1 wl_X11_62 wMv_221 rfl (.inl rfl) rfl (Nat.le_trans (Nat.le_of_ble_eq_true rfl) hL) (Nat.le_of_ble_eq_true rfl) (Nat.le_of_ble_eq_true rfl) h (fun v6 w5 hle h => ?_) (fun _ _ _ h => kzx_no rfl h)
        have h := h hle
        exact kz_iret (M := kt_M80) kX11_lineOf_c7.2.2.2.2.2.2.2.1 rfl rfl h
def zb_X11_lineOf_p0 (E : zE) (L : Nat) (Q : kx_Rs → wS → Prop) (x1 : Int32) (w : wS) : Prop := (if 0 ≤ x1 then (kx_inb (x1 >>> (13 &&& 31)) (w_n w 11 0 3) = true ∧ (if w_a w 11 0 3 ((x1 >>> (13 &&& 31))).toNatClampNeg ≤ 0 then (kx_inb (x1 >>> (13 &&& 31)) (w_n w 11 0 3) = true ∧ zL_X11_lineOf_p55 E L Q ((-1 : Int32) - (w_a w 11 0 3 ((x1 >>> (13 &&& 31))).toNatClampNeg)) (x1 &&& 8191) 0 w) else (kx_inb (x1 >>> (13 &&& 31)) (w_n w 11 0 3) = true ∧ Q (.inl (some (.int (w_a w 11 0 3 ((x1 >>> (13 &&& 31))).toNatClampNeg)))) w))) else Q (.inl (some (.int 0))) w)
theorem zt_X11_lineOf_p0 {E : zE} {L : Nat} {Q : kx_Rs → wS → Prop} {x1 : Int32} {w : wS} (hL : 21 ≤ L) (h : zb_X11_lineOf_p0 E L Q x1 w) : kzE E L kt_M80 0 [(0, .ref (w_adr E.2.1 10 0)), (1, .int x1)] [] w Q := by
  unfold zb_X11_lineOf_p0 at h
  refine kz_iload_n (M := kt_M80) kX11_lineOf_c0.1 rfl ?_
  refine kz_if_ge (M := kt_M80) kX11_lineOf_c0.2.1 (t := 6) rfl h (fun h => ?_) (fun h => ?_)
  · skip
    refine kz_iload_n (M := kt_M80) kX11_lineOf_c0.2.2.2.2.1 rfl ?_
    refine kz_bi (M := kt_M80) 13 kX11_lineOf_c0.2.2.2.2.2.1 rfl ?_
    refine kz_ishr (M := kt_M80) kX11_lineOf_c0.2.2.2.2.2.2.1 ?_
    refine kz_sti_n (M := kt_M80) [(0, .ref (w_adr E.2.1 10 0)), (1, .int x1)] kX11_lineOf_c0.2.2.2.2.2.2.2.1 (Nat.le_of_ble_eq_true rfl) ⟨⟨rfl, rfl, .inl rfl⟩, ⟨⟨rfl, rfl, .inr rfl⟩, trivial⟩⟩ rfl ?_
    refine kz_aload_n (M := kt_M80) kX11_lineOf_c1.1 rfl ?_
    refine kz_gfc (M := kt_M80) (x := 44) (c := 10) (o := 0) kX11_lineOf_c1.2.1 wf_X11_12 (.inl rfl) ?_
    refine kz_gfNa (M := kt_M80) (c := 11) (o := 0) kX11_lineOf_c1.2.2.1 wfn_X11_482 (.inl rfl) ?_
    refine kz_iload_n (M := kt_M80) kX11_lineOf_c1.2.2.2.1 rfl ?_
    refine kz_iald (M := kt_M80) (c := 11) (o := 0) (k := 3) (a := (w_d w 11 0 3)) kX11_lineOf_c1.2.2.2.2.1 ow_11_0_3 oa_11_0_3 ot_0 h (fun h => ?_)
    refine kz_if_le (M := kt_M80) kX11_lineOf_c1.2.2.2.2.2.1 (t := 33) rfl h (fun h => ?_) (fun h => ?_)
    · skip
      refine kz_ic (M := kt_M80) (-1) kX11_lineOf_c2.2.2.2.2.1 rfl ?_
      refine kz_aload_n (M := kt_M80) kX11_lineOf_c2.2.2.2.2.2.1 rfl ?_
      refine kz_gfc (M := kt_M80) (x := 44) (c := 10) (o := 0) kX11_lineOf_c2.2.2.2.2.2.2.1 wf_X11_12 (.inl rfl) ?_
      refine kz_gfNa (M := kt_M80) (c := 11) (o := 0) kX11_lineOf_c2.2.2.2.2.2.2.2.1 wfn_X11_482 (.inl rfl) ?_
      refine kz_iload_n (M := kt_M80) kX11_lineOf_c3.1 rfl ?_
      refine kz_iald (M := kt_M80) (c := 11) (o := 0) (k := 3) (a := (w_d w 11 0 3)) kX11_lineOf_c3.2.1 ow_11_0_3 oa_11_0_3 ot_0 h (fun h => ?_)
      refine kz_isub (M := kt_M80) kX11_lineOf_c3.2.2.1 ?_
      refine kz_sti_n (M := kt_M80) [(0, .ref (w_adr E.2.1 10 0)), (1, .int x1)] kX11_lineOf_c3.2.2.2.1 (Nat.le_of_ble_eq_true rfl) ⟨⟨rfl, rfl, .inl rfl⟩, ⟨⟨rfl, rfl, .inl rfl⟩, trivial⟩⟩ rfl ?_
      refine kz_iload_n (M := kt_M80) kX11_lineOf_c3.2.2.2.2.1 rfl ?_
      refine kz_si (M := kt_M80) 8191 kX11_lineOf_c3.2.2.2.2.2.1 rfl ?_
      refine kz_iand (M := kt_M80) kX11_lineOf_c3.2.2.2.2.2.2.1 ?_
      refine kz_sti (M := kt_M80) [(0, .ref (w_adr E.2.1 10 0)), (3, .int ((-1 : Int32) - (w_a w 11 0 3 ((x1 >>> (13 &&& 31))).toNatClampNeg)))] kX11_lineOf_c3.2.2.2.2.2.2.2.1 (Nat.le_of_ble_eq_true rfl) ⟨⟨rfl, rfl, .inl rfl⟩, ⟨⟨rfl, rfl, .inr rfl⟩, trivial⟩⟩ rfl ?_
      refine kz_ic (M := kt_M80) 0 kX11_lineOf_c4.1 rfl ?_
      refine kz_sti (M := kt_M80) [(0, .ref (w_adr E.2.1 10 0)), (3, .int ((-1 : Int32) - (w_a w 11 0 3 ((x1 >>> (13 &&& 31))).toNatClampNeg))), (4, .int (x1 &&& 8191))] kX11_lineOf_c4.2.1 (Nat.le_of_ble_eq_true rfl) ⟨⟨rfl, rfl, .inl rfl⟩, ⟨⟨rfl, rfl, .inl rfl⟩, ⟨⟨rfl, rfl, .inr rfl⟩, trivial⟩⟩⟩ rfl ?_
      exact kz_weak [(0, .ref (w_adr E.2.1 10 0)), (3, .int ((-1 : Int32) - (w_a w 11 0 3 ((x1 >>> (13 &&& 31))).toNatClampNeg))), (4, .int (x1 &&& 8191)), (5, .int 0)] ⟨rfl, ⟨rfl, ⟨rfl, ⟨rfl, trivial⟩⟩⟩⟩ rfl h
    · skip
      refine kz_aload_n (M := kt_M80) kX11_lineOf_c1.2.2.2.2.2.2.1 rfl ?_
      refine kz_gfc (M := kt_M80) (x := 44) (c := 10) (o := 0) kX11_lineOf_c1.2.2.2.2.2.2.2.1 wf_X11_12 (.inl rfl) ?_
      refine kz_gfNa (M := kt_M80) (c := 11) (o := 0) kX11_lineOf_c2.1 wfn_X11_482 (.inl rfl) ?_
      refine kz_iload_n (M := kt_M80) kX11_lineOf_c2.2.1 rfl ?_
      refine kz_iald (M := kt_M80) (c := 11) (o := 0) (k := 3) (a := (w_d w 11 0 3)) kX11_lineOf_c2.2.2.1 ow_11_0_3 oa_11_0_3 ot_0 h (fun h => ?_)
      exact kz_iret (M := kt_M80) kX11_lineOf_c2.2.2.2.1 rfl rfl h
  · skip
    refine kz_ic (M := kt_M80) 0 kX11_lineOf_c0.2.2.1 rfl ?_
    exact kz_iret (M := kt_M80) kX11_lineOf_c0.2.2.2.1 rfl rfl h
def zb_X11_numberOf_p30 (E : zE) (L : Nat) (Q : kx_Rs → wS → Prop) (y0 : Int32) (w : wS) : Prop := Q (.inl (some (.int y0))) w
theorem zt_X11_numberOf_p30 {E : zE} {L : Nat} {Q : kx_Rs → wS → Prop} {y0 : Int32} {w : wS} (hL : 19 ≤ L) (h : zb_X11_numberOf_p30 E L Q y0 w) : kzE E L kt_M89 30 [(0, .ref (w_adr E.2.1 10 0))] [.int y0] w Q := by
  unfold zb_X11_numberOf_p30 at h
  exact kz_iret (M := kt_M89) kX11_numberOf_c2.2.1 rfl rfl h
def zb_X11_numberOf_p29 (E : zE) (L : Nat) (Q : kx_Rs → wS → Prop) (w : wS) : Prop := zb_X11_numberOf_p30 E L Q 0 w
theorem zt_X11_numberOf_p29 {E : zE} {L : Nat} {Q : kx_Rs → wS → Prop} {w : wS} (hL : 19 ≤ L) (h : zb_X11_numberOf_p29 E L Q  w) : kzE E L kt_M89 29 [(0, .ref (w_adr E.2.1 10 0))] [] w Q := by
  unfold zb_X11_numberOf_p29 at h
  refine kz_ic (M := kt_M89) 0 kX11_numberOf_c2.1 rfl ?_
  exact kz_weak [(0, .ref (w_adr E.2.1 10 0))] ⟨rfl, trivial⟩ rfl (zt_X11_numberOf_p30 hL  h)
def zb_X11_numberOf_p0 (E : zE) (L : Nat) (Q : kx_Rs → wS → Prop) (x1 : Int32) (w : wS) : Prop := (if x1 < 0 then zb_X11_numberOf_p29 E L Q w else (kx_inb (x1 >>> (13 &&& 31)) (w_n w 11 0 3) = true ∧ (if w_a w 11 0 3 ((x1 >>> (13 &&& 31))).toNatClampNeg ≤ 0 then zb_X11_numberOf_p29 E L Q w else zb_X11_numberOf_p30 E L Q ((x1 &&& 8191) / 2) w)))
theorem zt_X11_numberOf_p0 {E : zE} {L : Nat} {Q : kx_Rs → wS → Prop} {x1 : Int32} {w : wS} (hL : 19 ≤ L) (h : zb_X11_numberOf_p0 E L Q x1 w) : kzE E L kt_M89 0 [(0, .ref (w_adr E.2.1 10 0)), (1, .int x1)] [] w Q := by
  unfold zb_X11_numberOf_p0 at h
  refine kz_iload_n (M := kt_M89) kX11_numberOf_c0.1 rfl ?_
  refine kz_if_lt (M := kt_M89) kX11_numberOf_c0.2.1 (t := 29) rfl h (fun h => ?_) (fun h => ?_)
  · skip
    exact kz_weak [(0, .ref (w_adr E.2.1 10 0))] ⟨rfl, trivial⟩ rfl (zt_X11_numberOf_p29 hL  h)
  · skip
    refine kz_aload_n (M := kt_M89) kX11_numberOf_c0.2.2.1 rfl ?_
    refine kz_gfc (M := kt_M89) (x := 44) (c := 10) (o := 0) kX11_numberOf_c0.2.2.2.1 wf_X11_12 (.inl rfl) ?_
    refine kz_gfNa (M := kt_M89) (c := 11) (o := 0) kX11_numberOf_c0.2.2.2.2.1 wfn_X11_482 (.inl rfl) ?_
    refine kz_iload_n (M := kt_M89) kX11_numberOf_c0.2.2.2.2.2.1 rfl ?_
    refine kz_bi (M := kt_M89) 13 kX11_numberOf_c0.2.2.2.2.2.2.1 rfl ?_
    refine kz_ishr (M := kt_M89) kX11_numberOf_c0.2.2.2.2.2.2.2.1 ?_
    refine kz_iald (M := kt_M89) (c := 11) (o := 0) (k := 3) (a := (w_d w 11 0 3)) kX11_numberOf_c1.1 ow_11_0_3 oa_11_0_3 ot_0 h (fun h => ?_)
    refine kz_if_le (M := kt_M89) kX11_numberOf_c1.2.1 (t := 29) rfl h (fun h => ?_) (fun h => ?_)
    · skip
      exact kz_weak [(0, .ref (w_adr E.2.1 10 0))] ⟨rfl, trivial⟩ rfl (zt_X11_numberOf_p29 hL  h)
    · skip
      refine kz_iload_n (M := kt_M89) kX11_numberOf_c1.2.2.1 rfl ?_
      refine kz_si (M := kt_M89) 8191 kX11_numberOf_c1.2.2.2.1 rfl ?_
      refine kz_iand (M := kt_M89) kX11_numberOf_c1.2.2.2.2.1 ?_
      refine kz_ic (M := kt_M89) 2 kX11_numberOf_c1.2.2.2.2.2.1 rfl ?_
      refine kz_idiv (M := kt_M89) kX11_numberOf_c1.2.2.2.2.2.2.1 (by decide) ?_
      refine kz_goto (M := kt_M89) kX11_numberOf_c1.2.2.2.2.2.2.2.1 (t := 30) rfl ?_
      exact kz_weak [(0, .ref (w_adr E.2.1 10 0))] ⟨rfl, trivial⟩ rfl (zt_X11_numberOf_p30 hL  h)
def zL_X11_deliver_p50 (E : zE) (L : Nat) (Q : kx_Rs → wS → Prop) (x2 : Option Nat) (x3 : Int32) (x4 : Int32) (w : wS) : Prop := kzE E L kt_M68 50 [(0, .ref (w_adr E.2.1 10 0)), (2, va_rf (x2)), (3, .int x3), (4, .int x4)] [] w Q
def zb_X11_deliver_p82 (E : zE) (L : Nat) (Q : kx_Rs → wS → Prop) (x2 : Option Nat) (x3 : Int32) (x4 : Int32) (w : wS) : Prop := Q (.inl none) (ws_i (ws_i (ws_i (ws_p (ws_i w 10 0 32 0) 10 0 21 x2) 10 0 25 x3) 10 0 26 x4) 10 0 31 1)
theorem zt_X11_deliver_p82 {E : zE} {L : Nat} {Q : kx_Rs → wS → Prop} {x2 : Option Nat} {x3 : Int32} {x4 : Int32} {w : wS} (hL : 23 ≤ L) (h : zb_X11_deliver_p82 E L Q x2 x3 x4 w) : kzE E L kt_M68 82 [(0, .ref (w_adr E.2.1 10 0)), (2, va_rf (x2)), (3, .int x3), (4, .int x4)] [] w Q := by
  unfold zb_X11_deliver_p82 at h
  refine kz_aload_n (M := kt_M68) kX11_deliver_c5.2.2.2.1 rfl ?_
  refine kz_ic (M := kt_M68) 0 kX11_deliver_c5.2.2.2.2.1 rfl ?_
  refine kz_pfz (M := kt_M68) (c := 10) (o := 0) kX11_deliver_c5.2.2.2.2.2.1 wq_X11_204 (.inl rfl) (by decide) ?_
  refine kz_aload_n (M := kt_M68) kX11_deliver_c5.2.2.2.2.2.2.1 rfl ?_
  refine kz_aload_nv (M := kt_M68) (x := x2) kX11_deliver_c5.2.2.2.2.2.2.2.1 rfl ?_
  refine kz_pfp (M := kt_M68) (n := x2) (c := 10) (o := 0) kX11_deliver_c6.1 wq_X11_110 (.inl rfl) ?_
  refine kz_aload_n (M := kt_M68) kX11_deliver_c6.2.1 rfl ?_
  refine kz_iload_n (M := kt_M68) kX11_deliver_c6.2.2.1 rfl ?_
  refine kz_pfi (M := kt_M68) (c := 10) (o := 0) kX11_deliver_c6.2.2.2.1 wq_X11_59 (.inl rfl) ?_
  refine kz_aload_n (M := kt_M68) kX11_deliver_c6.2.2.2.2.1 rfl ?_
  refine kz_iload (M := kt_M68) kX11_deliver_c6.2.2.2.2.2.1 rfl ?_
  refine kz_pfi (M := kt_M68) (c := 10) (o := 0) kX11_deliver_c6.2.2.2.2.2.2.1 wq_X11_114 (.inl rfl) ?_
  refine kz_aload_n (M := kt_M68) kX11_deliver_c6.2.2.2.2.2.2.2.1 rfl ?_
  refine kz_ic (M := kt_M68) 1 kX11_deliver_c7.1 rfl ?_
  refine kz_pfz (M := kt_M68) (c := 10) (o := 0) kX11_deliver_c7.2.1 wq_X11_115 (.inl rfl) (by decide) ?_
  exact kz_ret (M := kt_M68) kX11_deliver_c7.2.2.1 rfl h
def zb_X11_deliver_p71 (E : zE) (L : Nat) (Q : kx_Rs → wS → Prop) (x2 : Option Nat) (x3 : Int32) (x4 : Int32) (w : wS) : Prop := (if w_i w 10 0 31 = 0 then zb_X11_deliver_p82 E L Q x2 x3 x4 w else zw E (L - 20) kt_M102 [.ref (w_adr E.2.1 10 0)] w (wk0 (fun w1 => wle w w1 → zb_X11_deliver_p82 E L Q x2 x3 x4 w1) (fun e w => Q (.inr e) w)))
theorem zt_X11_deliver_p71 {E : zE} {L : Nat} {Q : kx_Rs → wS → Prop} {x2 : Option Nat} {x3 : Int32} {x4 : Int32} {w : wS} (hL : 23 ≤ L) (h : zb_X11_deliver_p71 E L Q x2 x3 x4 w) : kzE E L kt_M68 71 [(0, .ref (w_adr E.2.1 10 0)), (2, va_rf (x2)), (3, .int x3), (4, .int x4)] [] w Q := by
  unfold zb_X11_deliver_p71 at h
  refine kz_aload_n (M := kt_M68) kX11_deliver_c4.2.2.2.2.2.2.1 rfl ?_
  refine kz_gfi (M := kt_M68) (c := 10) (o := 0) kX11_deliver_c4.2.2.2.2.2.2.2.1 wf_X11_115 (.inl rfl) ?_
  refine kz_if_eq (M := kt_M68) kX11_deliver_c5.1 (t := 82) rfl h (fun h => ?_) (fun h => ?_)
  · skip
    exact kz_weak [(0, .ref (w_adr E.2.1 10 0)), (2, va_rf (x2)), (3, .int x3), (4, .int x4)] ⟨rfl, ⟨rfl, ⟨rfl, ⟨rfl, trivial⟩⟩⟩⟩ rfl (zt_X11_deliver_p82 hL  h)
  · skip
    refine kz_aload_n (M := kt_M68) kX11_deliver_c5.2.1 rfl ?_
    refine kz_cv0 (M := kt_M68) (c := 10) (o := 0) (As := []) (rest := []) kX11_deliver_c5.2.2.1 wl_X11_138 wMv_102 rfl (.inl rfl) rfl (Nat.le_trans (Nat.le_of_ble_eq_true rfl) hL) (Nat.le_of_ble_eq_true rfl) (Nat.le_of_ble_eq_true rfl) h (fun w1 hle h => ?_) (fun _ _ _ h => kzx_no rfl h)
    have h := h hle
    exact kz_weak [(0, .ref (w_adr E.2.1 10 0)), (2, va_rf (x2)), (3, .int x3), (4, .int x4)] ⟨rfl, ⟨rfl, ⟨rfl, ⟨rfl, trivial⟩⟩⟩⟩ rfl (zt_X11_deliver_p82 hL  h)
def zb_X11_deliver_p50 (E : zE) (L : Nat) (Q : kx_Rs → wS → Prop) (x2 : Option Nat) (x3 : Int32) (x4 : Int32) (w : wS) : Prop := (if w_i w 10 0 31 = 0 then zb_X11_deliver_p71 E L Q x2 x3 x4 w else (if w_i w 10 0 32 = 0 then zb_X11_deliver_p71 E L Q x2 x3 x4 w else zw E (L - 21) kt_M76 [.ref (w_adr E.2.1 10 0)] w (wk0 (fun w1 => wle w w1 → zL_X11_deliver_p50 E L Q x2 x3 x4 w1) (fun e w => Q (.inr e) w))))
theorem zt_X11_deliver_p50 {E : zE} {L : Nat} {Q : kx_Rs → wS → Prop} {x2 : Option Nat} {x3 : Int32} {x4 : Int32} {w : wS} (hL : 23 ≤ L) (h : zb_X11_deliver_p50 E L Q x2 x3 x4 w) : kzE E L kt_M68 50 [(0, .ref (w_adr E.2.1 10 0)), (2, va_rf (x2)), (3, .int x3), (4, .int x4)] [] w Q := by
  unfold zb_X11_deliver_p50 at h
  refine kz_aload_n (M := kt_M68) kX11_deliver_c3.2.2.2.2.2.1 rfl ?_
  refine kz_gfi (M := kt_M68) (c := 10) (o := 0) kX11_deliver_c3.2.2.2.2.2.2.1 wf_X11_115 (.inl rfl) ?_
  refine kz_if_eq (M := kt_M68) kX11_deliver_c3.2.2.2.2.2.2.2.1 (t := 71) rfl h (fun h => ?_) (fun h => ?_)
  · skip
    exact kz_weak [(0, .ref (w_adr E.2.1 10 0)), (2, va_rf (x2)), (3, .int x3), (4, .int x4)] ⟨rfl, ⟨rfl, ⟨rfl, ⟨rfl, trivial⟩⟩⟩⟩ rfl (zt_X11_deliver_p71 hL  h)
  · skip
    refine kz_aload_n (M := kt_M68) kX11_deliver_c4.1 rfl ?_
    refine kz_gfi (M := kt_M68) (c := 10) (o := 0) kX11_deliver_c4.2.1 wf_X11_204 (.inl rfl) ?_
    refine kz_if_eq (M := kt_M68) kX11_deliver_c4.2.2.1 (t := 71) rfl h (fun h => ?_) (fun h => ?_)
    · skip
      exact kz_weak [(0, .ref (w_adr E.2.1 10 0)), (2, va_rf (x2)), (3, .int x3), (4, .int x4)] ⟨rfl, ⟨rfl, ⟨rfl, ⟨rfl, trivial⟩⟩⟩⟩ rfl (zt_X11_deliver_p71 hL  h)
    · skip
      refine kz_aload_n (M := kt_M68) kX11_deliver_c4.2.2.2.1 rfl ?_
      refine kz_cv0 (M := kt_M68) (c := 10) (o := 0) (As := []) (rest := []) kX11_deliver_c4.2.2.2.2.1 wl_X11_167 wMv_76 rfl (.inl rfl) rfl (Nat.le_trans (Nat.le_of_ble_eq_true rfl) hL) (Nat.le_of_ble_eq_true rfl) (Nat.le_of_ble_eq_true rfl) h (fun w1 hle h => ?_) (fun _ _ _ h => kzx_no rfl h)
      have h := h hle
      refine kz_goto (M := kt_M68) kX11_deliver_c4.2.2.2.2.2.1 (t := 50) rfl ?_
      exact kz_weak [(0, .ref (w_adr E.2.1 10 0)), (2, va_rf (x2)), (3, .int x3), (4, .int x4)] ⟨rfl, ⟨rfl, ⟨rfl, ⟨rfl, trivial⟩⟩⟩⟩ rfl h
def zb_X11_deliver_p0 (E : zE) (L : Nat) (Q : kx_Rs → wS → Prop) (x1 : Option Nat) (w : wS) : Prop := zw E (L - 21) kt_M81 [.ref (w_adr E.2.1 10 0), va_rf (x1)] (ws_p w 10 0 24 (w_p w 10 0 21)) (wk0 (fun w1 => wle (ws_p w 10 0 24 (w_p w 10 0 21)) w1 → (∃ p3, x1 = some p3 ∧ w_l w1 E.2.1 17 p3 ∧ zw E (L - 23) kt_M113 [.ref (w_adr E.2.1 10 0)] (ws_i (ws_i (ws_i w1 17 p3 18 0) 10 0 25 ((w_i w1 10 0 25) + 1)) 10 0 32 1) (wk0 (fun w4 => wle (ws_i (ws_i (ws_i w1 17 p3 18 0) 10 0 25 ((w_i w1 10 0 25) + 1)) 10 0 32 1) w4 → zL_X11_deliver_p50 E L Q (w_p w 10 0 21) (w_i w 10 0 25) (w_i w 10 0 26) w4) (fun e w => Q (.inr e) w)))) (fun e w => Q (.inr e) w))
theorem zt_X11_deliver_p0 {E : zE} {L : Nat} {Q : kx_Rs → wS → Prop} {x1 : Option Nat} {w : wS} (hL : 23 ≤ L) (h : zb_X11_deliver_p0 E L Q x1 w) : kzE E L kt_M68 0 [(0, .ref (w_adr E.2.1 10 0)), (1, va_rf (x1))] [] w Q := by
  unfold zb_X11_deliver_p0 at h
  refine kz_aload_n (M := kt_M68) kX11_deliver_c0.1 rfl ?_
  refine kz_gfp (M := kt_M68) (c := 10) (o := 0) kX11_deliver_c0.2.1 wf_X11_110 (.inl rfl) ?_
  refine kz_stv_n (M := kt_M68) (x := w_p w 10 0 21) [(0, .ref (w_adr E.2.1 10 0)), (1, va_rf (x1))] kX11_deliver_c0.2.2.1 (Nat.le_of_ble_eq_true rfl) ⟨⟨rfl, rfl, .inl rfl⟩, ⟨⟨rfl, rfl, .inr (w_cat (x1))⟩, trivial⟩⟩ rfl ?_
  refine kz_aload_n (M := kt_M68) kX11_deliver_c0.2.2.2.1 rfl ?_
  refine kz_gfi (M := kt_M68) (c := 10) (o := 0) kX11_deliver_c0.2.2.2.2.1 wf_X11_59 (.inl rfl) ?_
  refine kz_sti_n (M := kt_M68) [(0, .ref (w_adr E.2.1 10 0)), (1, va_rf (x1)), (2, va_rf (w_p w 10 0 21))] kX11_deliver_c0.2.2.2.2.2.1 (Nat.le_of_ble_eq_true rfl) ⟨⟨rfl, rfl, .inl rfl⟩, ⟨⟨rfl, rfl, .inl rfl⟩, ⟨⟨rfl, rfl, .inr (w_cat (w_p w 10 0 21))⟩, trivial⟩⟩⟩ rfl ?_
  refine kz_aload_n (M := kt_M68) kX11_deliver_c0.2.2.2.2.2.2.1 rfl ?_
  refine kz_gfi (M := kt_M68) (c := 10) (o := 0) kX11_deliver_c0.2.2.2.2.2.2.2.1 wf_X11_114 (.inl rfl) ?_
  refine kz_sti (M := kt_M68) [(0, .ref (w_adr E.2.1 10 0)), (1, va_rf (x1)), (2, va_rf (w_p w 10 0 21)), (3, .int (w_i w 10 0 25))] kX11_deliver_c1.1 (Nat.le_of_ble_eq_true rfl) ⟨⟨rfl, rfl, .inl rfl⟩, ⟨⟨rfl, rfl, .inl rfl⟩, ⟨⟨rfl, rfl, .inl rfl⟩, ⟨⟨rfl, rfl, .inr rfl⟩, trivial⟩⟩⟩⟩ rfl ?_
  refine kz_aload_n (M := kt_M68) kX11_deliver_c1.2.1 rfl ?_
  refine kz_aload_nv (M := kt_M68) (x := w_p w 10 0 21) kX11_deliver_c1.2.2.1 rfl ?_
  refine kz_pfp (M := kt_M68) (n := w_p w 10 0 21) (c := 10) (o := 0) kX11_deliver_c1.2.2.2.1 wq_X11_463 (.inl rfl) ?_
  refine kz_aload_n (M := kt_M68) kX11_deliver_c1.2.2.2.2.1 rfl ?_
  refine kz_aload_nv (M := kt_M68) (x := x1) kX11_deliver_c1.2.2.2.2.2.1 rfl ?_
  refine kz_cv0 (M := kt_M68) (c := 10) (o := 0) (As := [va_rf (x1)]) (rest := []) kX11_deliver_c1.2.2.2.2.2.2.1 wl_X11_157 wMv_81 rfl (.inl rfl) rfl (Nat.le_trans (Nat.le_of_ble_eq_true rfl) hL) (by simp [lg_sl, w_cat, z_ci, z_cr, z_cl, z_cn, kt_M81]) (Nat.le_of_ble_eq_true rfl) h (fun w1 hle h => ?_) (fun _ _ _ h => kzx_no rfl h)
  have h := h hle
  refine kz_aload_nv (M := kt_M68) (x := x1) kX11_deliver_c1.2.2.2.2.2.2.2.1 rfl ?_
  refine kz_ic (M := kt_M68) 0 kX11_deliver_c2.1 rfl ?_
  obtain ⟨p3, hxp3, hlp3, h⟩ := h
  refine kz_nz1 (x := x1) hxp3 ?_
  refine kz_pfz (M := kt_M68) (c := 17) (o := p3) kX11_deliver_c2.2.1 wq_X11_448 (.inr (by exact hlp3)) (by decide) ?_
  refine kz_aload_n (M := kt_M68) kX11_deliver_c2.2.2.1 rfl ?_
  refine kz_dup (M := kt_M68) kX11_deliver_c2.2.2.2.1 rfl ?_
  refine kz_gfiR (M := kt_M68) (c := 10) (o := 0) (w_i w1 10 0 25) kX11_deliver_c2.2.2.2.2.1 wf_X11_59 (.inl rfl) (rd_i_i rfl) ?_
  refine kz_ic (M := kt_M68) 1 kX11_deliver_c2.2.2.2.2.2.1 rfl ?_
  refine kz_iadd (M := kt_M68) kX11_deliver_c2.2.2.2.2.2.2.1 ?_
  refine kz_pfi (M := kt_M68) (c := 10) (o := 0) kX11_deliver_c2.2.2.2.2.2.2.2.1 wq_X11_59 (.inl rfl) ?_
  refine kz_aload_n (M := kt_M68) kX11_deliver_c3.1 rfl ?_
  refine kz_ic (M := kt_M68) 1 kX11_deliver_c3.2.1 rfl ?_
  refine kz_pfz (M := kt_M68) (c := 10) (o := 0) kX11_deliver_c3.2.2.1 wq_X11_204 (.inl rfl) (by decide) ?_
  refine kz_aload_n (M := kt_M68) kX11_deliver_c3.2.2.2.1 rfl ?_
  refine kz_cv0 (M := kt_M68) (c := 10) (o := 0) (As := []) (rest := []) kX11_deliver_c3.2.2.2.2.1 wl_X11_466 wMv_113 rfl (.inl rfl) rfl (Nat.le_trans (Nat.le_of_ble_eq_true rfl) hL) (Nat.le_of_ble_eq_true rfl) (Nat.le_of_ble_eq_true rfl) h (fun w4 hle h => ?_) (fun _ _ _ h => kzx_no rfl h)
  have h := h hle
  have hlp3 := w_l_le hlp3 hle
  exact kz_weak [(0, .ref (w_adr E.2.1 10 0)), (2, va_rf (w_p w 10 0 21)), (3, .int (w_i w 10 0 25)), (4, .int (w_i w 10 0 26))] ⟨rfl, ⟨rfl, ⟨rfl, ⟨rfl, trivial⟩⟩⟩⟩ rfl h
def zL_X11_variant_p9 (E : zE) (L : Nat) (Q : kx_Rs → wS → Prop) (x1 : Int32) (x2 : Int32) (x3 : Int32) (w : wS) : Prop := kzE E L kt_M113 9 [(0, .ref (w_adr E.2.1 10 0)), (1, .int x1), (2, .int x2), (3, .int x3)] [] w Q
def zb_X11_variant_p83 (E : zE) (L : Nat) (Q : kx_Rs → wS → Prop) (w : wS) : Prop := Q (.inl none) w
theorem zt_X11_variant_p83 {E : zE} {L : Nat} {Q : kx_Rs → wS → Prop} {w : wS} (hL : 21 ≤ L) (h : zb_X11_variant_p83 E L Q  w) : kzE E L kt_M113 83 [(0, .ref (w_adr E.2.1 10 0))] [] w Q := by
  unfold zb_X11_variant_p83 at h
  exact kz_ret (M := kt_M113) kX11_variant_c6.2.1 rfl h
def zb_X11_variant_p59 (E : zE) (L : Nat) (Q : kx_Rs → wS → Prop) (x1 : Int32) (x2 : Int32) (x3 : Int32) (w : wS) : Prop := zL_X11_variant_p9 E L Q x1 x2 (x3 + 1) w
theorem zt_X11_variant_p59 {E : zE} {L : Nat} {Q : kx_Rs → wS → Prop} {x1 : Int32} {x2 : Int32} {x3 : Int32} {w : wS} (hL : 21 ≤ L) (h : zb_X11_variant_p59 E L Q x1 x2 x3 w) : kzE E L kt_M113 59 [(0, .ref (w_adr E.2.1 10 0)), (1, .int x1), (2, .int x2), (3, .int x3)] [] w Q := by
  unfold zb_X11_variant_p59 at h
  refine kz_inc (M := kt_M113) [(0, .ref (w_adr E.2.1 10 0)), (1, .int x1), (2, .int x2)] kX11_variant_c4.2.2.2.2.2.1 rfl (Nat.le_of_ble_eq_true rfl) ⟨⟨rfl, rfl, .inl rfl⟩, ⟨⟨rfl, rfl, .inl rfl⟩, ⟨⟨rfl, rfl, .inr rfl⟩, trivial⟩⟩⟩ rfl ?_
  refine kz_goto (M := kt_M113) kX11_variant_c4.2.2.2.2.2.2.1 (t := 9) rfl ?_
  exact kz_weak [(0, .ref (w_adr E.2.1 10 0)), (1, .int x1), (2, .int x2), (3, .int (x3 + 1))] ⟨rfl, ⟨rfl, ⟨rfl, ⟨rfl, trivial⟩⟩⟩⟩ rfl h
def zb_X11_variant_p9 (E : zE) (L : Nat) (Q : kx_Rs → wS → Prop) (x1 : Int32) (x2 : Int32) (x3 : Int32) (w : wS) : Prop := (if x1 ≤ x3 then (if ¬ x2 = (-1) then zb_X11_variant_p83 E L Q (ws_i w 10 0 25 x2) else zw E (L - 21) kt_M107 [.ref (w_adr E.2.1 10 0), .int 5] w (wk0 (fun w1 => wle w w1 → zb_X11_variant_p83 E L Q w1) (fun e w => Q (.inr e) w))) else (w_p w 10 0 2 = some (w_adr E.2.1 9 0) ∧ zw E (L - 21) kt_M221 [.ref (w_adr E.2.1 9 0), .int ((w_i w 10 0 25) + (2 * x3))] w (wk1 (fun v5 w4 => wle w w4 → (∃ p6, w_p w4 10 0 24 = some p6 ∧ w_l w4 E.2.1 17 p6 ∧ (kx_inb 0 (w_n w4 17 p6 12) = true ∧ (if ¬ v5 = w_a w4 17 p6 12 (0 : Int32).toNatClampNeg then zb_X11_variant_p59 E L Q x1 x2 x3 w4 else (w_p w4 10 0 2 = some (w_adr E.2.1 9 0) ∧ zw E (L - 21) kt_M221 [.ref (w_adr E.2.1 9 0), .int (((w_i w4 10 0 25) + (2 * x3)) + 1)] w4 (wk1 (fun v9 w8 => wle w4 w8 → zb_X11_variant_p59 E L Q x1 v9 x3 w8) (fun e w => Q (.inr e) w))))))) (fun e w => Q (.inr e) w))))
theorem zt_X11_variant_p9 {E : zE} {L : Nat} {Q : kx_Rs → wS → Prop} {x1 : Int32} {x2 : Int32} {x3 : Int32} {w : wS} (hL : 21 ≤ L) (h : zb_X11_variant_p9 E L Q x1 x2 x3 w) : kzE E L kt_M113 9 [(0, .ref (w_adr E.2.1 10 0)), (1, .int x1), (2, .int x2), (3, .int x3)] [] w Q := by
  unfold zb_X11_variant_p9 at h
  refine kz_iload_n (M := kt_M113) kX11_variant_c0.2.2.2.2.2.2.2.1 rfl ?_
  refine kz_iload_n (M := kt_M113) kX11_variant_c1.1 rfl ?_
  refine kz_icmp_ge (M := kt_M113) kX11_variant_c1.2.1 (t := 65) rfl h (fun h => ?_) (fun h => ?_)
  · skip
    refine kz_iload_n (M := kt_M113) kX11_variant_c4.2.2.2.2.2.2.2.1 rfl ?_
    refine kz_ic (M := kt_M113) (-1) kX11_variant_c5.1 rfl ?_
    refine kz_icmp_ne (M := kt_M113) kX11_variant_c5.2.1 (t := 78) rfl h (fun h => ?_) (fun h => ?_)
    · skip
      refine kz_aload_n (M := kt_M113) kX11_variant_c5.2.2.2.2.2.2.1 rfl ?_
      refine kz_iload_n (M := kt_M113) kX11_variant_c5.2.2.2.2.2.2.2.1 rfl ?_
      refine kz_pfi (M := kt_M113) (c := 10) (o := 0) kX11_variant_c6.1 wq_X11_59 (.inl rfl) ?_
      exact kz_weak [(0, .ref (w_adr E.2.1 10 0))] ⟨rfl, trivial⟩ rfl (zt_X11_variant_p83 hL  h)
    · skip
      refine kz_aload_n (M := kt_M113) kX11_variant_c5.2.2.1 rfl ?_
      refine kz_ic (M := kt_M113) 5 kX11_variant_c5.2.2.2.1 rfl ?_
      refine kz_cv0 (M := kt_M113) (c := 10) (o := 0) (As := [.int 5]) (rest := []) kX11_variant_c5.2.2.2.2.1 wl_X11_295 wMv_107 rfl (.inl rfl) rfl (Nat.le_trans (Nat.le_of_ble_eq_true rfl) hL) (Nat.le_of_ble_eq_true rfl) (Nat.le_of_ble_eq_true rfl) h (fun w1 hle h => ?_) (fun _ _ _ h => kzx_no rfl h)
      have h := h hle
      refine kz_goto (M := kt_M113) kX11_variant_c5.2.2.2.2.2.1 (t := 83) rfl ?_
      exact kz_weak [(0, .ref (w_adr E.2.1 10 0))] ⟨rfl, trivial⟩ rfl (zt_X11_variant_p83 hL  h)
  · skip
    refine kz_aload_n (M := kt_M113) kX11_variant_c1.2.2.1 rfl ?_
    refine kz_gfp (M := kt_M113) (c := 10) (o := 0) kX11_variant_c1.2.2.2.1 wf_X11_55 (.inl rfl) ?_
    refine kz_aload_n (M := kt_M113) kX11_variant_c1.2.2.2.2.1 rfl ?_
    refine kz_gfi (M := kt_M113) (c := 10) (o := 0) kX11_variant_c1.2.2.2.2.2.1 wf_X11_59 (.inl rfl) ?_
    refine kz_ic (M := kt_M113) 2 kX11_variant_c1.2.2.2.2.2.2.1 rfl ?_
    refine kz_iload_n (M := kt_M113) kX11_variant_c1.2.2.2.2.2.2.2.1 rfl ?_
    refine kz_imul (M := kt_M113) kX11_variant_c2.1 ?_
    refine kz_iadd (M := kt_M113) kX11_variant_c2.2.1 ?_
    obtain ⟨hf3, h⟩ := h
    refine kz_nz1 (x := w_p w 10 0 2) hf3 ?_
    refine kz_cv1 (M := kt_M113) (c := 9) (o := 0) (As := [.int ((w_i w 10 0 25) + (2 * x3))]) (rest := []) kX11_variant_c2.2.2.1 wl_X11_62 wMv_221 rfl (.inl rfl) rfl (Nat.le_trans (Nat.le_of_ble_eq_true rfl) hL) (Nat.le_of_ble_eq_true rfl) (Nat.le_of_ble_eq_true rfl) h (fun v5 w4 hle h => ?_) (fun _ _ _ h => kzx_no rfl h)
    have h := h hle
    refine kz_aload_n (M := kt_M113) kX11_variant_c2.2.2.2.1 rfl ?_
    refine kz_gfp (M := kt_M113) (c := 10) (o := 0) kX11_variant_c2.2.2.2.2.1 wf_X11_463 (.inl rfl) ?_
    obtain ⟨p6, hxp6, hlp6, h⟩ := h
    refine kz_nz0 (x := w_p w4 10 0 24) hxp6 ?_
    refine kz_gfa (M := kt_M113) (c := 17) (o := p6) kX11_variant_c2.2.2.2.2.2.1 wf_X11_425 (.inr (by exact hlp6)) ?_
    refine kz_ic (M := kt_M113) 0 kX11_variant_c2.2.2.2.2.2.2.1 rfl ?_
    refine kz_iald (M := kt_M113) (c := 17) (o := p6) (k := 12) (a := (w_d w4 17 p6 12)) kX11_variant_c2.2.2.2.2.2.2.2.1 (.inr ⟨.inr (by exact hlp6), rfl, rfl⟩) rfl ot_0 h (fun h => ?_)
    refine kz_icmp_ne (M := kt_M113) kX11_variant_c3.1 (t := 59) rfl h (fun h => ?_) (fun h => ?_)
    · skip
      exact kz_weak [(0, .ref (w_adr E.2.1 10 0)), (1, .int x1), (2, .int x2), (3, .int x3)] ⟨rfl, ⟨rfl, ⟨rfl, ⟨rfl, trivial⟩⟩⟩⟩ rfl (zt_X11_variant_p59 hL  h)
    · skip
      refine kz_aload_n (M := kt_M113) kX11_variant_c3.2.1 rfl ?_
      refine kz_gfp (M := kt_M113) (c := 10) (o := 0) kX11_variant_c3.2.2.1 wf_X11_55 (.inl rfl) ?_
      refine kz_aload_n (M := kt_M113) kX11_variant_c3.2.2.2.1 rfl ?_
      refine kz_gfi (M := kt_M113) (c := 10) (o := 0) kX11_variant_c3.2.2.2.2.1 wf_X11_59 (.inl rfl) ?_
      refine kz_ic (M := kt_M113) 2 kX11_variant_c3.2.2.2.2.2.1 rfl ?_
      refine kz_iload_n (M := kt_M113) kX11_variant_c3.2.2.2.2.2.2.1 rfl ?_
      refine kz_imul (M := kt_M113) kX11_variant_c3.2.2.2.2.2.2.2.1 ?_
      refine kz_iadd (M := kt_M113) kX11_variant_c4.1 ?_
      refine kz_ic (M := kt_M113) 1 kX11_variant_c4.2.1 rfl ?_
      refine kz_iadd (M := kt_M113) kX11_variant_c4.2.2.1 ?_
      obtain ⟨hf7, h⟩ := h
      refine kz_nz1 (x := w_p w4 10 0 2) hf7 ?_
      refine kz_cv1 (M := kt_M113) (c := 9) (o := 0) (As := [.int (((w_i w4 10 0 25) + (2 * x3)) + 1)]) (rest := []) kX11_variant_c4.2.2.2.1 wl_X11_62 wMv_221 rfl (.inl rfl) rfl (Nat.le_trans (Nat.le_of_ble_eq_true rfl) hL) (Nat.le_of_ble_eq_true rfl) (Nat.le_of_ble_eq_true rfl) h (fun v9 w8 hle h => ?_) (fun _ _ _ h => kzx_no rfl h)
      have h := h hle
      have hlp6 := w_l_le hlp6 hle
      refine kz_sti_n (M := kt_M113) [(0, .ref (w_adr E.2.1 10 0)), (1, .int x1), (3, .int x3)] kX11_variant_c4.2.2.2.2.1 (Nat.le_of_ble_eq_true rfl) ⟨⟨rfl, rfl, .inl rfl⟩, ⟨⟨rfl, rfl, .inr rfl⟩, ⟨⟨rfl, rfl, .inl rfl⟩, trivial⟩⟩⟩ rfl ?_
      exact kz_weak [(0, .ref (w_adr E.2.1 10 0)), (1, .int x1), (2, .int v9), (3, .int x3)] ⟨rfl, ⟨rfl, ⟨rfl, ⟨rfl, trivial⟩⟩⟩⟩ rfl (zt_X11_variant_p59 hL  h)
def zb_X11_variant_p0 (E : zE) (L : Nat) (Q : kx_Rs → wS → Prop) (w : wS) : Prop := zw E (L - 20) kt_M88 [.ref (w_adr E.2.1 10 0)] w (wk1 (fun v2 w1 => wle w w1 → zL_X11_variant_p9 E L Q v2 (-1) 0 w1) (fun e w => Q (.inr e) w))
theorem zt_X11_variant_p0 {E : zE} {L : Nat} {Q : kx_Rs → wS → Prop} {w : wS} (hL : 21 ≤ L) (h : zb_X11_variant_p0 E L Q  w) : kzE E L kt_M113 0 [(0, .ref (w_adr E.2.1 10 0))] [] w Q := by
  unfold zb_X11_variant_p0 at h
  refine kz_aload_n (M := kt_M113) kX11_variant_c0.1 rfl ?_
  refine kz_cv1 (M := kt_M113) (c := 10) (o := 0) (As := []) (rest := []) kX11_variant_c0.2.1 wl_X11_276 wMv_88 rfl (.inl rfl) rfl (Nat.le_trans (Nat.le_of_ble_eq_true rfl) hL) (Nat.le_of_ble_eq_true rfl) (Nat.le_of_ble_eq_true rfl) h (fun v2 w1 hle h => ?_) (fun _ _ _ h => kzx_no rfl h)
  have h := h hle
  refine kz_sti_n (M := kt_M113) [(0, .ref (w_adr E.2.1 10 0))] kX11_variant_c0.2.2.1 (Nat.le_of_ble_eq_true rfl) ⟨⟨rfl, rfl, .inr rfl⟩, trivial⟩ rfl ?_
  refine kz_ic (M := kt_M113) (-1) kX11_variant_c0.2.2.2.1 rfl ?_
  refine kz_sti_n (M := kt_M113) [(0, .ref (w_adr E.2.1 10 0)), (1, .int v2)] kX11_variant_c0.2.2.2.2.1 (Nat.le_of_ble_eq_true rfl) ⟨⟨rfl, rfl, .inl rfl⟩, ⟨⟨rfl, rfl, .inr rfl⟩, trivial⟩⟩ rfl ?_
  refine kz_ic (M := kt_M113) 0 kX11_variant_c0.2.2.2.2.2.1 rfl ?_
  refine kz_sti_n (M := kt_M113) [(0, .ref (w_adr E.2.1 10 0)), (1, .int v2), (2, .int (-1))] kX11_variant_c0.2.2.2.2.2.2.1 (Nat.le_of_ble_eq_true rfl) ⟨⟨rfl, rfl, .inl rfl⟩, ⟨⟨rfl, rfl, .inl rfl⟩, ⟨⟨rfl, rfl, .inr rfl⟩, trivial⟩⟩⟩ rfl ?_
  exact kz_weak [(0, .ref (w_adr E.2.1 10 0)), (1, .int v2), (2, .int (-1)), (3, .int 0)] ⟨rfl, ⟨rfl, ⟨rfl, ⟨rfl, trivial⟩⟩⟩⟩ rfl h
def zL_X11_bring_p3 (E : zE) (L : Nat) (Q : kx_Rs → wS → Prop) (x1 : Option Nat) (x2 : Int32) (c3 o3 k3 : Nat) (x4 : Int32) (x5 : Int32) (w : wS) : Prop := kzE E L kt_M63 3 [(0, .ref (w_adr E.2.1 10 0)), (1, va_rf (x1)), (2, .int x2), (3, .ref (w_aa wG E.2.1 w c3 o3 k3)), (4, .int x4), (5, .int x5)] [] w Q
def zb_X11_bring_p71 (E : zE) (L : Nat) (Q : kx_Rs → wS → Prop) (x1 : Option Nat) (x2 : Int32) (c3 o3 k3 : Nat) (x4 : Int32) (x5 : Int32) (w : wS) : Prop := zL_X11_bring_p3 E L Q x1 x2 c3 o3 k3 x4 (x5 + 2) w
theorem zt_X11_bring_p71 {E : zE} {L : Nat} {Q : kx_Rs → wS → Prop} {x1 : Option Nat} {x2 : Int32} {c3 o3 k3 : Nat} {x4 : Int32} {x5 : Int32} {w : wS} (hL : 23 ≤ L) (ho3 : w_own w wG E.2.1 0 c3 o3 k3) (h : zb_X11_bring_p71 E L Q x1 x2 c3 o3 k3 x4 x5 w) : kzE E L kt_M63 71 [(0, .ref (w_adr E.2.1 10 0)), (1, va_rf (x1)), (2, .int x2), (3, .ref (w_aa wG E.2.1 w c3 o3 k3)), (4, .int x4), (5, .int x5)] [] w Q := by
  unfold zb_X11_bring_p71 at h
  refine kz_inc (M := kt_M63) [(0, .ref (w_adr E.2.1 10 0)), (1, va_rf (x1)), (2, .int x2), (3, .ref (w_aa wG E.2.1 w c3 o3 k3)), (4, .int x4)] kX11_bring_c5.1 rfl (Nat.le_of_ble_eq_true rfl) ⟨⟨rfl, rfl, .inl rfl⟩, ⟨⟨rfl, rfl, .inl rfl⟩, ⟨⟨rfl, rfl, .inl rfl⟩, ⟨⟨rfl, rfl, .inl rfl⟩, ⟨⟨rfl, rfl, .inr rfl⟩, trivial⟩⟩⟩⟩⟩ rfl ?_
  refine kz_goto (M := kt_M63) kX11_bring_c5.2.1 (t := 3) rfl ?_
  exact kz_weak [(0, .ref (w_adr E.2.1 10 0)), (1, va_rf (x1)), (2, .int x2), (3, .ref (w_aa wG E.2.1 w c3 o3 k3)), (4, .int x4), (5, .int (x5 + 2))] ⟨rfl, ⟨rfl, ⟨rfl, ⟨rfl, ⟨rfl, ⟨rfl, trivial⟩⟩⟩⟩⟩⟩ rfl h
def zb_X11_bring_p3 (E : zE) (L : Nat) (Q : kx_Rs → wS → Prop) (x1 : Option Nat) (x2 : Int32) (c3 o3 k3 : Nat) (x4 : Int32) (x5 : Int32) (w : wS) : Prop := (if x4 ≤ x5 then Q (.inl none) w else (∃ p1, x1 = some p1 ∧ w_l w E.2.1 17 p1 ∧ (kx_inb (x2 + x5) (w_n w 17 p1 12) = true ∧ (kx_inb ((x2 + x5) + 1) (w_n w 17 p1 12) = true ∧ (if ¬ w_a w 17 p1 12 (((x2 + x5) + 1)).toNatClampNeg = (-1) then (kx_inb x5 (w_n w c3 o3 k3) = true ∧ zw E (L - 23) kt_M126 [.ref (w_adr E.2.1 11 0), .int (w_a w c3 o3 k3 (x5).toNatClampNeg), .int (w_a w 17 p1 12 ((x2 + x5)).toNatClampNeg), .int (w_a w 17 p1 12 (((x2 + x5) + 1)).toNatClampNeg)] w (wk0 (fun w2 => wle w w2 → (w_own w2 wG E.2.1 0 c3 o3 k3 ∧ w_aa wG E.2.1 w2 c3 o3 k3 = w_aa wG E.2.1 w c3 o3 k3 ∧ zb_X11_bring_p71 E L Q x1 x2 c3 o3 k3 x4 x5 w2)) (fun e w => Q (.inr e) w))) else (kx_inb x5 (w_n w c3 o3 k3) = true ∧ zw E (L - 22) kt_M127 [.ref (w_adr E.2.1 11 0), .int (w_a w c3 o3 k3 (x5).toNatClampNeg), .int (w_a w 17 p1 12 ((x2 + x5)).toNatClampNeg)] w (wk0 (fun w4 => wle w w4 → (w_own w4 wG E.2.1 0 c3 o3 k3 ∧ w_aa wG E.2.1 w4 c3 o3 k3 = w_aa wG E.2.1 w c3 o3 k3 ∧ zb_X11_bring_p71 E L Q x1 x2 c3 o3 k3 x4 x5 w4)) (fun e w => Q (.inr e) w))))))))
theorem zt_X11_bring_p3 {E : zE} {L : Nat} {Q : kx_Rs → wS → Prop} {x1 : Option Nat} {x2 : Int32} {c3 o3 k3 : Nat} {x4 : Int32} {x5 : Int32} {w : wS} (hL : 23 ≤ L) (ho3 : w_own w wG E.2.1 0 c3 o3 k3) (h : zb_X11_bring_p3 E L Q x1 x2 c3 o3 k3 x4 x5 w) : kzE E L kt_M63 3 [(0, .ref (w_adr E.2.1 10 0)), (1, va_rf (x1)), (2, .int x2), (3, .ref (w_aa wG E.2.1 w c3 o3 k3)), (4, .int x4), (5, .int x5)] [] w Q := by
  unfold zb_X11_bring_p3 at h
  refine kz_iload (M := kt_M63) kX11_bring_c0.2.2.1 rfl ?_
  refine kz_iload (M := kt_M63) kX11_bring_c0.2.2.2.1 rfl ?_
  refine kz_icmp_ge (M := kt_M63) kX11_bring_c0.2.2.2.2.1 (t := 77) rfl h (fun h => ?_) (fun h => ?_)
  · skip
    exact kz_ret (M := kt_M63) kX11_bring_c5.2.2.1 rfl h
  · skip
    refine kz_aload_nv (M := kt_M63) (x := x1) kX11_bring_c0.2.2.2.2.2.1 rfl ?_
    obtain ⟨p1, hxp1, hlp1, h⟩ := h
    refine kz_nz0 (x := x1) hxp1 ?_
    refine kz_gfa (M := kt_M63) (c := 17) (o := p1) kX11_bring_c0.2.2.2.2.2.2.1 wf_X11_425 (.inr (by exact hlp1)) ?_
    refine kz_iload_n (M := kt_M63) kX11_bring_c0.2.2.2.2.2.2.2.1 rfl ?_
    refine kz_iload (M := kt_M63) kX11_bring_c1.1 rfl ?_
    refine kz_iadd (M := kt_M63) kX11_bring_c1.2.1 ?_
    refine kz_iald (M := kt_M63) (c := 17) (o := p1) (k := 12) (a := (w_d w 17 p1 12)) kX11_bring_c1.2.2.1 (.inr ⟨.inr (by exact hlp1), rfl, rfl⟩) rfl ot_0 h (fun h => ?_)
    refine kz_sti (M := kt_M63) [(0, .ref (w_adr E.2.1 10 0)), (1, va_rf (x1)), (2, .int x2), (3, .ref (w_aa wG E.2.1 w c3 o3 k3)), (4, .int x4), (5, .int x5)] kX11_bring_c1.2.2.2.1 (Nat.le_of_ble_eq_true rfl) ⟨⟨rfl, rfl, .inl rfl⟩, ⟨⟨rfl, rfl, .inl rfl⟩, ⟨⟨rfl, rfl, .inl rfl⟩, ⟨⟨rfl, rfl, .inl rfl⟩, ⟨⟨rfl, rfl, .inl rfl⟩, ⟨⟨rfl, rfl, .inr rfl⟩, trivial⟩⟩⟩⟩⟩⟩ rfl ?_
    refine kz_aload_nv (M := kt_M63) (x := x1) kX11_bring_c1.2.2.2.2.1 rfl ?_
    refine kz_nz0 (x := x1) hxp1 ?_
    refine kz_gfa (M := kt_M63) (c := 17) (o := p1) kX11_bring_c1.2.2.2.2.2.1 wf_X11_425 (.inr (by exact hlp1)) ?_
    refine kz_iload_n (M := kt_M63) kX11_bring_c1.2.2.2.2.2.2.1 rfl ?_
    refine kz_iload (M := kt_M63) kX11_bring_c1.2.2.2.2.2.2.2.1 rfl ?_
    refine kz_iadd (M := kt_M63) kX11_bring_c2.1 ?_
    refine kz_ic (M := kt_M63) 1 kX11_bring_c2.2.1 rfl ?_
    refine kz_iadd (M := kt_M63) kX11_bring_c2.2.2.1 ?_
    refine kz_iald (M := kt_M63) (c := 17) (o := p1) (k := 12) (a := (w_d w 17 p1 12)) kX11_bring_c2.2.2.2.1 (.inr ⟨.inr (by exact hlp1), rfl, rfl⟩) rfl ot_0 h (fun h => ?_)
    refine kz_sti (M := kt_M63) [(0, .ref (w_adr E.2.1 10 0)), (1, va_rf (x1)), (2, .int x2), (3, .ref (w_aa wG E.2.1 w c3 o3 k3)), (4, .int x4), (5, .int x5), (6, .int (w_a w 17 p1 12 ((x2 + x5)).toNatClampNeg))] kX11_bring_c2.2.2.2.2.1 (Nat.le_of_ble_eq_true rfl) ⟨⟨rfl, rfl, .inl rfl⟩, ⟨⟨rfl, rfl, .inl rfl⟩, ⟨⟨rfl, rfl, .inl rfl⟩, ⟨⟨rfl, rfl, .inl rfl⟩, ⟨⟨rfl, rfl, .inl rfl⟩, ⟨⟨rfl, rfl, .inl rfl⟩, ⟨⟨rfl, rfl, .inr rfl⟩, trivial⟩⟩⟩⟩⟩⟩⟩ rfl ?_
    refine kz_iload (M := kt_M63) kX11_bring_c2.2.2.2.2.2.1 rfl ?_
    refine kz_ic (M := kt_M63) (-1) kX11_bring_c2.2.2.2.2.2.2.1 rfl ?_
    refine kz_icmp_ne (M := kt_M63) kX11_bring_c2.2.2.2.2.2.2.2.1 (t := 56) rfl h (fun h => ?_) (fun h => ?_)
    · skip
      refine kz_aload_n (M := kt_M63) kX11_bring_c4.1 rfl ?_
      refine kz_gfc (M := kt_M63) (x := 44) (c := 10) (o := 0) kX11_bring_c4.2.1 wf_X11_12 (.inl rfl) ?_
      refine kz_aload_n (M := kt_M63) kX11_bring_c4.2.2.1 rfl ?_
      refine kz_iload (M := kt_M63) kX11_bring_c4.2.2.2.1 rfl ?_
      refine kz_iald (M := kt_M63) (c := c3) (o := o3) (k := k3) (a := (w_aa wG E.2.1 w c3 o3 k3)) kX11_bring_c4.2.2.2.2.1 ho3 rfl ot_0 h (fun h => ?_)
      refine kz_iload (M := kt_M63) kX11_bring_c4.2.2.2.2.2.1 rfl ?_
      refine kz_iload (M := kt_M63) kX11_bring_c4.2.2.2.2.2.2.1 rfl ?_
      refine kz_cv0 (M := kt_M63) (c := 11) (o := 0) (As := [.int (w_a w c3 o3 k3 (x5).toNatClampNeg), .int (w_a w 17 p1 12 ((x2 + x5)).toNatClampNeg), .int (w_a w 17 p1 12 (((x2 + x5) + 1)).toNatClampNeg)]) (rest := []) kX11_bring_c4.2.2.2.2.2.2.2.1 wl_X11_336 wMv_126 rfl (.inl rfl) rfl (Nat.le_trans (Nat.le_of_ble_eq_true rfl) hL) (Nat.le_of_ble_eq_true rfl) (Nat.le_of_ble_eq_true rfl) h (fun w2 hle h => ?_) (fun _ _ _ h => kzx_no rfl h)
      have h := h hle
      have hlp1 := w_l_le hlp1 hle
      obtain ⟨ho3, hq3, h⟩ := h
      rw [← hq3]
      exact kz_weak [(0, .ref (w_adr E.2.1 10 0)), (1, va_rf (x1)), (2, .int x2), (3, .ref (w_aa wG E.2.1 w2 c3 o3 k3)), (4, .int x4), (5, .int x5)] ⟨rfl, ⟨rfl, ⟨rfl, ⟨rfl, ⟨rfl, ⟨rfl, trivial⟩⟩⟩⟩⟩⟩ rfl (zt_X11_bring_p71 hL ho3 h)
    · skip
      refine kz_aload_n (M := kt_M63) kX11_bring_c3.1 rfl ?_
      refine kz_gfc (M := kt_M63) (x := 44) (c := 10) (o := 0) kX11_bring_c3.2.1 wf_X11_12 (.inl rfl) ?_
      refine kz_aload_n (M := kt_M63) kX11_bring_c3.2.2.1 rfl ?_
      refine kz_iload (M := kt_M63) kX11_bring_c3.2.2.2.1 rfl ?_
      refine kz_iald (M := kt_M63) (c := c3) (o := o3) (k := k3) (a := (w_aa wG E.2.1 w c3 o3 k3)) kX11_bring_c3.2.2.2.2.1 ho3 rfl ot_0 h (fun h => ?_)
      refine kz_iload (M := kt_M63) kX11_bring_c3.2.2.2.2.2.1 rfl ?_
      refine kz_cv0 (M := kt_M63) (c := 11) (o := 0) (As := [.int (w_a w c3 o3 k3 (x5).toNatClampNeg), .int (w_a w 17 p1 12 ((x2 + x5)).toNatClampNeg)]) (rest := []) kX11_bring_c3.2.2.2.2.2.2.1 wl_X11_348 wMv_127 rfl (.inl rfl) rfl (Nat.le_trans (Nat.le_of_ble_eq_true rfl) hL) (Nat.le_of_ble_eq_true rfl) (Nat.le_of_ble_eq_true rfl) h (fun w4 hle h => ?_) (fun _ _ _ h => kzx_no rfl h)
      have h := h hle
      have hlp1 := w_l_le hlp1 hle
      obtain ⟨ho3, hq3, h⟩ := h
      rw [← hq3]
      refine kz_goto (M := kt_M63) kX11_bring_c3.2.2.2.2.2.2.2.1 (t := 71) rfl ?_
      exact kz_weak [(0, .ref (w_adr E.2.1 10 0)), (1, va_rf (x1)), (2, .int x2), (3, .ref (w_aa wG E.2.1 w4 c3 o3 k3)), (4, .int x4), (5, .int x5)] ⟨rfl, ⟨rfl, ⟨rfl, ⟨rfl, ⟨rfl, ⟨rfl, trivial⟩⟩⟩⟩⟩⟩ rfl (zt_X11_bring_p71 hL ho3 h)
def zb_X11_bring_p0 (E : zE) (L : Nat) (Q : kx_Rs → wS → Prop) (x1 : Option Nat) (x2 : Int32) (c3 o3 k3 : Nat) (x4 : Int32) (w : wS) : Prop := zL_X11_bring_p3 E L Q x1 x2 c3 o3 k3 x4 0 w
theorem zt_X11_bring_p0 {E : zE} {L : Nat} {Q : kx_Rs → wS → Prop} {x1 : Option Nat} {x2 : Int32} {c3 o3 k3 : Nat} {x4 : Int32} {w : wS} (hL : 23 ≤ L) (ho3 : w_own w wG E.2.1 0 c3 o3 k3) (h : zb_X11_bring_p0 E L Q x1 x2 c3 o3 k3 x4 w) : kzE E L kt_M63 0 [(0, .ref (w_adr E.2.1 10 0)), (1, va_rf (x1)), (2, .int x2), (3, .ref (w_aa wG E.2.1 w c3 o3 k3)), (4, .int x4)] [] w Q := by
  unfold zb_X11_bring_p0 at h
  refine kz_ic (M := kt_M63) 0 kX11_bring_c0.1 rfl ?_
  refine kz_sti (M := kt_M63) [(0, .ref (w_adr E.2.1 10 0)), (1, va_rf (x1)), (2, .int x2), (3, .ref (w_aa wG E.2.1 w c3 o3 k3)), (4, .int x4)] kX11_bring_c0.2.1 (Nat.le_of_ble_eq_true rfl) ⟨⟨rfl, rfl, .inl rfl⟩, ⟨⟨rfl, rfl, .inl rfl⟩, ⟨⟨rfl, rfl, .inl rfl⟩, ⟨⟨rfl, rfl, .inl rfl⟩, ⟨⟨rfl, rfl, .inr rfl⟩, trivial⟩⟩⟩⟩⟩ rfl ?_
  exact kz_weak [(0, .ref (w_adr E.2.1 10 0)), (1, va_rf (x1)), (2, .int x2), (3, .ref (w_aa wG E.2.1 w c3 o3 k3)), (4, .int x4), (5, .int 0)] ⟨rfl, ⟨rfl, ⟨rfl, ⟨rfl, ⟨rfl, ⟨rfl, trivial⟩⟩⟩⟩⟩⟩ rfl h
def zb_X11_read_p108 (E : zE) (L : Nat) (Q : kx_Rs → wS → Prop) (w : wS) : Prop := zw E (L - 21) kt_M114 [.ref (w_adr E.2.1 10 0), va_rf (some (E.1.1 67))] w (wk0 (fun w1 => wle w w1 → Q (.inl none) w1) (fun e w => Q (.inr e) w))
theorem zt_X11_read_p108 {E : zE} {L : Nat} {Q : kx_Rs → wS → Prop} {w : wS} (hL : 27 ≤ L) (h : zb_X11_read_p108 E L Q  w) : kzE E L kt_M98 108 [(0, .ref (w_adr E.2.1 10 0))] [] w Q := by
  unfold zb_X11_read_p108 at h
  refine kz_aload_n (M := kt_M98) kX11_read_c7.2.1 rfl ?_
  refine kz_getsE (M := kt_M98) (v := va_rf (some (E.1.1 67))) kX11_read_c7.2.2.1 zs_X11_460 ?_
  refine kz_cv0 (M := kt_M98) (c := 10) (o := 0) (As := [va_rf (some (E.1.1 67))]) (rest := []) kX11_read_c7.2.2.2.1 wl_X11_389 wMv_114 rfl (.inl rfl) rfl (Nat.le_trans (Nat.le_of_ble_eq_true rfl) hL) (by simp [lg_sl, w_cat, z_ci, z_cr, z_cl, z_cn, kt_M114]) (Nat.le_of_ble_eq_true rfl) h (fun w1 hle h => ?_) (fun _ _ _ h => kzx_no rfl h)
  have h := h hle
  exact kz_ret (M := kt_M98) kX11_read_c7.2.2.2.2.1 rfl h
def zb_X11_read_p79 (E : zE) (L : Nat) (Q : kx_Rs → wS → Prop) (x2 : Int32) (y0 : Int32) (w : wS) : Prop := (if ¬ y0 = 0 then zw E (L - 22) kt_M90 [.ref (w_adr E.2.1 10 0), .int (y0 - 1)] w (wkr (fun v2 w1 => wle w w1 → zw E (L - 22) kt_M127 [.ref (w_adr E.2.1 11 0), .int x2, .int 0] w1 (wk0 (fun w3 => wle w1 w3 → zw E (L - 26) kt_M83 [.ref (w_adr E.2.1 10 0), .int x2, va_rf (v2), va_rf (w_p w3 10 0 21)] w3 (wk0 (fun w5 => wle w3 w5 → (∃ p7, w_p w5 10 0 21 = some p7 ∧ w_l (ws_p w5 10 0 22 v2) E.2.1 17 p7 ∧ zw E (L - 27) kt_M63 [.ref (w_adr E.2.1 10 0), va_rf (v2), .int 0, .ref (w_d (ws_p w5 10 0 22 v2) 17 p7 12), .int (w_i w5 17 p7 15)] (ws_p w5 10 0 22 v2) (wk0 (fun w8 => wle (ws_p w5 10 0 22 v2) w8 → Q (.inl none) w8) (fun e w => Q (.inr e) w)))) (fun e w => Q (.inr e) w))) (fun e w => Q (.inr e) w))) (fun e w => Q (.inr e) w)) else (if x2 = (-1) then zb_X11_read_p108 E L Q w else (∃ p10, w_p w 10 0 21 = some p10 ∧ w_l w E.2.1 17 p10 ∧ zw E (L - 22) kt_M127 [.ref (w_adr E.2.1 11 0), .int (x2 + 1), .int ((w_i w 17 p10 0) + 1)] w (wk0 (fun w11 => wle w w11 → zb_X11_read_p108 E L Q w11) (fun e w => Q (.inr e) w)))))
theorem zt_X11_read_p79 {E : zE} {L : Nat} {Q : kx_Rs → wS → Prop} {x2 : Int32} {y0 : Int32} {w : wS} (hL : 27 ≤ L) (h : zb_X11_read_p79 E L Q x2 y0 w) : kzE E L kt_M98 79 [(0, .ref (w_adr E.2.1 10 0)), (2, .int x2)] [.int y0] w Q := by
  unfold zb_X11_read_p79 at h
  refine kz_sti_n (M := kt_M98) [(0, .ref (w_adr E.2.1 10 0)), (2, .int x2)] kX11_read_c5.1 (Nat.le_of_ble_eq_true rfl) ⟨⟨rfl, rfl, .inl rfl⟩, ⟨⟨rfl, rfl, .inr rfl⟩, trivial⟩⟩ rfl ?_
  refine kz_iload_n (M := kt_M98) kX11_read_c5.2.1 rfl ?_
  refine kz_if_ne (M := kt_M98) kX11_read_c5.2.2.1 (t := 116) rfl h (fun h => ?_) (fun h => ?_)
  · skip
    refine kz_aload_n (M := kt_M98) kX11_read_c7.2.2.2.2.2.1 rfl ?_
    refine kz_iload_n (M := kt_M98) kX11_read_c7.2.2.2.2.2.2.1 rfl ?_
    refine kz_ic (M := kt_M98) 1 kX11_read_c7.2.2.2.2.2.2.2.1 rfl ?_
    refine kz_isub (M := kt_M98) kX11_read_c8.1 ?_
    refine kz_cvr (M := kt_M98) (c := 10) (o := 0) (As := [.int (y0 - 1)]) (rest := []) kX11_read_c8.2.1 wl_X11_440 wMv_90 rfl (.inl rfl) rfl (Nat.le_trans (Nat.le_of_ble_eq_true rfl) hL) (Nat.le_of_ble_eq_true rfl) (Nat.le_of_ble_eq_true rfl) h (fun v2 w1 hle h => ?_) (fun _ _ _ h => kzx_no rfl h)
    have h := h hle
    refine kz_stv (M := kt_M98) (x := v2) [(0, .ref (w_adr E.2.1 10 0)), (2, .int x2)] kX11_read_c8.2.2.1 (Nat.le_of_ble_eq_true rfl) ⟨⟨rfl, rfl, .inl rfl⟩, ⟨⟨rfl, rfl, .inl rfl⟩, trivial⟩⟩ rfl ?_
    refine kz_aload_n (M := kt_M98) kX11_read_c8.2.2.2.1 rfl ?_
    refine kz_gfc (M := kt_M98) (x := 44) (c := 10) (o := 0) kX11_read_c8.2.2.2.2.1 wf_X11_12 (.inl rfl) ?_
    refine kz_iload_n (M := kt_M98) kX11_read_c8.2.2.2.2.2.1 rfl ?_
    refine kz_ic (M := kt_M98) 0 kX11_read_c8.2.2.2.2.2.2.1 rfl ?_
    refine kz_cv0 (M := kt_M98) (c := 11) (o := 0) (As := [.int x2, .int 0]) (rest := []) kX11_read_c8.2.2.2.2.2.2.2.1 wl_X11_348 wMv_127 rfl (.inl rfl) rfl (Nat.le_trans (Nat.le_of_ble_eq_true rfl) hL) (Nat.le_of_ble_eq_true rfl) (Nat.le_of_ble_eq_true rfl) h (fun w3 hle h => ?_) (fun _ _ _ h => kzx_no rfl h)
    have h := h hle
    refine kz_aload_n (M := kt_M98) kX11_read_c9.1 rfl ?_
    refine kz_iload_n (M := kt_M98) kX11_read_c9.2.1 rfl ?_
    refine kz_aloadv (M := kt_M98) (x := v2) kX11_read_c9.2.2.1 rfl ?_
    refine kz_aload_n (M := kt_M98) kX11_read_c9.2.2.2.1 rfl ?_
    refine kz_gfp (M := kt_M98) (c := 10) (o := 0) kX11_read_c9.2.2.2.2.1 wf_X11_110 (.inl rfl) ?_
    refine kz_cv0 (M := kt_M98) (c := 10) (o := 0) (As := [.int x2, va_rf (v2), va_rf (w_p w3 10 0 21)]) (rest := []) kX11_read_c9.2.2.2.2.2.1 wl_X11_444 wMv_83 rfl (.inl rfl) rfl (Nat.le_trans (Nat.le_of_ble_eq_true rfl) hL) (by simp [lg_sl, w_cat, z_ci, z_cr, z_cl, z_cn, kt_M83]) (Nat.le_of_ble_eq_true rfl) h (fun w5 hle h => ?_) (fun _ _ _ h => kzx_no rfl h)
    have h := h hle
    refine kz_aload_n (M := kt_M98) kX11_read_c9.2.2.2.2.2.2.1 rfl ?_
    refine kz_aloadv (M := kt_M98) (x := v2) kX11_read_c9.2.2.2.2.2.2.2.1 rfl ?_
    refine kz_pfp (M := kt_M98) (n := v2) (c := 10) (o := 0) kX11_read_c10.1 wq_X11_201 (.inl rfl) ?_
    refine kz_aload_n (M := kt_M98) kX11_read_c10.2.1 rfl ?_
    refine kz_aloadv (M := kt_M98) (x := v2) kX11_read_c10.2.2.1 rfl ?_
    refine kz_ic (M := kt_M98) 0 kX11_read_c10.2.2.2.1 rfl ?_
    refine kz_aload_n (M := kt_M98) kX11_read_c10.2.2.2.2.1 rfl ?_
    refine kz_gfpR (M := kt_M98) (c := 10) (o := 0) (w_p w5 10 0 21) kX11_read_c10.2.2.2.2.2.1 wf_X11_110 (.inl rfl) (rd_p_p rfl) ?_
    obtain ⟨p7, hxp7, hlp7, h⟩ := h
    refine kz_nz0 (x := w_p w5 10 0 21) hxp7 ?_
    refine kz_gfa (M := kt_M98) (c := 17) (o := p7) kX11_read_c10.2.2.2.2.2.2.1 wf_X11_425 (.inr (by exact hlp7)) ?_
    refine kz_aload_n (M := kt_M98) kX11_read_c10.2.2.2.2.2.2.2.1 rfl ?_
    refine kz_gfpR (M := kt_M98) (c := 10) (o := 0) (w_p w5 10 0 21) kX11_read_c11.1 wf_X11_110 (.inl rfl) (rd_p_p rfl) ?_
    refine kz_nz0 (x := w_p w5 10 0 21) hxp7 ?_
    refine kz_gfiR (M := kt_M98) (c := 17) (o := p7) (w_i w5 17 p7 15) kX11_read_c11.2.1 wf_X11_429 (.inr (by exact hlp7)) rd_i_p ?_
    refine kz_cv0 (M := kt_M98) (c := 10) (o := 0) (As := [va_rf (v2), .int 0, .ref (w_d (ws_p w5 10 0 22 v2) 17 p7 12), .int (w_i w5 17 p7 15)]) (rest := []) kX11_read_c11.2.2.1 wl_X11_453 wMv_63 rfl (.inl rfl) rfl (Nat.le_trans (Nat.le_of_ble_eq_true rfl) hL) (by simp [lg_sl, w_cat, z_ci, z_cr, z_cl, z_cn, kt_M63]) (Nat.le_of_ble_eq_true rfl) h (fun w8 hle h => ?_) (fun _ _ _ h => kzx_no rfl h)
    have h := h hle
    have hlp7 := w_l_le hlp7 hle
    exact kz_ret (M := kt_M98) kX11_read_c11.2.2.2.1 rfl h
  · skip
    refine kz_iload_n (M := kt_M98) kX11_read_c5.2.2.2.1 rfl ?_
    refine kz_ic (M := kt_M98) (-1) kX11_read_c5.2.2.2.2.1 rfl ?_
    refine kz_icmp_eq (M := kt_M98) kX11_read_c5.2.2.2.2.2.1 (t := 108) rfl h (fun h => ?_) (fun h => ?_)
    · skip
      exact kz_weak [(0, .ref (w_adr E.2.1 10 0))] ⟨rfl, trivial⟩ rfl (zt_X11_read_p108 hL  h)
    · skip
      refine kz_aload_n (M := kt_M98) kX11_read_c5.2.2.2.2.2.2.1 rfl ?_
      refine kz_gfc (M := kt_M98) (x := 44) (c := 10) (o := 0) kX11_read_c5.2.2.2.2.2.2.2.1 wf_X11_12 (.inl rfl) ?_
      refine kz_iload_n (M := kt_M98) kX11_read_c6.1 rfl ?_
      refine kz_ic (M := kt_M98) 1 kX11_read_c6.2.1 rfl ?_
      refine kz_iadd (M := kt_M98) kX11_read_c6.2.2.1 ?_
      refine kz_aload_n (M := kt_M98) kX11_read_c6.2.2.2.1 rfl ?_
      refine kz_gfp (M := kt_M98) (c := 10) (o := 0) kX11_read_c6.2.2.2.2.1 wf_X11_110 (.inl rfl) ?_
      obtain ⟨p10, hxp10, hlp10, h⟩ := h
      refine kz_nz0 (x := w_p w 10 0 21) hxp10 ?_
      refine kz_gfi (M := kt_M98) (c := 17) (o := p10) kX11_read_c6.2.2.2.2.2.1 wf_X11_249 (.inr (by exact hlp10)) ?_
      refine kz_ic (M := kt_M98) 1 kX11_read_c6.2.2.2.2.2.2.1 rfl ?_
      refine kz_iadd (M := kt_M98) kX11_read_c6.2.2.2.2.2.2.2.1 ?_
      refine kz_cv0 (M := kt_M98) (c := 11) (o := 0) (As := [.int (x2 + 1), .int ((w_i w 17 p10 0) + 1)]) (rest := []) kX11_read_c7.1 wl_X11_348 wMv_127 rfl (.inl rfl) rfl (Nat.le_trans (Nat.le_of_ble_eq_true rfl) hL) (Nat.le_of_ble_eq_true rfl) (Nat.le_of_ble_eq_true rfl) h (fun w11 hle h => ?_) (fun _ _ _ h => kzx_no rfl h)
      have h := h hle
      have hlp10 := w_l_le hlp10 hle
      exact kz_weak [(0, .ref (w_adr E.2.1 10 0))] ⟨rfl, trivial⟩ rfl (zt_X11_read_p108 hL  h)
def zb_X11_read_p61 (E : zE) (L : Nat) (Q : kx_Rs → wS → Prop) (w : wS) : Prop := Q (.inl none) w
theorem zt_X11_read_p61 {E : zE} {L : Nat} {Q : kx_Rs → wS → Prop} {w : wS} (hL : 27 ≤ L) (h : zb_X11_read_p61 E L Q  w) : kzE E L kt_M98 61 [(0, .ref (w_adr E.2.1 10 0))] [] w Q := by
  unfold zb_X11_read_p61 at h
  exact kz_ret (M := kt_M98) kX11_read_c3.2.2.2.2.2.2.1 rfl h
def zb_X11_read_p0 (E : zE) (L : Nat) (Q : kx_Rs → wS → Prop) (x1 : Int32) (w : wS) : Prop := zw E (L - 22) kt_M94 [.ref (w_adr E.2.1 10 0), .int x1] w (wk0 (fun w1 => wle w w1 → zw E (L - 20) kt_M95 [.ref (w_adr E.2.1 10 0)] w1 (wk1 (fun v4 w3 => wle w1 w3 → (∃ p5, w_p w3 10 0 21 = some p5 ∧ w_l w3 E.2.1 17 p5 ∧ (if ¬ v4 = (-2) then (if ¬ v4 = (-1) then zw E (L - 21) kt_M123 [.ref (w_adr E.2.1 11 0), .int v4] (ws_i w3 17 p5 6 v4) (wk1 (fun v7 w6 => wle (ws_i w3 17 p5 6 v4) w6 → zb_X11_read_p79 E L Q v4 v7 w6) (fun e w => Q (.inr e) w)) else zb_X11_read_p79 E L Q v4 0 (ws_i w3 17 p5 6 v4)) else (if ¬ w_i w3 10 0 12 = 0 then (kx_inb 0 (w_n w3 17 p5 12) = true ∧ zw E (L - 21) kt_M72 [.ref (w_adr E.2.1 10 0)] (ws_i w3 17 p5 6 v4) (wk1 (fun v9 w8 => wle (ws_i w3 17 p5 6 v4) w8 → zw E (L - 22) kt_M127 [.ref (w_adr E.2.1 11 0), .int (w_a w3 17 p5 12 (0 : Int32).toNatClampNeg), .int v9] w8 (wk0 (fun w10 => wle w8 w10 → zb_X11_read_p61 E L Q w10) (fun e w => Q (.inr e) w))) (fun e w => Q (.inr e) w))) else zw E (L - 21) kt_M114 [.ref (w_adr E.2.1 10 0), va_rf (some (E.1.1 64))] (ws_i w3 17 p5 6 v4) (wk0 (fun w12 => wle (ws_i w3 17 p5 6 v4) w12 → zb_X11_read_p61 E L Q w12) (fun e w => Q (.inr e) w)))))) (fun e w => Q (.inr e) w))) (fun e w => Q (.inr e) w))
theorem zt_X11_read_p0 {E : zE} {L : Nat} {Q : kx_Rs → wS → Prop} {x1 : Int32} {w : wS} (hL : 27 ≤ L) (h : zb_X11_read_p0 E L Q x1 w) : kzE E L kt_M98 0 [(0, .ref (w_adr E.2.1 10 0)), (1, .int x1)] [] w Q := by
  unfold zb_X11_read_p0 at h
  refine kz_aload_n (M := kt_M98) kX11_read_c0.1 rfl ?_
  refine kz_iload_n (M := kt_M98) kX11_read_c0.2.1 rfl ?_
  refine kz_cv0 (M := kt_M98) (c := 10) (o := 0) (As := [.int x1]) (rest := []) kX11_read_c0.2.2.1 wl_X11_432 wMv_94 rfl (.inl rfl) rfl (Nat.le_trans (Nat.le_of_ble_eq_true rfl) hL) (Nat.le_of_ble_eq_true rfl) (Nat.le_of_ble_eq_true rfl) h (fun w1 hle h => ?_) (fun _ _ _ h => kzx_no rfl h)
  have h := h hle
  refine kz_aload_n (M := kt_M98) kX11_read_c0.2.2.2.1 rfl ?_
  refine kz_cv1 (M := kt_M98) (c := 10) (o := 0) (As := []) (rest := []) kX11_read_c0.2.2.2.2.1 wl_X11_304 wMv_95 rfl (.inl rfl) rfl (Nat.le_trans (Nat.le_of_ble_eq_true rfl) hL) (Nat.le_of_ble_eq_true rfl) (Nat.le_of_ble_eq_true rfl) h (fun v4 w3 hle h => ?_) (fun _ _ _ h => kzx_no rfl h)
  have h := h hle
  refine kz_sti_n (M := kt_M98) [(0, .ref (w_adr E.2.1 10 0))] kX11_read_c0.2.2.2.2.2.1 (Nat.le_of_ble_eq_true rfl) ⟨⟨rfl, rfl, .inl rfl⟩, trivial⟩ rfl ?_
  refine kz_aload_n (M := kt_M98) kX11_read_c0.2.2.2.2.2.2.1 rfl ?_
  refine kz_gfp (M := kt_M98) (c := 10) (o := 0) kX11_read_c0.2.2.2.2.2.2.2.1 wf_X11_110 (.inl rfl) ?_
  refine kz_iload_n (M := kt_M98) kX11_read_c1.1 rfl ?_
  obtain ⟨p5, hxp5, hlp5, h⟩ := h
  refine kz_nz1 (x := w_p w3 10 0 21) hxp5 ?_
  refine kz_pfi (M := kt_M98) (c := 17) (o := p5) kX11_read_c1.2.1 wq_X11_434 (.inr (by exact hlp5)) ?_
  refine kz_iload_n (M := kt_M98) kX11_read_c1.2.2.1 rfl ?_
  refine kz_bi (M := kt_M98) (-2) kX11_read_c1.2.2.2.1 rfl ?_
  refine kz_icmp_ne (M := kt_M98) kX11_read_c1.2.2.2.2.1 (t := 62) rfl h (fun h => ?_) (fun h => ?_)
  · skip
    refine kz_iload_n (M := kt_M98) kX11_read_c3.2.2.2.2.2.2.2.1 rfl ?_
    refine kz_ic (M := kt_M98) (-1) kX11_read_c4.1 rfl ?_
    refine kz_icmp_ne (M := kt_M98) kX11_read_c4.2.1 (t := 71) rfl h (fun h => ?_) (fun h => ?_)
    · skip
      refine kz_aload_n (M := kt_M98) kX11_read_c4.2.2.2.2.1 rfl ?_
      refine kz_gfc (M := kt_M98) (x := 44) (c := 10) (o := 0) kX11_read_c4.2.2.2.2.2.1 wf_X11_12 (.inl rfl) ?_
      refine kz_iload_n (M := kt_M98) kX11_read_c4.2.2.2.2.2.2.1 rfl ?_
      refine kz_cv1 (M := kt_M98) (c := 11) (o := 0) (As := [.int v4]) (rest := []) kX11_read_c4.2.2.2.2.2.2.2.1 wl_X11_307 wMv_123 rfl (.inl rfl) rfl (Nat.le_trans (Nat.le_of_ble_eq_true rfl) hL) (Nat.le_of_ble_eq_true rfl) (Nat.le_of_ble_eq_true rfl) h (fun v7 w6 hle h => ?_) (fun _ _ _ h => kzx_no rfl h)
      have h := h hle
      have hlp5 := w_l_le hlp5 hle
      exact kz_weak [(0, .ref (w_adr E.2.1 10 0)), (2, .int v4)] ⟨rfl, ⟨rfl, trivial⟩⟩ rfl (zt_X11_read_p79 hL  h)
    · skip
      refine kz_ic (M := kt_M98) 0 kX11_read_c4.2.2.1 rfl ?_
      refine kz_goto (M := kt_M98) kX11_read_c4.2.2.2.1 (t := 79) rfl ?_
      exact kz_weak [(0, .ref (w_adr E.2.1 10 0)), (2, .int v4)] ⟨rfl, ⟨rfl, trivial⟩⟩ rfl (zt_X11_read_p79 hL  h)
  · skip
    refine kz_aload_n (M := kt_M98) kX11_read_c1.2.2.2.2.2.1 rfl ?_
    refine kz_gfiR (M := kt_M98) (c := 10) (o := 0) (w_i w3 10 0 12) kX11_read_c1.2.2.2.2.2.2.1 wf_X11_189 (.inl rfl) (rd_i_i rfl) ?_
    refine kz_if_ne (M := kt_M98) kX11_read_c1.2.2.2.2.2.2.2.1 (t := 41) rfl h (fun h => ?_) (fun h => ?_)
    · skip
      refine kz_aload_n (M := kt_M98) kX11_read_c2.2.2.2.2.1 rfl ?_
      refine kz_gfc (M := kt_M98) (x := 44) (c := 10) (o := 0) kX11_read_c2.2.2.2.2.2.1 wf_X11_12 (.inl rfl) ?_
      refine kz_aload_n (M := kt_M98) kX11_read_c2.2.2.2.2.2.2.1 rfl ?_
      refine kz_gfpR (M := kt_M98) (c := 10) (o := 0) (w_p w3 10 0 21) kX11_read_c2.2.2.2.2.2.2.2.1 wf_X11_110 (.inl rfl) rd_p_i ?_
      refine kz_nz0 (x := w_p w3 10 0 21) hxp5 ?_
      refine kz_gfa (M := kt_M98) (c := 17) (o := p5) kX11_read_c3.1 wf_X11_425 (.inr (by exact hlp5)) ?_
      refine kz_ic (M := kt_M98) 0 kX11_read_c3.2.1 rfl ?_
      refine kz_ialdR (M := kt_M98) (n := w_n w3 17 p5 12) (c := 17) (o := p5) (k := 12) (a := (w_d (ws_i w3 17 p5 6 v4) 17 p5 12)) (w_a w3 17 p5 12 (0 : Int32).toNatClampNeg) kX11_read_c3.2.2.1 (.inr ⟨.inr (by exact hlp5), rfl, rfl⟩) rfl ot_0 rd_n_i rd_a_i h (fun h => ?_)
      refine kz_aload_n (M := kt_M98) kX11_read_c3.2.2.2.1 rfl ?_
      refine kz_cv1 (M := kt_M98) (c := 10) (o := 0) (As := []) (rest := [.int (w_a w3 17 p5 12 (0 : Int32).toNatClampNeg), .ref (w_adr E.2.1 11 0)]) kX11_read_c3.2.2.2.2.1 wl_X11_457 wMv_72 rfl (.inl rfl) rfl (Nat.le_trans (Nat.le_of_ble_eq_true rfl) hL) (Nat.le_of_ble_eq_true rfl) (Nat.le_of_ble_eq_true rfl) h (fun v9 w8 hle h => ?_) (fun _ _ _ h => kzx_no rfl h)
      have h := h hle
      have hlp5 := w_l_le hlp5 hle
      refine kz_cv0 (M := kt_M98) (c := 11) (o := 0) (As := [.int (w_a w3 17 p5 12 (0 : Int32).toNatClampNeg), .int v9]) (rest := []) kX11_read_c3.2.2.2.2.2.1 wl_X11_348 wMv_127 rfl (.inl rfl) rfl (Nat.le_trans (Nat.le_of_ble_eq_true rfl) hL) (Nat.le_of_ble_eq_true rfl) (Nat.le_of_ble_eq_true rfl) h (fun w10 hle h => ?_) (fun _ _ _ h => kzx_no rfl h)
      have h := h hle
      have hlp5 := w_l_le hlp5 hle
      exact kz_weak [(0, .ref (w_adr E.2.1 10 0))] ⟨rfl, trivial⟩ rfl (zt_X11_read_p61 hL  h)
    · skip
      refine kz_aload_n (M := kt_M98) kX11_read_c2.1 rfl ?_
      refine kz_getsE (M := kt_M98) (v := va_rf (some (E.1.1 64))) kX11_read_c2.2.1 zs_X11_246 ?_
      refine kz_cv0 (M := kt_M98) (c := 10) (o := 0) (As := [va_rf (some (E.1.1 64))]) (rest := []) kX11_read_c2.2.2.1 wl_X11_389 wMv_114 rfl (.inl rfl) rfl (Nat.le_trans (Nat.le_of_ble_eq_true rfl) hL) (by simp [lg_sl, w_cat, z_ci, z_cr, z_cl, z_cn, kt_M114]) (Nat.le_of_ble_eq_true rfl) h (fun w12 hle h => ?_) (fun _ _ _ h => kzx_no rfl h)
      have h := h hle
      have hlp5 := w_l_le hlp5 hle
      refine kz_goto (M := kt_M98) kX11_read_c2.2.2.2.1 (t := 61) rfl ?_
      exact kz_weak [(0, .ref (w_adr E.2.1 10 0))] ⟨rfl, trivial⟩ rfl (zt_X11_read_p61 hL  h)
def zb_X11_first_p0 (E : zE) (L : Nat) (Q : kx_Rs → wS → Prop) (w : wS) : Prop := (kx_inb 0 (w_n w 10 0 16) = true ∧ (((¬ (1 : Int32) < 0 ∧ ¬ (0 : Int32) < 0 ∧ ¬ (((w_i w 10 0 12) - 1)) < 0) ∧ (1 : Int32).toNatClampNeg + (((w_i w 10 0 12) - 1)).toNatClampNeg ≤ w_n (ws_i w 10 0 12 ((w_i w 10 0 12) - 1)) 10 0 16 ∧ (0 : Int32).toNatClampNeg + (((w_i w 10 0 12) - 1)).toNatClampNeg ≤ w_n (ws_i w 10 0 12 ((w_i w 10 0 12) - 1)) 10 0 16 ∧ ∀ i, i < (((w_i w 10 0 12) - 1)).toNatClampNeg → fits .byte (.int (w_a (ws_i w 10 0 12 ((w_i w 10 0 12) - 1)) 10 0 16 ((1 : Int32).toNatClampNeg + i))) = true) ∧ Q (.inl (some (.int ((w_a w 10 0 16 (0 : Int32).toNatClampNeg) &&& 255)))) (ws_A (ws_i w 10 0 12 ((w_i w 10 0 12) - 1)) 10 0 16 (va_cpy (w_a (ws_i w 10 0 12 ((w_i w 10 0 12) - 1)) 10 0 16) (w_a (ws_i w 10 0 12 ((w_i w 10 0 12) - 1)) 10 0 16) (1 : Int32).toNatClampNeg (0 : Int32).toNatClampNeg (((w_i w 10 0 12) - 1)).toNatClampNeg))))
theorem zt_X11_first_p0 {E : zE} {L : Nat} {Q : kx_Rs → wS → Prop} {w : wS} (hL : 60 ≤ L) (h : zb_X11_first_p0 E L Q  w) : kzE E L kt_M72 0 [(0, .ref (w_adr E.2.1 10 0))] [] w Q := by
  unfold zb_X11_first_p0 at h
  refine kz_aload_n (M := kt_M72) kX11_first_c0.1 rfl ?_
  refine kz_gfc (M := kt_M72) (x := 3576) (c := 10) (o := 0) kX11_first_c0.2.1 wf_X11_28 (.inl rfl) ?_
  refine kz_ic (M := kt_M72) 0 kX11_first_c0.2.2.1 rfl ?_
  refine kz_bald (M := kt_M72) (c := 10) (o := 0) (k := 16) (a := (E.2.1 3576)) kX11_first_c0.2.2.2.1 ow_10_0_16 oa_10_0_16 ot_1 h (fun h => ?_)
  refine kz_si (M := kt_M72) 255 kX11_first_c0.2.2.2.2.1 rfl ?_
  refine kz_iand (M := kt_M72) kX11_first_c0.2.2.2.2.2.1 ?_
  refine kz_sti_n (M := kt_M72) [(0, .ref (w_adr E.2.1 10 0))] kX11_first_c0.2.2.2.2.2.2.1 (Nat.le_of_ble_eq_true rfl) ⟨⟨rfl, rfl, .inr rfl⟩, trivial⟩ rfl ?_
  refine kz_aload_n (M := kt_M72) kX11_first_c0.2.2.2.2.2.2.2.1 rfl ?_
  refine kz_dup (M := kt_M72) kX11_first_c1.1 rfl ?_
  refine kz_gfi (M := kt_M72) (c := 10) (o := 0) kX11_first_c1.2.1 wf_X11_189 (.inl rfl) ?_
  refine kz_ic (M := kt_M72) 1 kX11_first_c1.2.2.1 rfl ?_
  refine kz_isub (M := kt_M72) kX11_first_c1.2.2.2.1 ?_
  refine kz_pfi (M := kt_M72) (c := 10) (o := 0) kX11_first_c1.2.2.2.2.1 wq_X11_189 (.inl rfl) ?_
  refine kz_aload_n (M := kt_M72) kX11_first_c1.2.2.2.2.2.1 rfl ?_
  refine kz_gfc (M := kt_M72) (x := 3576) (c := 10) (o := 0) kX11_first_c1.2.2.2.2.2.2.1 wf_X11_28 (.inl rfl) ?_
  refine kz_ic (M := kt_M72) 1 kX11_first_c1.2.2.2.2.2.2.2.1 rfl ?_
  refine kz_aload_n (M := kt_M72) kX11_first_c2.1 rfl ?_
  refine kz_gfc (M := kt_M72) (x := 3576) (c := 10) (o := 0) kX11_first_c2.2.1 wf_X11_28 (.inl rfl) ?_
  refine kz_ic (M := kt_M72) 0 kX11_first_c2.2.2.1 rfl ?_
  refine kz_aload_n (M := kt_M72) kX11_first_c2.2.2.2.1 rfl ?_
  refine kz_gfiR (M := kt_M72) (c := 10) (o := 0) ((w_i w 10 0 12) - 1) kX11_first_c2.2.2.2.2.1 wf_X11_189 (.inl rfl) rd_i_e ?_
  refine kz_cpyi (M := kt_M72) (τ := 1) (ty := .byte) (c0 := 10) (o0 := 0) (k0 := 16) (c := 10) (o := 0) (k := 16) (a0 := (E.2.1 3576)) (a := (E.2.1 3576)) kX11_first_c2.2.2.2.2.2.1 (zac_X11_49) (by decide) rfl rfl ow_10_0_16 oa_10_0_16 ow_10_0_16 oa_10_0_16 (Nat.le_trans (by simp [kx_cat, w_cat, zac_w, z_ci, z_cr, z_cl, z_cn]) hL) h (fun h => ?_)
  refine kz_iload_n (M := kt_M72) kX11_first_c2.2.2.2.2.2.2.1 rfl ?_
  exact kz_iret (M := kt_M72) kX11_first_c2.2.2.2.2.2.2.2.1 rfl rfl h
def zb_X11_byTag_p0 (E : zE) (L : Nat) (Q : kx_Rs → wS → Prop) (w : wS) : Prop := zw E (L - 20) kt_M95 [.ref (w_adr E.2.1 10 0)] w (wk1 (fun v2 w1 => wle w w1 → (∃ p3, w_p w1 10 0 21 = some p3 ∧ w_l w1 E.2.1 17 p3 ∧ zw E (L - 21) kt_M123 [.ref (w_adr E.2.1 11 0), .int v2] (ws_i w1 17 p3 6 v2) (wk1 (fun v5 w4 => wle (ws_i w1 17 p3 6 v2) w4 → (if ¬ v5 = 0 then zw E (L - 22) kt_M90 [.ref (w_adr E.2.1 10 0), .int (v5 - 1)] w4 (wkr (fun v7 w6 => wle w4 w6 → zw E (L - 22) kt_M127 [.ref (w_adr E.2.1 11 0), .int v2, .int 0] w6 (wk0 (fun w8 => wle w6 w8 → zw E (L - 26) kt_M83 [.ref (w_adr E.2.1 10 0), .int v2, va_rf (v7), va_rf (w_p w8 10 0 21)] w8 (wk0 (fun w10 => wle w8 w10 → zw E (L - 23) kt_M113 [.ref (w_adr E.2.1 10 0)] (ws_p (ws_p w10 10 0 22 v7) 10 0 24 v7) (wk0 (fun w12 => wle (ws_p (ws_p w10 10 0 22 v7) 10 0 24 v7) w12 → Q (.inl none) w12) (fun e w => Q (.inr e) w))) (fun e w => Q (.inr e) w))) (fun e w => Q (.inr e) w))) (fun e w => Q (.inr e) w)) else (∃ p14, w_p w4 10 0 21 = some p14 ∧ w_l w4 E.2.1 17 p14 ∧ zw E (L - 22) kt_M127 [.ref (w_adr E.2.1 11 0), .int (v2 + 1), .int ((w_i w4 17 p14 0) + 1)] w4 (wk0 (fun w15 => wle w4 w15 → (∃ p17, w_p w15 10 0 21 = some p17 ∧ w_l w15 E.2.1 17 p17 ∧ zw E (L - 21) kt_M114 [.ref (w_adr E.2.1 10 0), va_rf (some (E.1.1 67))] (ws_i (ws_i w15 17 p17 18 1) 10 0 25 ((w_i w15 10 0 25) - 1)) (wk0 (fun w18 => wle (ws_i (ws_i w15 17 p17 18 1) 10 0 25 ((w_i w15 10 0 25) - 1)) w18 → Q (.inl none) w18) (fun e w => Q (.inr e) w)))) (fun e w => Q (.inr e) w))))) (fun e w => Q (.inr e) w)))) (fun e w => Q (.inr e) w))
theorem zt_X11_byTag_p0 {E : zE} {L : Nat} {Q : kx_Rs → wS → Prop} {w : wS} (hL : 26 ≤ L) (h : zb_X11_byTag_p0 E L Q  w) : kzE E L kt_M64 0 [(0, .ref (w_adr E.2.1 10 0))] [] w Q := by
  unfold zb_X11_byTag_p0 at h
  refine kz_aload_n (M := kt_M64) kX11_byTag_c0.1 rfl ?_
  refine kz_cv1 (M := kt_M64) (c := 10) (o := 0) (As := []) (rest := []) kX11_byTag_c0.2.1 wl_X11_304 wMv_95 rfl (.inl rfl) rfl (Nat.le_trans (Nat.le_of_ble_eq_true rfl) hL) (Nat.le_of_ble_eq_true rfl) (Nat.le_of_ble_eq_true rfl) h (fun v2 w1 hle h => ?_) (fun _ _ _ h => kzx_no rfl h)
  have h := h hle
  refine kz_sti_n (M := kt_M64) [(0, .ref (w_adr E.2.1 10 0))] kX11_byTag_c0.2.2.1 (Nat.le_of_ble_eq_true rfl) ⟨⟨rfl, rfl, .inr rfl⟩, trivial⟩ rfl ?_
  refine kz_aload_n (M := kt_M64) kX11_byTag_c0.2.2.2.1 rfl ?_
  refine kz_gfp (M := kt_M64) (c := 10) (o := 0) kX11_byTag_c0.2.2.2.2.1 wf_X11_110 (.inl rfl) ?_
  refine kz_iload_n (M := kt_M64) kX11_byTag_c0.2.2.2.2.2.1 rfl ?_
  obtain ⟨p3, hxp3, hlp3, h⟩ := h
  refine kz_nz1 (x := w_p w1 10 0 21) hxp3 ?_
  refine kz_pfi (M := kt_M64) (c := 17) (o := p3) kX11_byTag_c0.2.2.2.2.2.2.1 wq_X11_434 (.inr (by exact hlp3)) ?_
  refine kz_aload_n (M := kt_M64) kX11_byTag_c0.2.2.2.2.2.2.2.1 rfl ?_
  refine kz_gfc (M := kt_M64) (x := 44) (c := 10) (o := 0) kX11_byTag_c1.1 wf_X11_12 (.inl rfl) ?_
  refine kz_iload_n (M := kt_M64) kX11_byTag_c1.2.1 rfl ?_
  refine kz_cv1 (M := kt_M64) (c := 11) (o := 0) (As := [.int v2]) (rest := []) kX11_byTag_c1.2.2.1 wl_X11_307 wMv_123 rfl (.inl rfl) rfl (Nat.le_trans (Nat.le_of_ble_eq_true rfl) hL) (Nat.le_of_ble_eq_true rfl) (Nat.le_of_ble_eq_true rfl) h (fun v5 w4 hle h => ?_) (fun _ _ _ h => kzx_no rfl h)
  have h := h hle
  have hlp3 := w_l_le hlp3 hle
  refine kz_sti_n (M := kt_M64) [(0, .ref (w_adr E.2.1 10 0)), (1, .int v2)] kX11_byTag_c1.2.2.2.1 (Nat.le_of_ble_eq_true rfl) ⟨⟨rfl, rfl, .inl rfl⟩, ⟨⟨rfl, rfl, .inr rfl⟩, trivial⟩⟩ rfl ?_
  refine kz_iload_n (M := kt_M64) kX11_byTag_c1.2.2.2.2.1 rfl ?_
  refine kz_if_ne (M := kt_M64) kX11_byTag_c1.2.2.2.2.2.1 (t := 71) rfl h (fun h => ?_) (fun h => ?_)
  · skip
    refine kz_aload_n (M := kt_M64) kX11_byTag_c4.2.2.2.2.2.2.2.1 rfl ?_
    refine kz_iload_n (M := kt_M64) kX11_byTag_c5.1 rfl ?_
    refine kz_ic (M := kt_M64) 1 kX11_byTag_c5.2.1 rfl ?_
    refine kz_isub (M := kt_M64) kX11_byTag_c5.2.2.1 ?_
    refine kz_cvr (M := kt_M64) (c := 10) (o := 0) (As := [.int (v5 - 1)]) (rest := []) kX11_byTag_c5.2.2.2.1 wl_X11_440 wMv_90 rfl (.inl rfl) rfl (Nat.le_trans (Nat.le_of_ble_eq_true rfl) hL) (Nat.le_of_ble_eq_true rfl) (Nat.le_of_ble_eq_true rfl) h (fun v7 w6 hle h => ?_) (fun _ _ _ h => kzx_no rfl h)
    have h := h hle
    have hlp3 := w_l_le hlp3 hle
    refine kz_stv_n (M := kt_M64) (x := v7) [(0, .ref (w_adr E.2.1 10 0)), (1, .int v2)] kX11_byTag_c5.2.2.2.2.1 (Nat.le_of_ble_eq_true rfl) ⟨⟨rfl, rfl, .inl rfl⟩, ⟨⟨rfl, rfl, .inl rfl⟩, trivial⟩⟩ rfl ?_
    refine kz_aload_n (M := kt_M64) kX11_byTag_c5.2.2.2.2.2.1 rfl ?_
    refine kz_gfc (M := kt_M64) (x := 44) (c := 10) (o := 0) kX11_byTag_c5.2.2.2.2.2.2.1 wf_X11_12 (.inl rfl) ?_
    refine kz_iload_n (M := kt_M64) kX11_byTag_c5.2.2.2.2.2.2.2.1 rfl ?_
    refine kz_ic (M := kt_M64) 0 kX11_byTag_c6.1 rfl ?_
    refine kz_cv0 (M := kt_M64) (c := 11) (o := 0) (As := [.int v2, .int 0]) (rest := []) kX11_byTag_c6.2.1 wl_X11_348 wMv_127 rfl (.inl rfl) rfl (Nat.le_trans (Nat.le_of_ble_eq_true rfl) hL) (Nat.le_of_ble_eq_true rfl) (Nat.le_of_ble_eq_true rfl) h (fun w8 hle h => ?_) (fun _ _ _ h => kzx_no rfl h)
    have h := h hle
    have hlp3 := w_l_le hlp3 hle
    refine kz_aload_n (M := kt_M64) kX11_byTag_c6.2.2.1 rfl ?_
    refine kz_iload_n (M := kt_M64) kX11_byTag_c6.2.2.2.1 rfl ?_
    refine kz_aload_nv (M := kt_M64) (x := v7) kX11_byTag_c6.2.2.2.2.1 rfl ?_
    refine kz_aload_n (M := kt_M64) kX11_byTag_c6.2.2.2.2.2.1 rfl ?_
    refine kz_gfp (M := kt_M64) (c := 10) (o := 0) kX11_byTag_c6.2.2.2.2.2.2.1 wf_X11_110 (.inl rfl) ?_
    refine kz_cv0 (M := kt_M64) (c := 10) (o := 0) (As := [.int v2, va_rf (v7), va_rf (w_p w8 10 0 21)]) (rest := []) kX11_byTag_c6.2.2.2.2.2.2.2.1 wl_X11_444 wMv_83 rfl (.inl rfl) rfl (Nat.le_trans (Nat.le_of_ble_eq_true rfl) hL) (by simp [lg_sl, w_cat, z_ci, z_cr, z_cl, z_cn, kt_M83]) (Nat.le_of_ble_eq_true rfl) h (fun w10 hle h => ?_) (fun _ _ _ h => kzx_no rfl h)
    have h := h hle
    have hlp3 := w_l_le hlp3 hle
    refine kz_aload_n (M := kt_M64) kX11_byTag_c7.1 rfl ?_
    refine kz_aload_nv (M := kt_M64) (x := v7) kX11_byTag_c7.2.1 rfl ?_
    refine kz_pfp (M := kt_M64) (n := v7) (c := 10) (o := 0) kX11_byTag_c7.2.2.1 wq_X11_201 (.inl rfl) ?_
    refine kz_aload_n (M := kt_M64) kX11_byTag_c7.2.2.2.1 rfl ?_
    refine kz_aload_nv (M := kt_M64) (x := v7) kX11_byTag_c7.2.2.2.2.1 rfl ?_
    refine kz_pfp (M := kt_M64) (n := v7) (c := 10) (o := 0) kX11_byTag_c7.2.2.2.2.2.1 wq_X11_463 (.inl rfl) ?_
    refine kz_aload_n (M := kt_M64) kX11_byTag_c7.2.2.2.2.2.2.1 rfl ?_
    refine kz_cv0 (M := kt_M64) (c := 10) (o := 0) (As := []) (rest := []) kX11_byTag_c7.2.2.2.2.2.2.2.1 wl_X11_466 wMv_113 rfl (.inl rfl) rfl (Nat.le_trans (Nat.le_of_ble_eq_true rfl) hL) (Nat.le_of_ble_eq_true rfl) (Nat.le_of_ble_eq_true rfl) h (fun w12 hle h => ?_) (fun _ _ _ h => kzx_no rfl h)
    have h := h hle
    have hlp3 := w_l_le hlp3 hle
    exact kz_ret (M := kt_M64) kX11_byTag_c8.1 rfl h
  · skip
    refine kz_aload_n (M := kt_M64) kX11_byTag_c1.2.2.2.2.2.2.1 rfl ?_
    refine kz_gfc (M := kt_M64) (x := 44) (c := 10) (o := 0) kX11_byTag_c1.2.2.2.2.2.2.2.1 wf_X11_12 (.inl rfl) ?_
    refine kz_iload_n (M := kt_M64) kX11_byTag_c2.1 rfl ?_
    refine kz_ic (M := kt_M64) 1 kX11_byTag_c2.2.1 rfl ?_
    refine kz_iadd (M := kt_M64) kX11_byTag_c2.2.2.1 ?_
    refine kz_aload_n (M := kt_M64) kX11_byTag_c2.2.2.2.1 rfl ?_
    refine kz_gfp (M := kt_M64) (c := 10) (o := 0) kX11_byTag_c2.2.2.2.2.1 wf_X11_110 (.inl rfl) ?_
    obtain ⟨p14, hxp14, hlp14, h⟩ := h
    refine kz_nz0 (x := w_p w4 10 0 21) hxp14 ?_
    refine kz_gfi (M := kt_M64) (c := 17) (o := p14) kX11_byTag_c2.2.2.2.2.2.1 wf_X11_249 (.inr (by exact hlp14)) ?_
    refine kz_ic (M := kt_M64) 1 kX11_byTag_c2.2.2.2.2.2.2.1 rfl ?_
    refine kz_iadd (M := kt_M64) kX11_byTag_c2.2.2.2.2.2.2.2.1 ?_
    refine kz_cv0 (M := kt_M64) (c := 11) (o := 0) (As := [.int (v2 + 1), .int ((w_i w4 17 p14 0) + 1)]) (rest := []) kX11_byTag_c3.1 wl_X11_348 wMv_127 rfl (.inl rfl) rfl (Nat.le_trans (Nat.le_of_ble_eq_true rfl) hL) (Nat.le_of_ble_eq_true rfl) (Nat.le_of_ble_eq_true rfl) h (fun w15 hle h => ?_) (fun _ _ _ h => kzx_no rfl h)
    have h := h hle
    have hlp14 := w_l_le hlp14 hle
    have hlp3 := w_l_le hlp3 hle
    refine kz_aload_n (M := kt_M64) kX11_byTag_c3.2.1 rfl ?_
    refine kz_gfp (M := kt_M64) (c := 10) (o := 0) kX11_byTag_c3.2.2.1 wf_X11_110 (.inl rfl) ?_
    refine kz_ic (M := kt_M64) 1 kX11_byTag_c3.2.2.2.1 rfl ?_
    obtain ⟨p17, hxp17, hlp17, h⟩ := h
    refine kz_nz1 (x := w_p w15 10 0 21) hxp17 ?_
    refine kz_pfz (M := kt_M64) (c := 17) (o := p17) kX11_byTag_c3.2.2.2.2.1 wq_X11_448 (.inr (by exact hlp17)) (by decide) ?_
    refine kz_aload_n (M := kt_M64) kX11_byTag_c3.2.2.2.2.2.1 rfl ?_
    refine kz_dup (M := kt_M64) kX11_byTag_c3.2.2.2.2.2.2.1 rfl ?_
    refine kz_gfiR (M := kt_M64) (c := 10) (o := 0) (w_i w15 10 0 25) kX11_byTag_c3.2.2.2.2.2.2.2.1 wf_X11_59 (.inl rfl) (rd_i_i rfl) ?_
    refine kz_ic (M := kt_M64) 1 kX11_byTag_c4.1 rfl ?_
    refine kz_isub (M := kt_M64) kX11_byTag_c4.2.1 ?_
    refine kz_pfi (M := kt_M64) (c := 10) (o := 0) kX11_byTag_c4.2.2.1 wq_X11_59 (.inl rfl) ?_
    refine kz_aload_n (M := kt_M64) kX11_byTag_c4.2.2.2.1 rfl ?_
    refine kz_getsE (M := kt_M64) (v := va_rf (some (E.1.1 67))) kX11_byTag_c4.2.2.2.2.1 zs_X11_460 ?_
    refine kz_cv0 (M := kt_M64) (c := 10) (o := 0) (As := [va_rf (some (E.1.1 67))]) (rest := []) kX11_byTag_c4.2.2.2.2.2.1 wl_X11_389 wMv_114 rfl (.inl rfl) rfl (Nat.le_trans (Nat.le_of_ble_eq_true rfl) hL) (by simp [lg_sl, w_cat, z_ci, z_cr, z_cl, z_cn, kt_M114]) (Nat.le_of_ble_eq_true rfl) h (fun w18 hle h => ?_) (fun _ _ _ h => kzx_no rfl h)
    have h := h hle
    have hlp14 := w_l_le hlp14 hle
    have hlp17 := w_l_le hlp17 hle
    have hlp3 := w_l_le hlp3 hle
    exact kz_ret (M := kt_M64) kX11_byTag_c4.2.2.2.2.2.2.1 rfl h
def zb_X11_take_p0 (E : zE) (L : Nat) (Q : kx_Rs → wS → Prop) (x1 : Int32) (w : wS) : Prop := zw E (L - 22) kt_M94 [.ref (w_adr E.2.1 10 0), .int x1] w (wk0 (fun w1 => wle w w1 → (∃ p3, w_p w1 10 0 21 = some p3 ∧ w_l w1 E.2.1 17 p3 ∧ zw E (L - 27) kt_M63 [.ref (w_adr E.2.1 10 0), va_rf (w_p w1 10 0 24), .int 2, .ref (w_d w1 17 p3 12), .int (w_i w1 17 p3 15)] w1 (wk0 (fun w4 => wle w1 w4 → Q (.inl none) (ws_i w4 10 0 32 0)) (fun e w => Q (.inr e) w)))) (fun e w => Q (.inr e) w))
theorem zt_X11_take_p0 {E : zE} {L : Nat} {Q : kx_Rs → wS → Prop} {x1 : Int32} {w : wS} (hL : 27 ≤ L) (h : zb_X11_take_p0 E L Q x1 w) : kzE E L kt_M109 0 [(0, .ref (w_adr E.2.1 10 0)), (1, .int x1)] [] w Q := by
  unfold zb_X11_take_p0 at h
  refine kz_aload_n (M := kt_M109) kX11_take_c0.1 rfl ?_
  refine kz_iload_n (M := kt_M109) kX11_take_c0.2.1 rfl ?_
  refine kz_cv0 (M := kt_M109) (c := 10) (o := 0) (As := [.int x1]) (rest := []) kX11_take_c0.2.2.1 wl_X11_432 wMv_94 rfl (.inl rfl) rfl (Nat.le_trans (Nat.le_of_ble_eq_true rfl) hL) (Nat.le_of_ble_eq_true rfl) (Nat.le_of_ble_eq_true rfl) h (fun w1 hle h => ?_) (fun _ _ _ h => kzx_no rfl h)
  have h := h hle
  refine kz_aload_n (M := kt_M109) kX11_take_c0.2.2.2.1 rfl ?_
  refine kz_aload_n (M := kt_M109) kX11_take_c0.2.2.2.2.1 rfl ?_
  refine kz_gfp (M := kt_M109) (c := 10) (o := 0) kX11_take_c0.2.2.2.2.2.1 wf_X11_463 (.inl rfl) ?_
  refine kz_ic (M := kt_M109) 2 kX11_take_c0.2.2.2.2.2.2.1 rfl ?_
  refine kz_aload_n (M := kt_M109) kX11_take_c0.2.2.2.2.2.2.2.1 rfl ?_
  refine kz_gfp (M := kt_M109) (c := 10) (o := 0) kX11_take_c1.1 wf_X11_110 (.inl rfl) ?_
  obtain ⟨p3, hxp3, hlp3, h⟩ := h
  refine kz_nz0 (x := w_p w1 10 0 21) hxp3 ?_
  refine kz_gfa (M := kt_M109) (c := 17) (o := p3) kX11_take_c1.2.1 wf_X11_425 (.inr (by exact hlp3)) ?_
  refine kz_aload_n (M := kt_M109) kX11_take_c1.2.2.1 rfl ?_
  refine kz_gfp (M := kt_M109) (c := 10) (o := 0) kX11_take_c1.2.2.2.1 wf_X11_110 (.inl rfl) ?_
  refine kz_nz0 (x := w_p w1 10 0 21) hxp3 ?_
  refine kz_gfi (M := kt_M109) (c := 17) (o := p3) kX11_take_c1.2.2.2.2.1 wf_X11_429 (.inr (by exact hlp3)) ?_
  refine kz_cv0 (M := kt_M109) (c := 10) (o := 0) (As := [va_rf (w_p w1 10 0 24), .int 2, .ref (w_d w1 17 p3 12), .int (w_i w1 17 p3 15)]) (rest := []) kX11_take_c1.2.2.2.2.2.1 wl_X11_453 wMv_63 rfl (.inl rfl) rfl (Nat.le_trans (Nat.le_of_ble_eq_true rfl) hL) (by simp [lg_sl, w_cat, z_ci, z_cr, z_cl, z_cn, kt_M63]) (Nat.le_of_ble_eq_true rfl) h (fun w4 hle h => ?_) (fun _ _ _ h => kzx_no rfl h)
  have h := h hle
  have hlp3 := w_l_le hlp3 hle
  refine kz_aload_n (M := kt_M109) kX11_take_c1.2.2.2.2.2.2.1 rfl ?_
  refine kz_ic (M := kt_M109) 0 kX11_take_c1.2.2.2.2.2.2.2.1 rfl ?_
  refine kz_pfz (M := kt_M109) (c := 10) (o := 0) kX11_take_c2.1 wq_X11_204 (.inl rfl) (by decide) ?_
  exact kz_ret (M := kt_M109) kX11_take_c2.2.1 rfl h
def zb_X11_isAfter_p14 (E : zE) (L : Nat) (Q : kx_Rs → wS → Prop) (y0 : Int32) (w : wS) : Prop := ((y0 = 0 ∨ y0 = 1) ∧ Q (.inl (some (.int y0))) w)
theorem zt_X11_isAfter_p14 {E : zE} {L : Nat} {Q : kx_Rs → wS → Prop} {y0 : Int32} {w : wS} (hL : 19 ≤ L) (h : zb_X11_isAfter_p14 E L Q y0 w) : kzE E L kt_M77 14 [(0, .ref (w_adr E.2.1 10 0))] [.int y0] w Q := by
  unfold zb_X11_isAfter_p14 at h
  exact kz_iretz (M := kt_M77) kX11_isAfter_c1.1 rfl h.1 h.2
def zb_X11_isAfter_p0 (E : zE) (L : Nat) (Q : kx_Rs → wS → Prop) (x1 : Int32) (w : wS) : Prop := (if ((w_i w 10 0 8) - x1) ≤ 0 then zb_X11_isAfter_p14 E L Q 0 w else zb_X11_isAfter_p14 E L Q 1 w)
theorem zt_X11_isAfter_p0 {E : zE} {L : Nat} {Q : kx_Rs → wS → Prop} {x1 : Int32} {w : wS} (hL : 19 ≤ L) (h : zb_X11_isAfter_p0 E L Q x1 w) : kzE E L kt_M77 0 [(0, .ref (w_adr E.2.1 10 0)), (1, .int x1)] [] w Q := by
  unfold zb_X11_isAfter_p0 at h
  refine kz_aload_n (M := kt_M77) kX11_isAfter_c0.1 rfl ?_
  refine kz_gfi (M := kt_M77) (c := 10) (o := 0) kX11_isAfter_c0.2.1 wf_X11_177 (.inl rfl) ?_
  refine kz_iload_n (M := kt_M77) kX11_isAfter_c0.2.2.1 rfl ?_
  refine kz_isub (M := kt_M77) kX11_isAfter_c0.2.2.2.1 ?_
  refine kz_if_le (M := kt_M77) kX11_isAfter_c0.2.2.2.2.1 (t := 13) rfl h (fun h => ?_) (fun h => ?_)
  · skip
    refine kz_ic (M := kt_M77) 0 kX11_isAfter_c0.2.2.2.2.2.2.2.1 rfl ?_
    exact kz_weak [(0, .ref (w_adr E.2.1 10 0))] ⟨rfl, trivial⟩ rfl (zt_X11_isAfter_p14 hL  h)
  · skip
    refine kz_ic (M := kt_M77) 1 kX11_isAfter_c0.2.2.2.2.2.1 rfl ?_
    refine kz_goto (M := kt_M77) kX11_isAfter_c0.2.2.2.2.2.2.1 (t := 14) rfl ?_
    exact kz_weak [(0, .ref (w_adr E.2.1 10 0))] ⟨rfl, trivial⟩ rfl (zt_X11_isAfter_p14 hL  h)
def zL_X11_choose_p130 (E : zE) (L : Nat) (Q : kx_Rs → wS → Prop) (x2 : Int32) (x4 : Int32) (x5 : Int32) (w : wS) : Prop := kzE E L kt_M67 130 [(0, .ref (w_adr E.2.1 10 0)), (2, .int x2), (4, .int x4), (5, .int x5)] [] w Q
def zL_X11_choose_p5 (E : zE) (L : Nat) (Q : kx_Rs → wS → Prop) (x1 : Int32) (x2 : Int32) (x3 : Int32) (x4 : Int32) (w : wS) : Prop := kzE E L kt_M67 5 [(0, .ref (w_adr E.2.1 10 0)), (1, .int x1), (2, .int x2), (3, .int x3), (4, .int x4)] [] w Q
def zb_X11_choose_p273 (E : zE) (L : Nat) (Q : kx_Rs → wS → Prop) (x5 : Int32) (w : wS) : Prop := (∃ p1, w_p w 10 0 21 = some p1 ∧ w_l w E.2.1 17 p1 ∧ (kx_inb (x5 + 2) (w_n w 17 p1 13) = true ∧ Q (.inl none) (ws_i (ws_i w 10 0 25 (w_a w 17 p1 13 ((x5 + 2)).toNatClampNeg)) 17 p1 16 0)))
theorem zt_X11_choose_p273 {E : zE} {L : Nat} {Q : kx_Rs → wS → Prop} {x5 : Int32} {w : wS} (hL : 23 ≤ L) (h : zb_X11_choose_p273 E L Q x5 w) : kzE E L kt_M67 273 [(0, .ref (w_adr E.2.1 10 0)), (5, .int x5)] [] w Q := by
  unfold zb_X11_choose_p273 at h
  refine kz_aload_n (M := kt_M67) kX11_choose_c18.2.1 rfl ?_
  refine kz_aload_n (M := kt_M67) kX11_choose_c18.2.2.1 rfl ?_
  refine kz_gfp (M := kt_M67) (c := 10) (o := 0) kX11_choose_c18.2.2.2.1 wf_X11_110 (.inl rfl) ?_
  obtain ⟨p1, hxp1, hlp1, h⟩ := h
  refine kz_nz0 (x := w_p w 10 0 21) hxp1 ?_
  refine kz_gfa (M := kt_M67) (c := 17) (o := p1) kX11_choose_c18.2.2.2.2.1 wf_X11_237 (.inr (by exact hlp1)) ?_
  refine kz_iload (M := kt_M67) kX11_choose_c18.2.2.2.2.2.1 rfl ?_
  refine kz_ic (M := kt_M67) 2 kX11_choose_c18.2.2.2.2.2.2.1 rfl ?_
  refine kz_iadd (M := kt_M67) kX11_choose_c18.2.2.2.2.2.2.2.1 ?_
  refine kz_iald (M := kt_M67) (c := 17) (o := p1) (k := 13) (a := (w_d w 17 p1 13)) kX11_choose_c19.1 (.inr ⟨.inr (by exact hlp1), rfl, rfl⟩) rfl ot_0 h (fun h => ?_)
  refine kz_pfi (M := kt_M67) (c := 10) (o := 0) kX11_choose_c19.2.1 wq_X11_59 (.inl rfl) ?_
  refine kz_aload_n (M := kt_M67) kX11_choose_c19.2.2.1 rfl ?_
  refine kz_gfpR (M := kt_M67) (c := 10) (o := 0) (w_p w 10 0 21) kX11_choose_c19.2.2.2.1 wf_X11_110 (.inl rfl) rd_p_i ?_
  refine kz_ic (M := kt_M67) 0 kX11_choose_c19.2.2.2.2.1 rfl ?_
  refine kz_nz1 (x := w_p w 10 0 21) hxp1 ?_
  refine kz_pfi (M := kt_M67) (c := 17) (o := p1) kX11_choose_c19.2.2.2.2.2.1 wq_X11_234 (.inr (by exact hlp1)) ?_
  exact kz_ret (M := kt_M67) kX11_choose_c19.2.2.2.2.2.2.1 rfl h
def zb_X11_choose_p243 (E : zE) (L : Nat) (Q : kx_Rs → wS → Prop) (x5 : Int32) (w : wS) : Prop := (∃ p1, w_p w 10 0 21 = some p1 ∧ w_l w E.2.1 17 p1 ∧ (kx_inb x5 (w_n w 17 p1 13) = true ∧ (if ¬ w_a w 17 p1 13 (x5).toNatClampNeg = 1 then zb_X11_choose_p273 E L Q x5 w else (kx_inb (x5 + 1) (w_n w 17 p1 13) = true ∧ zw E (L - 22) kt_M97 [.ref (w_adr E.2.1 10 0), .int (w_a w 17 p1 13 ((x5 + 1)).toNatClampNeg)] w (wk0 (fun w2 => wle w w2 → zb_X11_choose_p273 E L Q x5 w2) (fun e w => Q (.inr e) w))))))
theorem zt_X11_choose_p243 {E : zE} {L : Nat} {Q : kx_Rs → wS → Prop} {x5 : Int32} {w : wS} (hL : 23 ≤ L) (h : zb_X11_choose_p243 E L Q x5 w) : kzE E L kt_M67 243 [(0, .ref (w_adr E.2.1 10 0)), (5, .int x5)] [] w Q := by
  unfold zb_X11_choose_p243 at h
  refine kz_aload_n (M := kt_M67) kX11_choose_c16.2.1 rfl ?_
  refine kz_gfp (M := kt_M67) (c := 10) (o := 0) kX11_choose_c16.2.2.1 wf_X11_110 (.inl rfl) ?_
  obtain ⟨p1, hxp1, hlp1, h⟩ := h
  refine kz_nz0 (x := w_p w 10 0 21) hxp1 ?_
  refine kz_gfa (M := kt_M67) (c := 17) (o := p1) kX11_choose_c16.2.2.2.1 wf_X11_237 (.inr (by exact hlp1)) ?_
  refine kz_iload (M := kt_M67) kX11_choose_c16.2.2.2.2.1 rfl ?_
  refine kz_iald (M := kt_M67) (c := 17) (o := p1) (k := 13) (a := (w_d w 17 p1 13)) kX11_choose_c16.2.2.2.2.2.1 (.inr ⟨.inr (by exact hlp1), rfl, rfl⟩) rfl ot_0 h (fun h => ?_)
  refine kz_ic (M := kt_M67) 1 kX11_choose_c16.2.2.2.2.2.2.1 rfl ?_
  refine kz_icmp_ne (M := kt_M67) kX11_choose_c16.2.2.2.2.2.2.2.1 (t := 273) rfl h (fun h => ?_) (fun h => ?_)
  · skip
    exact kz_weak [(0, .ref (w_adr E.2.1 10 0)), (5, .int x5)] ⟨rfl, ⟨rfl, trivial⟩⟩ rfl (zt_X11_choose_p273 hL  h)
  · skip
    refine kz_aload_n (M := kt_M67) kX11_choose_c17.1 rfl ?_
    refine kz_aload_n (M := kt_M67) kX11_choose_c17.2.1 rfl ?_
    refine kz_gfp (M := kt_M67) (c := 10) (o := 0) kX11_choose_c17.2.2.1 wf_X11_110 (.inl rfl) ?_
    refine kz_nz0 (x := w_p w 10 0 21) hxp1 ?_
    refine kz_gfa (M := kt_M67) (c := 17) (o := p1) kX11_choose_c17.2.2.2.1 wf_X11_237 (.inr (by exact hlp1)) ?_
    refine kz_iload (M := kt_M67) kX11_choose_c17.2.2.2.2.1 rfl ?_
    refine kz_ic (M := kt_M67) 1 kX11_choose_c17.2.2.2.2.2.1 rfl ?_
    refine kz_iadd (M := kt_M67) kX11_choose_c17.2.2.2.2.2.2.1 ?_
    refine kz_iald (M := kt_M67) (c := 17) (o := p1) (k := 13) (a := (w_d w 17 p1 13)) kX11_choose_c17.2.2.2.2.2.2.2.1 (.inr ⟨.inr (by exact hlp1), rfl, rfl⟩) rfl ot_0 h (fun h => ?_)
    refine kz_cv0 (M := kt_M67) (c := 10) (o := 0) (As := [.int (w_a w 17 p1 13 ((x5 + 1)).toNatClampNeg)]) (rest := []) kX11_choose_c18.1 wl_X11_301 wMv_97 rfl (.inl rfl) rfl (Nat.le_trans (Nat.le_of_ble_eq_true rfl) hL) (Nat.le_of_ble_eq_true rfl) (Nat.le_of_ble_eq_true rfl) h (fun w2 hle h => ?_) (fun _ _ _ h => kzx_no rfl h)
    have h := h hle
    have hlp1 := w_l_le hlp1 hle
    exact kz_weak [(0, .ref (w_adr E.2.1 10 0)), (5, .int x5)] ⟨rfl, ⟨rfl, trivial⟩⟩ rfl (zt_X11_choose_p273 hL  h)
def zb_X11_choose_p200 (E : zE) (L : Nat) (Q : kx_Rs → wS → Prop) (x2 : Int32) (x5 : Int32) (y0 : Int32) (y1 : Int32) (w : wS) : Prop := zL_X11_choose_p130 E L Q x2 (y1 - y0) (x5 + 4) w
theorem zt_X11_choose_p200 {E : zE} {L : Nat} {Q : kx_Rs → wS → Prop} {x2 : Int32} {x5 : Int32} {y0 : Int32} {y1 : Int32} {w : wS} (hL : 23 ≤ L) (h : zb_X11_choose_p200 E L Q x2 x5 y0 y1 w) : kzE E L kt_M67 200 [(0, .ref (w_adr E.2.1 10 0)), (2, .int x2), (5, .int x5)] [.int y0, .int y1] w Q := by
  unfold zb_X11_choose_p200 at h
  refine kz_isub (M := kt_M67) kX11_choose_c13.2.2.1 ?_
  refine kz_sti (M := kt_M67) [(0, .ref (w_adr E.2.1 10 0)), (2, .int x2), (5, .int x5)] kX11_choose_c13.2.2.2.1 (Nat.le_of_ble_eq_true rfl) ⟨⟨rfl, rfl, .inl rfl⟩, ⟨⟨rfl, rfl, .inl rfl⟩, ⟨⟨rfl, rfl, .inl rfl⟩, trivial⟩⟩⟩ rfl ?_
  refine kz_inc (M := kt_M67) [(0, .ref (w_adr E.2.1 10 0)), (2, .int x2), (4, .int (y1 - y0))] kX11_choose_c13.2.2.2.2.1 rfl (Nat.le_of_ble_eq_true rfl) ⟨⟨rfl, rfl, .inl rfl⟩, ⟨⟨rfl, rfl, .inl rfl⟩, ⟨⟨rfl, rfl, .inr rfl⟩, trivial⟩⟩⟩ rfl ?_
  refine kz_goto (M := kt_M67) kX11_choose_c13.2.2.2.2.2.1 (t := 130) rfl ?_
  exact kz_weak [(0, .ref (w_adr E.2.1 10 0)), (2, .int x2), (4, .int (y1 - y0)), (5, .int (x5 + 4))] ⟨rfl, ⟨rfl, ⟨rfl, ⟨rfl, trivial⟩⟩⟩⟩ rfl h
def zb_X11_choose_p164 (E : zE) (L : Nat) (Q : kx_Rs → wS → Prop) (x2 : Int32) (x4 : Int32) (x5 : Int32) (w : wS) : Prop := (∃ p1, w_p w 10 0 21 = some p1 ∧ w_l w E.2.1 17 p1 ∧ (kx_inb x5 (w_n w 17 p1 13) = true ∧ (kx_inb (x5 + 1) (w_n w 17 p1 13) = true ∧ zw E (L - 22) kt_M78 [.ref (w_adr E.2.1 10 0), .int (w_a w 17 p1 13 (x5).toNatClampNeg), .int (w_a w 17 p1 13 ((x5 + 1)).toNatClampNeg)] w (wk1 (fun v3 w2 => wle w w2 → (if v3 = 0 then zb_X11_choose_p200 E L Q x2 x5 0 x4 w2 else zb_X11_choose_p200 E L Q x2 x5 1 x4 w2)) (fun e w => Q (.inr e) w)))))
theorem zt_X11_choose_p164 {E : zE} {L : Nat} {Q : kx_Rs → wS → Prop} {x2 : Int32} {x4 : Int32} {x5 : Int32} {w : wS} (hL : 23 ≤ L) (h : zb_X11_choose_p164 E L Q x2 x4 x5 w) : kzE E L kt_M67 164 [(0, .ref (w_adr E.2.1 10 0)), (2, .int x2), (4, .int x4), (5, .int x5)] [] w Q := by
  unfold zb_X11_choose_p164 at h
  refine kz_iload (M := kt_M67) kX11_choose_c10.2.2.2.2.2.2.2.1 rfl ?_
  refine kz_aload_n (M := kt_M67) kX11_choose_c11.1 rfl ?_
  refine kz_aload_n (M := kt_M67) kX11_choose_c11.2.1 rfl ?_
  refine kz_gfp (M := kt_M67) (c := 10) (o := 0) kX11_choose_c11.2.2.1 wf_X11_110 (.inl rfl) ?_
  obtain ⟨p1, hxp1, hlp1, h⟩ := h
  refine kz_nz0 (x := w_p w 10 0 21) hxp1 ?_
  refine kz_gfa (M := kt_M67) (c := 17) (o := p1) kX11_choose_c11.2.2.2.1 wf_X11_237 (.inr (by exact hlp1)) ?_
  refine kz_iload (M := kt_M67) kX11_choose_c11.2.2.2.2.1 rfl ?_
  refine kz_iald (M := kt_M67) (c := 17) (o := p1) (k := 13) (a := (w_d w 17 p1 13)) kX11_choose_c11.2.2.2.2.2.1 (.inr ⟨.inr (by exact hlp1), rfl, rfl⟩) rfl ot_0 h (fun h => ?_)
  refine kz_aload_n (M := kt_M67) kX11_choose_c11.2.2.2.2.2.2.1 rfl ?_
  refine kz_gfp (M := kt_M67) (c := 10) (o := 0) kX11_choose_c11.2.2.2.2.2.2.2.1 wf_X11_110 (.inl rfl) ?_
  refine kz_nz0 (x := w_p w 10 0 21) hxp1 ?_
  refine kz_gfa (M := kt_M67) (c := 17) (o := p1) kX11_choose_c12.1 wf_X11_237 (.inr (by exact hlp1)) ?_
  refine kz_iload (M := kt_M67) kX11_choose_c12.2.1 rfl ?_
  refine kz_ic (M := kt_M67) 1 kX11_choose_c12.2.2.1 rfl ?_
  refine kz_iadd (M := kt_M67) kX11_choose_c12.2.2.2.1 ?_
  refine kz_iald (M := kt_M67) (c := 17) (o := p1) (k := 13) (a := (w_d w 17 p1 13)) kX11_choose_c12.2.2.2.2.1 (.inr ⟨.inr (by exact hlp1), rfl, rfl⟩) rfl ot_0 h (fun h => ?_)
  refine kz_cv1 (M := kt_M67) (c := 10) (o := 0) (As := [.int (w_a w 17 p1 13 (x5).toNatClampNeg), .int (w_a w 17 p1 13 ((x5 + 1)).toNatClampNeg)]) (rest := [.int x4]) kX11_choose_c12.2.2.2.2.2.1 wl_X11_469 wMv_78 rfl (.inl rfl) rfl (Nat.le_trans (Nat.le_of_ble_eq_true rfl) hL) (Nat.le_of_ble_eq_true rfl) (Nat.le_of_ble_eq_true rfl) h (fun v3 w2 hle h => ?_) (fun _ _ _ h => kzx_no rfl h)
  have h := h hle
  have hlp1 := w_l_le hlp1 hle
  refine kz_if_eq (M := kt_M67) kX11_choose_c12.2.2.2.2.2.2.1 (t := 199) rfl h (fun h => ?_) (fun h => ?_)
  · skip
    refine kz_ic (M := kt_M67) 0 kX11_choose_c13.2.1 rfl ?_
    exact kz_weak [(0, .ref (w_adr E.2.1 10 0)), (2, .int x2), (5, .int x5)] ⟨rfl, ⟨rfl, ⟨rfl, trivial⟩⟩⟩ rfl (zt_X11_choose_p200 hL  h)
  · skip
    refine kz_ic (M := kt_M67) 1 kX11_choose_c12.2.2.2.2.2.2.2.1 rfl ?_
    refine kz_goto (M := kt_M67) kX11_choose_c13.1 (t := 200) rfl ?_
    exact kz_weak [(0, .ref (w_adr E.2.1 10 0)), (2, .int x2), (5, .int x5)] ⟨rfl, ⟨rfl, ⟨rfl, trivial⟩⟩⟩ rfl (zt_X11_choose_p200 hL  h)
def zb_X11_choose_p130 (E : zE) (L : Nat) (Q : kx_Rs → wS → Prop) (x2 : Int32) (x4 : Int32) (x5 : Int32) (w : wS) : Prop := (if 0 < x4 then zb_X11_choose_p164 E L Q x2 x4 x5 w else (∃ p1, w_p w 10 0 21 = some p1 ∧ w_l w E.2.1 17 p1 ∧ (kx_inb x5 (w_n w 17 p1 13) = true ∧ (kx_inb (x5 + 1) (w_n w 17 p1 13) = true ∧ zw E (L - 22) kt_M78 [.ref (w_adr E.2.1 10 0), .int (w_a w 17 p1 13 (x5).toNatClampNeg), .int (w_a w 17 p1 13 ((x5 + 1)).toNatClampNeg)] w (wk1 (fun v3 w2 => wle w w2 → (if ¬ v3 = 0 then zw E (L - 22) kt_M110 [.ref (w_adr E.2.1 10 0), .int 0] w2 (wk0 (fun w4 => wle w2 w4 → (if x2 = (-1) then zb_X11_choose_p243 E L Q x5 w4 else (∃ p6, w_p w4 10 0 21 = some p6 ∧ w_l w4 E.2.1 17 p6 ∧ (kx_inb (x5 + 3) (w_n w4 17 p6 13) = true ∧ zw E (L - 23) kt_M128 [.ref (w_adr E.2.1 11 0), .int (w_i w4 10 0 26), .int x2, .int (w_a w4 17 p6 13 ((x5 + 3)).toNatClampNeg)] w4 (wk0 (fun w7 => wle w4 w7 → zb_X11_choose_p243 E L Q x5 w7) (fun e w => Q (.inr e) w)))))) (fun e w => Q (.inr e) w)) else zb_X11_choose_p164 E L Q x2 x4 x5 w2)) (fun e w => Q (.inr e) w))))))
theorem zt_X11_choose_p130 {E : zE} {L : Nat} {Q : kx_Rs → wS → Prop} {x2 : Int32} {x4 : Int32} {x5 : Int32} {w : wS} (hL : 23 ≤ L) (h : zb_X11_choose_p130 E L Q x2 x4 x5 w) : kzE E L kt_M67 130 [(0, .ref (w_adr E.2.1 10 0)), (2, .int x2), (4, .int x4), (5, .int x5)] [] w Q := by
  unfold zb_X11_choose_p130 at h
  refine kz_iload (M := kt_M67) kX11_choose_c8.2.2.2.2.2.2.1 rfl ?_
  refine kz_if_gt (M := kt_M67) kX11_choose_c8.2.2.2.2.2.2.2.1 (t := 164) rfl h (fun h => ?_) (fun h => ?_)
  · skip
    exact kz_weak [(0, .ref (w_adr E.2.1 10 0)), (2, .int x2), (4, .int x4), (5, .int x5)] ⟨rfl, ⟨rfl, ⟨rfl, ⟨rfl, trivial⟩⟩⟩⟩ rfl (zt_X11_choose_p164 hL  h)
  · skip
    refine kz_aload_n (M := kt_M67) kX11_choose_c9.1 rfl ?_
    refine kz_aload_n (M := kt_M67) kX11_choose_c9.2.1 rfl ?_
    refine kz_gfp (M := kt_M67) (c := 10) (o := 0) kX11_choose_c9.2.2.1 wf_X11_110 (.inl rfl) ?_
    obtain ⟨p1, hxp1, hlp1, h⟩ := h
    refine kz_nz0 (x := w_p w 10 0 21) hxp1 ?_
    refine kz_gfa (M := kt_M67) (c := 17) (o := p1) kX11_choose_c9.2.2.2.1 wf_X11_237 (.inr (by exact hlp1)) ?_
    refine kz_iload (M := kt_M67) kX11_choose_c9.2.2.2.2.1 rfl ?_
    refine kz_iald (M := kt_M67) (c := 17) (o := p1) (k := 13) (a := (w_d w 17 p1 13)) kX11_choose_c9.2.2.2.2.2.1 (.inr ⟨.inr (by exact hlp1), rfl, rfl⟩) rfl ot_0 h (fun h => ?_)
    refine kz_aload_n (M := kt_M67) kX11_choose_c9.2.2.2.2.2.2.1 rfl ?_
    refine kz_gfp (M := kt_M67) (c := 10) (o := 0) kX11_choose_c9.2.2.2.2.2.2.2.1 wf_X11_110 (.inl rfl) ?_
    refine kz_nz0 (x := w_p w 10 0 21) hxp1 ?_
    refine kz_gfa (M := kt_M67) (c := 17) (o := p1) kX11_choose_c10.1 wf_X11_237 (.inr (by exact hlp1)) ?_
    refine kz_iload (M := kt_M67) kX11_choose_c10.2.1 rfl ?_
    refine kz_ic (M := kt_M67) 1 kX11_choose_c10.2.2.1 rfl ?_
    refine kz_iadd (M := kt_M67) kX11_choose_c10.2.2.2.1 ?_
    refine kz_iald (M := kt_M67) (c := 17) (o := p1) (k := 13) (a := (w_d w 17 p1 13)) kX11_choose_c10.2.2.2.2.1 (.inr ⟨.inr (by exact hlp1), rfl, rfl⟩) rfl ot_0 h (fun h => ?_)
    refine kz_cv1 (M := kt_M67) (c := 10) (o := 0) (As := [.int (w_a w 17 p1 13 (x5).toNatClampNeg), .int (w_a w 17 p1 13 ((x5 + 1)).toNatClampNeg)]) (rest := []) kX11_choose_c10.2.2.2.2.2.1 wl_X11_469 wMv_78 rfl (.inl rfl) rfl (Nat.le_trans (Nat.le_of_ble_eq_true rfl) hL) (Nat.le_of_ble_eq_true rfl) (Nat.le_of_ble_eq_true rfl) h (fun v3 w2 hle h => ?_) (fun _ _ _ h => kzx_no rfl h)
    have h := h hle
    have hlp1 := w_l_le hlp1 hle
    refine kz_if_ne (M := kt_M67) kX11_choose_c10.2.2.2.2.2.2.1 (t := 209) rfl h (fun h => ?_) (fun h => ?_)
    · skip
      refine kz_aload_n (M := kt_M67) kX11_choose_c13.2.2.2.2.2.2.1 rfl ?_
      refine kz_ic (M := kt_M67) 0 kX11_choose_c13.2.2.2.2.2.2.2.1 rfl ?_
      refine kz_cv0 (M := kt_M67) (c := 10) (o := 0) (As := [.int 0]) (rest := []) kX11_choose_c14.1 wl_X11_473 wMv_110 rfl (.inl rfl) rfl (Nat.le_trans (Nat.le_of_ble_eq_true rfl) hL) (Nat.le_of_ble_eq_true rfl) (Nat.le_of_ble_eq_true rfl) h (fun w4 hle h => ?_) (fun _ _ _ h => kzx_no rfl h)
      have h := h hle
      have hlp1 := w_l_le hlp1 hle
      refine kz_iload_n (M := kt_M67) kX11_choose_c14.2.1 rfl ?_
      refine kz_ic (M := kt_M67) (-1) kX11_choose_c14.2.2.1 rfl ?_
      refine kz_icmp_eq (M := kt_M67) kX11_choose_c14.2.2.2.1 (t := 243) rfl h (fun h => ?_) (fun h => ?_)
      · skip
        exact kz_weak [(0, .ref (w_adr E.2.1 10 0)), (5, .int x5)] ⟨rfl, ⟨rfl, trivial⟩⟩ rfl (zt_X11_choose_p243 hL  h)
      · skip
        refine kz_aload_n (M := kt_M67) kX11_choose_c14.2.2.2.2.1 rfl ?_
        refine kz_gfc (M := kt_M67) (x := 44) (c := 10) (o := 0) kX11_choose_c14.2.2.2.2.2.1 wf_X11_12 (.inl rfl) ?_
        refine kz_aload_n (M := kt_M67) kX11_choose_c14.2.2.2.2.2.2.1 rfl ?_
        refine kz_gfi (M := kt_M67) (c := 10) (o := 0) kX11_choose_c14.2.2.2.2.2.2.2.1 wf_X11_114 (.inl rfl) ?_
        refine kz_iload_n (M := kt_M67) kX11_choose_c15.1 rfl ?_
        refine kz_aload_n (M := kt_M67) kX11_choose_c15.2.1 rfl ?_
        refine kz_gfp (M := kt_M67) (c := 10) (o := 0) kX11_choose_c15.2.2.1 wf_X11_110 (.inl rfl) ?_
        obtain ⟨p6, hxp6, hlp6, h⟩ := h
        refine kz_nz0 (x := w_p w4 10 0 21) hxp6 ?_
        refine kz_gfa (M := kt_M67) (c := 17) (o := p6) kX11_choose_c15.2.2.2.1 wf_X11_237 (.inr (by exact hlp6)) ?_
        refine kz_iload (M := kt_M67) kX11_choose_c15.2.2.2.2.1 rfl ?_
        refine kz_ic (M := kt_M67) 3 kX11_choose_c15.2.2.2.2.2.1 rfl ?_
        refine kz_iadd (M := kt_M67) kX11_choose_c15.2.2.2.2.2.2.1 ?_
        refine kz_iald (M := kt_M67) (c := 17) (o := p6) (k := 13) (a := (w_d w4 17 p6 13)) kX11_choose_c15.2.2.2.2.2.2.2.1 (.inr ⟨.inr (by exact hlp6), rfl, rfl⟩) rfl ot_0 h (fun h => ?_)
        refine kz_cv0 (M := kt_M67) (c := 11) (o := 0) (As := [.int (w_i w4 10 0 26), .int x2, .int (w_a w4 17 p6 13 ((x5 + 3)).toNatClampNeg)]) (rest := []) kX11_choose_c16.1 wl_X11_94 wMv_128 rfl (.inl rfl) rfl (Nat.le_trans (Nat.le_of_ble_eq_true rfl) hL) (Nat.le_of_ble_eq_true rfl) (Nat.le_of_ble_eq_true rfl) h (fun w7 hle h => ?_) (fun _ _ _ h => kzx_no rfl h)
        have h := h hle
        have hlp1 := w_l_le hlp1 hle
        have hlp6 := w_l_le hlp6 hle
        exact kz_weak [(0, .ref (w_adr E.2.1 10 0)), (5, .int x5)] ⟨rfl, ⟨rfl, trivial⟩⟩ rfl (zt_X11_choose_p243 hL  h)
    · skip
      exact kz_weak [(0, .ref (w_adr E.2.1 10 0)), (2, .int x2), (4, .int x4), (5, .int x5)] ⟨rfl, ⟨rfl, ⟨rfl, ⟨rfl, trivial⟩⟩⟩⟩ rfl (zt_X11_choose_p164 hL  h)
def zb_X11_choose_p125 (E : zE) (L : Nat) (Q : kx_Rs → wS → Prop) (x2 : Int32) (y0 : Int32) (w : wS) : Prop := zL_X11_choose_p130 E L Q x2 y0 0 w
theorem zt_X11_choose_p125 {E : zE} {L : Nat} {Q : kx_Rs → wS → Prop} {x2 : Int32} {y0 : Int32} {w : wS} (hL : 23 ≤ L) (h : zb_X11_choose_p125 E L Q x2 y0 w) : kzE E L kt_M67 125 [(0, .ref (w_adr E.2.1 10 0)), (2, .int x2)] [.int y0] w Q := by
  unfold zb_X11_choose_p125 at h
  refine kz_sti (M := kt_M67) [(0, .ref (w_adr E.2.1 10 0)), (2, .int x2)] kX11_choose_c8.2.2.2.1 (Nat.le_of_ble_eq_true rfl) ⟨⟨rfl, rfl, .inl rfl⟩, ⟨⟨rfl, rfl, .inl rfl⟩, trivial⟩⟩ rfl ?_
  refine kz_ic (M := kt_M67) 0 kX11_choose_c8.2.2.2.2.1 rfl ?_
  refine kz_sti (M := kt_M67) [(0, .ref (w_adr E.2.1 10 0)), (2, .int x2), (4, .int y0)] kX11_choose_c8.2.2.2.2.2.1 (Nat.le_of_ble_eq_true rfl) ⟨⟨rfl, rfl, .inl rfl⟩, ⟨⟨rfl, rfl, .inl rfl⟩, ⟨⟨rfl, rfl, .inr rfl⟩, trivial⟩⟩⟩ rfl ?_
  exact kz_weak [(0, .ref (w_adr E.2.1 10 0)), (2, .int x2), (4, .int y0), (5, .int 0)] ⟨rfl, ⟨rfl, ⟨rfl, ⟨rfl, trivial⟩⟩⟩⟩ rfl h
def zb_X11_choose_p52 (E : zE) (L : Nat) (Q : kx_Rs → wS → Prop) (x1 : Int32) (x2 : Int32) (x4 : Int32) (y0 : Int32) (y1 : Int32) (w : wS) : Prop := zL_X11_choose_p5 E L Q x1 x2 (y1 + y0) (x4 + 4) w
theorem zt_X11_choose_p52 {E : zE} {L : Nat} {Q : kx_Rs → wS → Prop} {x1 : Int32} {x2 : Int32} {x4 : Int32} {y0 : Int32} {y1 : Int32} {w : wS} (hL : 23 ≤ L) (h : zb_X11_choose_p52 E L Q x1 x2 x4 y0 y1 w) : kzE E L kt_M67 52 [(0, .ref (w_adr E.2.1 10 0)), (1, .int x1), (2, .int x2), (4, .int x4)] [.int y0, .int y1] w Q := by
  unfold zb_X11_choose_p52 at h
  refine kz_iadd (M := kt_M67) kX11_choose_c3.2.2.2.2.1 ?_
  refine kz_sti_n (M := kt_M67) [(0, .ref (w_adr E.2.1 10 0)), (1, .int x1), (2, .int x2), (4, .int x4)] kX11_choose_c3.2.2.2.2.2.1 (Nat.le_of_ble_eq_true rfl) ⟨⟨rfl, rfl, .inl rfl⟩, ⟨⟨rfl, rfl, .inl rfl⟩, ⟨⟨rfl, rfl, .inr rfl⟩, ⟨⟨rfl, rfl, .inl rfl⟩, trivial⟩⟩⟩⟩ rfl ?_
  refine kz_inc (M := kt_M67) [(0, .ref (w_adr E.2.1 10 0)), (1, .int x1), (2, .int x2), (3, .int (y1 + y0))] kX11_choose_c3.2.2.2.2.2.2.1 rfl (Nat.le_of_ble_eq_true rfl) ⟨⟨rfl, rfl, .inl rfl⟩, ⟨⟨rfl, rfl, .inl rfl⟩, ⟨⟨rfl, rfl, .inl rfl⟩, ⟨⟨rfl, rfl, .inr rfl⟩, trivial⟩⟩⟩⟩ rfl ?_
  refine kz_goto (M := kt_M67) kX11_choose_c3.2.2.2.2.2.2.2.1 (t := 5) rfl ?_
  exact kz_weak [(0, .ref (w_adr E.2.1 10 0)), (1, .int x1), (2, .int x2), (3, .int (y1 + y0)), (4, .int (x4 + 4))] ⟨rfl, ⟨rfl, ⟨rfl, ⟨rfl, ⟨rfl, trivial⟩⟩⟩⟩⟩ rfl h
def zb_X11_choose_p5 (E : zE) (L : Nat) (Q : kx_Rs → wS → Prop) (x1 : Int32) (x2 : Int32) (x3 : Int32) (x4 : Int32) (w : wS) : Prop := (∃ p1, w_p w 10 0 21 = some p1 ∧ w_l w E.2.1 17 p1 ∧ (if w_i w 17 p1 16 ≤ x4 then (if ¬ w_i w 17 p1 16 = 0 then (if ¬ x3 = 0 then (if ¬ x1 = 1 then zw E (L - 21) kt_M69 [.ref (w_adr E.2.1 10 0), .int x3] w (wk1 (fun v3 w2 => wle w w2 → zb_X11_choose_p125 E L Q x2 v3 w2) (fun e w => Q (.inr e) w)) else zb_X11_choose_p125 E L Q x2 0 w) else zw E (L - 22) kt_M110 [.ref (w_adr E.2.1 10 0), .int ((-1 : Int32) - (w_i w 17 p1 0))] w (wk0 (fun w4 => wle w w4 → zw E (L - 21) kt_M114 [.ref (w_adr E.2.1 10 0), va_rf (some (E.1.1 63))] (ws_i w4 10 0 25 ((w_i w4 10 0 25) - 3)) (wk0 (fun w6 => wle (ws_i w4 10 0 25 ((w_i w4 10 0 25) - 3)) w6 → Q (.inl none) w6) (fun e w => Q (.inr e) w))) (fun e w => Q (.inr e) w))) else zw E (L - 21) kt_M107 [.ref (w_adr E.2.1 10 0), .int 0] w (wk0 (fun w8 => wle w w8 → Q (.inl none) w8) (fun e w => Q (.inr e) w))) else (kx_inb x4 (w_n w 17 p1 13) = true ∧ (kx_inb (x4 + 1) (w_n w 17 p1 13) = true ∧ zw E (L - 22) kt_M78 [.ref (w_adr E.2.1 10 0), .int (w_a w 17 p1 13 (x4).toNatClampNeg), .int (w_a w 17 p1 13 ((x4 + 1)).toNatClampNeg)] w (wk1 (fun v11 w10 => wle w w10 → (if v11 = 0 then zb_X11_choose_p52 E L Q x1 x2 x4 0 x3 w10 else zb_X11_choose_p52 E L Q x1 x2 x4 1 x3 w10)) (fun e w => Q (.inr e) w))))))
theorem zt_X11_choose_p5 {E : zE} {L : Nat} {Q : kx_Rs → wS → Prop} {x1 : Int32} {x2 : Int32} {x3 : Int32} {x4 : Int32} {w : wS} (hL : 23 ≤ L) (h : zb_X11_choose_p5 E L Q x1 x2 x3 x4 w) : kzE E L kt_M67 5 [(0, .ref (w_adr E.2.1 10 0)), (1, .int x1), (2, .int x2), (3, .int x3), (4, .int x4)] [] w Q := by
  unfold zb_X11_choose_p5 at h
  refine kz_iload (M := kt_M67) kX11_choose_c0.2.2.2.2.1 rfl ?_
  refine kz_aload_n (M := kt_M67) kX11_choose_c0.2.2.2.2.2.1 rfl ?_
  refine kz_gfp (M := kt_M67) (c := 10) (o := 0) kX11_choose_c0.2.2.2.2.2.2.1 wf_X11_110 (.inl rfl) ?_
  obtain ⟨p1, hxp1, hlp1, h⟩ := h
  refine kz_nz0 (x := w_p w 10 0 21) hxp1 ?_
  refine kz_gfi (M := kt_M67) (c := 17) (o := p1) kX11_choose_c0.2.2.2.2.2.2.2.1 wf_X11_234 (.inr (by exact hlp1)) ?_
  refine kz_icmp_ge (M := kt_M67) kX11_choose_c1.1 (t := 60) rfl h (fun h => ?_) (fun h => ?_)
  · skip
    refine kz_aload_n (M := kt_M67) kX11_choose_c4.1 rfl ?_
    refine kz_gfp (M := kt_M67) (c := 10) (o := 0) kX11_choose_c4.2.1 wf_X11_110 (.inl rfl) ?_
    refine kz_nz0 (x := w_p w 10 0 21) hxp1 ?_
    refine kz_gfi (M := kt_M67) (c := 17) (o := p1) kX11_choose_c4.2.2.1 wf_X11_234 (.inr (by exact hlp1)) ?_
    refine kz_if_ne (M := kt_M67) kX11_choose_c4.2.2.2.1 (t := 76) rfl h (fun h => ?_) (fun h => ?_)
    · skip
      refine kz_iload_n (M := kt_M67) kX11_choose_c5.1 rfl ?_
      refine kz_if_ne (M := kt_M67) kX11_choose_c5.2.1 (t := 111) rfl h (fun h => ?_) (fun h => ?_)
      · skip
        refine kz_iload_n (M := kt_M67) kX11_choose_c7.2.2.2.1 rfl ?_
        refine kz_ic (M := kt_M67) 1 kX11_choose_c7.2.2.2.2.1 rfl ?_
        refine kz_icmp_ne (M := kt_M67) kX11_choose_c7.2.2.2.2.2.1 (t := 120) rfl h (fun h => ?_) (fun h => ?_)
        · skip
          refine kz_aload_n (M := kt_M67) kX11_choose_c8.1 rfl ?_
          refine kz_iload_n (M := kt_M67) kX11_choose_c8.2.1 rfl ?_
          refine kz_cv1 (M := kt_M67) (c := 10) (o := 0) (As := [.int x3]) (rest := []) kX11_choose_c8.2.2.1 wl_X11_267 wMv_69 rfl (.inl rfl) rfl (Nat.le_trans (Nat.le_of_ble_eq_true rfl) hL) (Nat.le_of_ble_eq_true rfl) (Nat.le_of_ble_eq_true rfl) h (fun v3 w2 hle h => ?_) (fun _ _ _ h => kzx_no rfl h)
          have h := h hle
          have hlp1 := w_l_le hlp1 hle
          exact kz_weak [(0, .ref (w_adr E.2.1 10 0)), (2, .int x2)] ⟨rfl, ⟨rfl, trivial⟩⟩ rfl (zt_X11_choose_p125 hL  h)
        · skip
          refine kz_ic (M := kt_M67) 0 kX11_choose_c7.2.2.2.2.2.2.1 rfl ?_
          refine kz_goto (M := kt_M67) kX11_choose_c7.2.2.2.2.2.2.2.1 (t := 125) rfl ?_
          exact kz_weak [(0, .ref (w_adr E.2.1 10 0)), (2, .int x2)] ⟨rfl, ⟨rfl, trivial⟩⟩ rfl (zt_X11_choose_p125 hL  h)
      · skip
        refine kz_aload_n (M := kt_M67) kX11_choose_c5.2.2.1 rfl ?_
        refine kz_ic (M := kt_M67) (-1) kX11_choose_c5.2.2.2.1 rfl ?_
        refine kz_aload_n (M := kt_M67) kX11_choose_c5.2.2.2.2.1 rfl ?_
        refine kz_gfp (M := kt_M67) (c := 10) (o := 0) kX11_choose_c5.2.2.2.2.2.1 wf_X11_110 (.inl rfl) ?_
        refine kz_nz0 (x := w_p w 10 0 21) hxp1 ?_
        refine kz_gfi (M := kt_M67) (c := 17) (o := p1) kX11_choose_c5.2.2.2.2.2.2.1 wf_X11_249 (.inr (by exact hlp1)) ?_
        refine kz_isub (M := kt_M67) kX11_choose_c5.2.2.2.2.2.2.2.1 ?_
        refine kz_cv0 (M := kt_M67) (c := 10) (o := 0) (As := [.int ((-1 : Int32) - (w_i w 17 p1 0))]) (rest := []) kX11_choose_c6.1 wl_X11_473 wMv_110 rfl (.inl rfl) rfl (Nat.le_trans (Nat.le_of_ble_eq_true rfl) hL) (Nat.le_of_ble_eq_true rfl) (Nat.le_of_ble_eq_true rfl) h (fun w4 hle h => ?_) (fun _ _ _ h => kzx_no rfl h)
        have h := h hle
        have hlp1 := w_l_le hlp1 hle
        refine kz_aload_n (M := kt_M67) kX11_choose_c6.2.1 rfl ?_
        refine kz_dup (M := kt_M67) kX11_choose_c6.2.2.1 rfl ?_
        refine kz_gfi (M := kt_M67) (c := 10) (o := 0) kX11_choose_c6.2.2.2.1 wf_X11_59 (.inl rfl) ?_
        refine kz_ic (M := kt_M67) 3 kX11_choose_c6.2.2.2.2.1 rfl ?_
        refine kz_isub (M := kt_M67) kX11_choose_c6.2.2.2.2.2.1 ?_
        refine kz_pfi (M := kt_M67) (c := 10) (o := 0) kX11_choose_c6.2.2.2.2.2.2.1 wq_X11_59 (.inl rfl) ?_
        refine kz_aload_n (M := kt_M67) kX11_choose_c6.2.2.2.2.2.2.2.1 rfl ?_
        refine kz_getsE (M := kt_M67) (v := va_rf (some (E.1.1 63))) kX11_choose_c7.1 zs_X11_231 ?_
        refine kz_cv0 (M := kt_M67) (c := 10) (o := 0) (As := [va_rf (some (E.1.1 63))]) (rest := []) kX11_choose_c7.2.1 wl_X11_389 wMv_114 rfl (.inl rfl) rfl (Nat.le_trans (Nat.le_of_ble_eq_true rfl) hL) (by simp [lg_sl, w_cat, z_ci, z_cr, z_cl, z_cn, kt_M114]) (Nat.le_of_ble_eq_true rfl) h (fun w6 hle h => ?_) (fun _ _ _ h => kzx_no rfl h)
        have h := h hle
        have hlp1 := w_l_le hlp1 hle
        exact kz_ret (M := kt_M67) kX11_choose_c7.2.2.1 rfl h
    · skip
      refine kz_aload_n (M := kt_M67) kX11_choose_c4.2.2.2.2.1 rfl ?_
      refine kz_ic (M := kt_M67) 0 kX11_choose_c4.2.2.2.2.2.1 rfl ?_
      refine kz_cv0 (M := kt_M67) (c := 10) (o := 0) (As := [.int 0]) (rest := []) kX11_choose_c4.2.2.2.2.2.2.1 wl_X11_295 wMv_107 rfl (.inl rfl) rfl (Nat.le_trans (Nat.le_of_ble_eq_true rfl) hL) (Nat.le_of_ble_eq_true rfl) (Nat.le_of_ble_eq_true rfl) h (fun w8 hle h => ?_) (fun _ _ _ h => kzx_no rfl h)
      have h := h hle
      have hlp1 := w_l_le hlp1 hle
      exact kz_ret (M := kt_M67) kX11_choose_c4.2.2.2.2.2.2.2.1 rfl h
  · skip
    refine kz_iload_n (M := kt_M67) kX11_choose_c1.2.1 rfl ?_
    refine kz_aload_n (M := kt_M67) kX11_choose_c1.2.2.1 rfl ?_
    refine kz_aload_n (M := kt_M67) kX11_choose_c1.2.2.2.1 rfl ?_
    refine kz_gfp (M := kt_M67) (c := 10) (o := 0) kX11_choose_c1.2.2.2.2.1 wf_X11_110 (.inl rfl) ?_
    refine kz_nz0 (x := w_p w 10 0 21) hxp1 ?_
    refine kz_gfa (M := kt_M67) (c := 17) (o := p1) kX11_choose_c1.2.2.2.2.2.1 wf_X11_237 (.inr (by exact hlp1)) ?_
    refine kz_iload (M := kt_M67) kX11_choose_c1.2.2.2.2.2.2.1 rfl ?_
    refine kz_iald (M := kt_M67) (c := 17) (o := p1) (k := 13) (a := (w_d w 17 p1 13)) kX11_choose_c1.2.2.2.2.2.2.2.1 (.inr ⟨.inr (by exact hlp1), rfl, rfl⟩) rfl ot_0 h (fun h => ?_)
    refine kz_aload_n (M := kt_M67) kX11_choose_c2.1 rfl ?_
    refine kz_gfp (M := kt_M67) (c := 10) (o := 0) kX11_choose_c2.2.1 wf_X11_110 (.inl rfl) ?_
    refine kz_nz0 (x := w_p w 10 0 21) hxp1 ?_
    refine kz_gfa (M := kt_M67) (c := 17) (o := p1) kX11_choose_c2.2.2.1 wf_X11_237 (.inr (by exact hlp1)) ?_
    refine kz_iload (M := kt_M67) kX11_choose_c2.2.2.2.1 rfl ?_
    refine kz_ic (M := kt_M67) 1 kX11_choose_c2.2.2.2.2.1 rfl ?_
    refine kz_iadd (M := kt_M67) kX11_choose_c2.2.2.2.2.2.1 ?_
    refine kz_iald (M := kt_M67) (c := 17) (o := p1) (k := 13) (a := (w_d w 17 p1 13)) kX11_choose_c2.2.2.2.2.2.2.1 (.inr ⟨.inr (by exact hlp1), rfl, rfl⟩) rfl ot_0 h (fun h => ?_)
    refine kz_cv1 (M := kt_M67) (c := 10) (o := 0) (As := [.int (w_a w 17 p1 13 (x4).toNatClampNeg), .int (w_a w 17 p1 13 ((x4 + 1)).toNatClampNeg)]) (rest := [.int x3]) kX11_choose_c2.2.2.2.2.2.2.2.1 wl_X11_469 wMv_78 rfl (.inl rfl) rfl (Nat.le_trans (Nat.le_of_ble_eq_true rfl) hL) (Nat.le_of_ble_eq_true rfl) (Nat.le_of_ble_eq_true rfl) h (fun v11 w10 hle h => ?_) (fun _ _ _ h => kzx_no rfl h)
    have h := h hle
    have hlp1 := w_l_le hlp1 hle
    refine kz_if_eq (M := kt_M67) kX11_choose_c3.1 (t := 51) rfl h (fun h => ?_) (fun h => ?_)
    · skip
      refine kz_ic (M := kt_M67) 0 kX11_choose_c3.2.2.2.1 rfl ?_
      exact kz_weak [(0, .ref (w_adr E.2.1 10 0)), (1, .int x1), (2, .int x2), (4, .int x4)] ⟨rfl, ⟨rfl, ⟨rfl, ⟨rfl, trivial⟩⟩⟩⟩ rfl (zt_X11_choose_p52 hL  h)
    · skip
      refine kz_ic (M := kt_M67) 1 kX11_choose_c3.2.1 rfl ?_
      refine kz_goto (M := kt_M67) kX11_choose_c3.2.2.1 (t := 52) rfl ?_
      exact kz_weak [(0, .ref (w_adr E.2.1 10 0)), (1, .int x1), (2, .int x2), (4, .int x4)] ⟨rfl, ⟨rfl, ⟨rfl, ⟨rfl, trivial⟩⟩⟩⟩ rfl (zt_X11_choose_p52 hL  h)
def zb_X11_choose_p0 (E : zE) (L : Nat) (Q : kx_Rs → wS → Prop) (x1 : Int32) (x2 : Int32) (w : wS) : Prop := zL_X11_choose_p5 E L Q x1 x2 0 0 w
theorem zt_X11_choose_p0 {E : zE} {L : Nat} {Q : kx_Rs → wS → Prop} {x1 : Int32} {x2 : Int32} {w : wS} (hL : 23 ≤ L) (h : zb_X11_choose_p0 E L Q x1 x2 w) : kzE E L kt_M67 0 [(0, .ref (w_adr E.2.1 10 0)), (1, .int x1), (2, .int x2)] [] w Q := by
  unfold zb_X11_choose_p0 at h
  refine kz_ic (M := kt_M67) 0 kX11_choose_c0.1 rfl ?_
  refine kz_sti_n (M := kt_M67) [(0, .ref (w_adr E.2.1 10 0)), (1, .int x1), (2, .int x2)] kX11_choose_c0.2.1 (Nat.le_of_ble_eq_true rfl) ⟨⟨rfl, rfl, .inl rfl⟩, ⟨⟨rfl, rfl, .inl rfl⟩, ⟨⟨rfl, rfl, .inr rfl⟩, trivial⟩⟩⟩ rfl ?_
  refine kz_ic (M := kt_M67) 0 kX11_choose_c0.2.2.1 rfl ?_
  refine kz_sti (M := kt_M67) [(0, .ref (w_adr E.2.1 10 0)), (1, .int x1), (2, .int x2), (3, .int 0)] kX11_choose_c0.2.2.2.1 (Nat.le_of_ble_eq_true rfl) ⟨⟨rfl, rfl, .inl rfl⟩, ⟨⟨rfl, rfl, .inl rfl⟩, ⟨⟨rfl, rfl, .inl rfl⟩, ⟨⟨rfl, rfl, .inr rfl⟩, trivial⟩⟩⟩⟩ rfl ?_
  exact kz_weak [(0, .ref (w_adr E.2.1 10 0)), (1, .int x1), (2, .int x2), (3, .int 0), (4, .int 0)] ⟨rfl, ⟨rfl, ⟨rfl, ⟨rfl, ⟨rfl, trivial⟩⟩⟩⟩⟩ rfl h
def zb_X11_isReady_p59 (E : zE) (L : Nat) (Q : kx_Rs → wS → Prop) (y0 : Int32) (w : wS) : Prop := ((y0 = 0 ∨ y0 = 1) ∧ Q (.inl (some (.int y0))) w)
theorem zt_X11_isReady_p59 {E : zE} {L : Nat} {Q : kx_Rs → wS → Prop} {y0 : Int32} {w : wS} (hL : 21 ≤ L) (h : zb_X11_isReady_p59 E L Q y0 w) : kzE E L kt_M78 59 [(0, .ref (w_adr E.2.1 10 0))] [.int y0] w Q := by
  unfold zb_X11_isReady_p59 at h
  exact kz_iretz (M := kt_M78) kX11_isReady_c4.1 rfl h.1 h.2
def zb_X11_isReady_p58 (E : zE) (L : Nat) (Q : kx_Rs → wS → Prop) (w : wS) : Prop := zb_X11_isReady_p59 E L Q 0 w
theorem zt_X11_isReady_p58 {E : zE} {L : Nat} {Q : kx_Rs → wS → Prop} {w : wS} (hL : 21 ≤ L) (h : zb_X11_isReady_p58 E L Q  w) : kzE E L kt_M78 58 [(0, .ref (w_adr E.2.1 10 0))] [] w Q := by
  unfold zb_X11_isReady_p58 at h
  refine kz_ic (M := kt_M78) 0 kX11_isReady_c3.2.2.2.2.2.2.2.1 rfl ?_
  exact kz_weak [(0, .ref (w_adr E.2.1 10 0))] ⟨rfl, trivial⟩ rfl (zt_X11_isReady_p59 hL  h)
def zb_X11_isReady_p0 (E : zE) (L : Nat) (Q : kx_Rs → wS → Prop) (x1 : Int32) (x2 : Int32) (w : wS) : Prop := (if ¬ x1 = 0 then (if ¬ x1 = 2 then (if ¬ x2 = (-2) then (if x2 = (-1) then zb_X11_isReady_p58 E L Q w else zw E (L - 21) kt_M123 [.ref (w_adr E.2.1 11 0), .int x2] w (wk1 (fun v2 w1 => wle w w1 → (if v2 = 0 then zb_X11_isReady_p58 E L Q w1 else zb_X11_isReady_p59 E L Q 1 w1)) (fun e w => Q (.inr e) w))) else (if w_i w 10 0 12 ≤ 0 then zb_X11_isReady_p59 E L Q 0 w else zb_X11_isReady_p59 E L Q 1 w)) else zw E (L - 21) kt_M77 [.ref (w_adr E.2.1 10 0), .int x2] w (wk1 (fun v4 w3 => wle w w3 → ((v4 = 0 ∨ v4 = 1) ∧ Q (.inl (some (.int v4))) w3)) (fun e w => Q (.inr e) w))) else Q (.inl (some (.int 1))) w)
theorem zt_X11_isReady_p0 {E : zE} {L : Nat} {Q : kx_Rs → wS → Prop} {x1 : Int32} {x2 : Int32} {w : wS} (hL : 21 ≤ L) (h : zb_X11_isReady_p0 E L Q x1 x2 w) : kzE E L kt_M78 0 [(0, .ref (w_adr E.2.1 10 0)), (1, .int x1), (2, .int x2)] [] w Q := by
  unfold zb_X11_isReady_p0 at h
  refine kz_iload_n (M := kt_M78) kX11_isReady_c0.1 rfl ?_
  refine kz_if_ne (M := kt_M78) kX11_isReady_c0.2.1 (t := 6) rfl h (fun h => ?_) (fun h => ?_)
  · skip
    refine kz_iload_n (M := kt_M78) kX11_isReady_c0.2.2.2.2.1 rfl ?_
    refine kz_ic (M := kt_M78) 2 kX11_isReady_c0.2.2.2.2.2.1 rfl ?_
    refine kz_icmp_ne (M := kt_M78) kX11_isReady_c0.2.2.2.2.2.2.1 (t := 17) rfl h (fun h => ?_) (fun h => ?_)
    · skip
      refine kz_iload_n (M := kt_M78) kX11_isReady_c1.2.2.2.1 rfl ?_
      refine kz_bi (M := kt_M78) (-2) kX11_isReady_c1.2.2.2.2.1 rfl ?_
      refine kz_icmp_ne (M := kt_M78) kX11_isReady_c1.2.2.2.2.2.1 (t := 38) rfl h (fun h => ?_) (fun h => ?_)
      · skip
        refine kz_iload_n (M := kt_M78) kX11_isReady_c2.2.2.2.2.2.1 rfl ?_
        refine kz_ic (M := kt_M78) (-1) kX11_isReady_c2.2.2.2.2.2.2.1 rfl ?_
        refine kz_icmp_eq (M := kt_M78) kX11_isReady_c2.2.2.2.2.2.2.2.1 (t := 58) rfl h (fun h => ?_) (fun h => ?_)
        · skip
          exact kz_weak [(0, .ref (w_adr E.2.1 10 0))] ⟨rfl, trivial⟩ rfl (zt_X11_isReady_p58 hL  h)
        · skip
          refine kz_aload_n (M := kt_M78) kX11_isReady_c3.1 rfl ?_
          refine kz_gfc (M := kt_M78) (x := 44) (c := 10) (o := 0) kX11_isReady_c3.2.1 wf_X11_12 (.inl rfl) ?_
          refine kz_iload_n (M := kt_M78) kX11_isReady_c3.2.2.1 rfl ?_
          refine kz_cv1 (M := kt_M78) (c := 11) (o := 0) (As := [.int x2]) (rest := []) kX11_isReady_c3.2.2.2.1 wl_X11_307 wMv_123 rfl (.inl rfl) rfl (Nat.le_trans (Nat.le_of_ble_eq_true rfl) hL) (Nat.le_of_ble_eq_true rfl) (Nat.le_of_ble_eq_true rfl) h (fun v2 w1 hle h => ?_) (fun _ _ _ h => kzx_no rfl h)
          have h := h hle
          refine kz_if_eq (M := kt_M78) kX11_isReady_c3.2.2.2.2.1 (t := 58) rfl h (fun h => ?_) (fun h => ?_)
          · skip
            exact kz_weak [(0, .ref (w_adr E.2.1 10 0))] ⟨rfl, trivial⟩ rfl (zt_X11_isReady_p58 hL  h)
          · skip
            refine kz_ic (M := kt_M78) 1 kX11_isReady_c3.2.2.2.2.2.1 rfl ?_
            refine kz_goto (M := kt_M78) kX11_isReady_c3.2.2.2.2.2.2.1 (t := 59) rfl ?_
            exact kz_weak [(0, .ref (w_adr E.2.1 10 0))] ⟨rfl, trivial⟩ rfl (zt_X11_isReady_p59 hL  h)
      · skip
        refine kz_aload_n (M := kt_M78) kX11_isReady_c1.2.2.2.2.2.2.1 rfl ?_
        refine kz_gfi (M := kt_M78) (c := 10) (o := 0) kX11_isReady_c1.2.2.2.2.2.2.2.1 wf_X11_189 (.inl rfl) ?_
        refine kz_if_le (M := kt_M78) kX11_isReady_c2.1 (t := 34) rfl h (fun h => ?_) (fun h => ?_)
        · skip
          refine kz_ic (M := kt_M78) 0 kX11_isReady_c2.2.2.2.1 rfl ?_
          refine kz_goto (M := kt_M78) kX11_isReady_c2.2.2.2.2.1 (t := 59) rfl ?_
          exact kz_weak [(0, .ref (w_adr E.2.1 10 0))] ⟨rfl, trivial⟩ rfl (zt_X11_isReady_p59 hL  h)
        · skip
          refine kz_ic (M := kt_M78) 1 kX11_isReady_c2.2.1 rfl ?_
          refine kz_goto (M := kt_M78) kX11_isReady_c2.2.2.1 (t := 59) rfl ?_
          exact kz_weak [(0, .ref (w_adr E.2.1 10 0))] ⟨rfl, trivial⟩ rfl (zt_X11_isReady_p59 hL  h)
    · skip
      refine kz_aload_n (M := kt_M78) kX11_isReady_c0.2.2.2.2.2.2.2.1 rfl ?_
      refine kz_iload_n (M := kt_M78) kX11_isReady_c1.1 rfl ?_
      refine kz_cv1 (M := kt_M78) (c := 10) (o := 0) (As := [.int x2]) (rest := []) kX11_isReady_c1.2.1 wl_X11_242 wMv_77 rfl (.inl rfl) rfl (Nat.le_trans (Nat.le_of_ble_eq_true rfl) hL) (Nat.le_of_ble_eq_true rfl) (Nat.le_of_ble_eq_true rfl) h (fun v4 w3 hle h => ?_) (fun _ _ _ h => kzx_no rfl h)
      have h := h hle
      exact kz_iretz (M := kt_M78) kX11_isReady_c1.2.2.1 rfl h.1 h.2
  · skip
    refine kz_ic (M := kt_M78) 1 kX11_isReady_c0.2.2.1 rfl ?_
    exact kz_iretz (M := kt_M78) kX11_isReady_c0.2.2.2.1 rfl (by decide) h
def zL_X11_tell_p2 (E : zE) (L : Nat) (Q : kx_Rs → wS → Prop) (x1 : Int32) (x2 : Int32) (w : wS) : Prop := kzE E L kt_M110 2 [(0, .ref (w_adr E.2.1 10 0)), (1, .int x1), (2, .int x2)] [] w Q
def zb_X11_tell_p61 (E : zE) (L : Nat) (Q : kx_Rs → wS → Prop) (x1 : Int32) (x2 : Int32) (w : wS) : Prop := zL_X11_tell_p2 E L Q x1 (x2 + 4) w
theorem zt_X11_tell_p61 {E : zE} {L : Nat} {Q : kx_Rs → wS → Prop} {x1 : Int32} {x2 : Int32} {w : wS} (hL : 22 ≤ L) (h : zb_X11_tell_p61 E L Q x1 x2 w) : kzE E L kt_M110 61 [(0, .ref (w_adr E.2.1 10 0)), (1, .int x1), (2, .int x2)] [] w Q := by
  unfold zb_X11_tell_p61 at h
  refine kz_inc (M := kt_M110) [(0, .ref (w_adr E.2.1 10 0)), (1, .int x1)] kX11_tell_c4.2.2.2.1 rfl (Nat.le_of_ble_eq_true rfl) ⟨⟨rfl, rfl, .inl rfl⟩, ⟨⟨rfl, rfl, .inr rfl⟩, trivial⟩⟩ rfl ?_
  refine kz_goto (M := kt_M110) kX11_tell_c4.2.2.2.2.1 (t := 2) rfl ?_
  exact kz_weak [(0, .ref (w_adr E.2.1 10 0)), (1, .int x1), (2, .int (x2 + 4))] ⟨rfl, ⟨rfl, ⟨rfl, trivial⟩⟩⟩ rfl h
def zb_X11_tell_p2 (E : zE) (L : Nat) (Q : kx_Rs → wS → Prop) (x1 : Int32) (x2 : Int32) (w : wS) : Prop := (∃ p1, w_p w 10 0 21 = some p1 ∧ w_l w E.2.1 17 p1 ∧ (if w_i w 17 p1 16 ≤ x2 then Q (.inl none) w else (kx_inb x2 (w_n w 17 p1 13) = true ∧ (if ¬ w_a w 17 p1 13 (x2).toNatClampNeg = 1 then zb_X11_tell_p61 E L Q x1 x2 w else (kx_inb (x2 + 1) (w_n w 17 p1 13) = true ∧ (if w_a w 17 p1 13 ((x2 + 1)).toNatClampNeg < 0 then zb_X11_tell_p61 E L Q x1 x2 w else (kx_inb (x2 + 1) (w_n w 17 p1 13) = true ∧ zw E (L - 22) kt_M127 [.ref (w_adr E.2.1 11 0), .int ((w_a w 17 p1 13 ((x2 + 1)).toNatClampNeg) + 1), .int x1] w (wk0 (fun w2 => wle w w2 → zb_X11_tell_p61 E L Q x1 x2 w2) (fun e w => Q (.inr e) w)))))))))
theorem zt_X11_tell_p2 {E : zE} {L : Nat} {Q : kx_Rs → wS → Prop} {x1 : Int32} {x2 : Int32} {w : wS} (hL : 22 ≤ L) (h : zb_X11_tell_p2 E L Q x1 x2 w) : kzE E L kt_M110 2 [(0, .ref (w_adr E.2.1 10 0)), (1, .int x1), (2, .int x2)] [] w Q := by
  unfold zb_X11_tell_p2 at h
  refine kz_iload_n (M := kt_M110) kX11_tell_c0.2.2.1 rfl ?_
  refine kz_aload_n (M := kt_M110) kX11_tell_c0.2.2.2.1 rfl ?_
  refine kz_gfp (M := kt_M110) (c := 10) (o := 0) kX11_tell_c0.2.2.2.2.1 wf_X11_110 (.inl rfl) ?_
  obtain ⟨p1, hxp1, hlp1, h⟩ := h
  refine kz_nz0 (x := w_p w 10 0 21) hxp1 ?_
  refine kz_gfi (M := kt_M110) (c := 17) (o := p1) kX11_tell_c0.2.2.2.2.2.1 wf_X11_234 (.inr (by exact hlp1)) ?_
  refine kz_icmp_ge (M := kt_M110) kX11_tell_c0.2.2.2.2.2.2.1 (t := 67) rfl h (fun h => ?_) (fun h => ?_)
  · skip
    exact kz_ret (M := kt_M110) kX11_tell_c4.2.2.2.2.2.1 rfl h
  · skip
    refine kz_aload_n (M := kt_M110) kX11_tell_c0.2.2.2.2.2.2.2.1 rfl ?_
    refine kz_gfp (M := kt_M110) (c := 10) (o := 0) kX11_tell_c1.1 wf_X11_110 (.inl rfl) ?_
    refine kz_nz0 (x := w_p w 10 0 21) hxp1 ?_
    refine kz_gfa (M := kt_M110) (c := 17) (o := p1) kX11_tell_c1.2.1 wf_X11_237 (.inr (by exact hlp1)) ?_
    refine kz_iload_n (M := kt_M110) kX11_tell_c1.2.2.1 rfl ?_
    refine kz_iald (M := kt_M110) (c := 17) (o := p1) (k := 13) (a := (w_d w 17 p1 13)) kX11_tell_c1.2.2.2.1 (.inr ⟨.inr (by exact hlp1), rfl, rfl⟩) rfl ot_0 h (fun h => ?_)
    refine kz_ic (M := kt_M110) 1 kX11_tell_c1.2.2.2.2.1 rfl ?_
    refine kz_icmp_ne (M := kt_M110) kX11_tell_c1.2.2.2.2.2.1 (t := 61) rfl h (fun h => ?_) (fun h => ?_)
    · skip
      exact kz_weak [(0, .ref (w_adr E.2.1 10 0)), (1, .int x1), (2, .int x2)] ⟨rfl, ⟨rfl, ⟨rfl, trivial⟩⟩⟩ rfl (zt_X11_tell_p61 hL  h)
    · skip
      refine kz_aload_n (M := kt_M110) kX11_tell_c1.2.2.2.2.2.2.1 rfl ?_
      refine kz_gfp (M := kt_M110) (c := 10) (o := 0) kX11_tell_c1.2.2.2.2.2.2.2.1 wf_X11_110 (.inl rfl) ?_
      refine kz_nz0 (x := w_p w 10 0 21) hxp1 ?_
      refine kz_gfa (M := kt_M110) (c := 17) (o := p1) kX11_tell_c2.1 wf_X11_237 (.inr (by exact hlp1)) ?_
      refine kz_iload_n (M := kt_M110) kX11_tell_c2.2.1 rfl ?_
      refine kz_ic (M := kt_M110) 1 kX11_tell_c2.2.2.1 rfl ?_
      refine kz_iadd (M := kt_M110) kX11_tell_c2.2.2.2.1 ?_
      refine kz_iald (M := kt_M110) (c := 17) (o := p1) (k := 13) (a := (w_d w 17 p1 13)) kX11_tell_c2.2.2.2.2.1 (.inr ⟨.inr (by exact hlp1), rfl, rfl⟩) rfl ot_0 h (fun h => ?_)
      refine kz_if_lt (M := kt_M110) kX11_tell_c2.2.2.2.2.2.1 (t := 61) rfl h (fun h => ?_) (fun h => ?_)
      · skip
        exact kz_weak [(0, .ref (w_adr E.2.1 10 0)), (1, .int x1), (2, .int x2)] ⟨rfl, ⟨rfl, ⟨rfl, trivial⟩⟩⟩ rfl (zt_X11_tell_p61 hL  h)
      · skip
        refine kz_aload_n (M := kt_M110) kX11_tell_c2.2.2.2.2.2.2.1 rfl ?_
        refine kz_gfc (M := kt_M110) (x := 44) (c := 10) (o := 0) kX11_tell_c2.2.2.2.2.2.2.2.1 wf_X11_12 (.inl rfl) ?_
        refine kz_aload_n (M := kt_M110) kX11_tell_c3.1 rfl ?_
        refine kz_gfp (M := kt_M110) (c := 10) (o := 0) kX11_tell_c3.2.1 wf_X11_110 (.inl rfl) ?_
        refine kz_nz0 (x := w_p w 10 0 21) hxp1 ?_
        refine kz_gfa (M := kt_M110) (c := 17) (o := p1) kX11_tell_c3.2.2.1 wf_X11_237 (.inr (by exact hlp1)) ?_
        refine kz_iload_n (M := kt_M110) kX11_tell_c3.2.2.2.1 rfl ?_
        refine kz_ic (M := kt_M110) 1 kX11_tell_c3.2.2.2.2.1 rfl ?_
        refine kz_iadd (M := kt_M110) kX11_tell_c3.2.2.2.2.2.1 ?_
        refine kz_iald (M := kt_M110) (c := 17) (o := p1) (k := 13) (a := (w_d w 17 p1 13)) kX11_tell_c3.2.2.2.2.2.2.1 (.inr ⟨.inr (by exact hlp1), rfl, rfl⟩) rfl ot_0 h (fun h => ?_)
        refine kz_ic (M := kt_M110) 1 kX11_tell_c3.2.2.2.2.2.2.2.1 rfl ?_
        refine kz_iadd (M := kt_M110) kX11_tell_c4.1 ?_
        refine kz_iload_n (M := kt_M110) kX11_tell_c4.2.1 rfl ?_
        refine kz_cv0 (M := kt_M110) (c := 11) (o := 0) (As := [.int ((w_a w 17 p1 13 ((x2 + 1)).toNatClampNeg) + 1), .int x1]) (rest := []) kX11_tell_c4.2.2.1 wl_X11_348 wMv_127 rfl (.inl rfl) rfl (Nat.le_trans (Nat.le_of_ble_eq_true rfl) hL) (Nat.le_of_ble_eq_true rfl) (Nat.le_of_ble_eq_true rfl) h (fun w2 hle h => ?_) (fun _ _ _ h => kzx_no rfl h)
        have h := h hle
        have hlp1 := w_l_le hlp1 hle
        exact kz_weak [(0, .ref (w_adr E.2.1 10 0)), (1, .int x1), (2, .int x2)] ⟨rfl, ⟨rfl, ⟨rfl, trivial⟩⟩⟩ rfl (zt_X11_tell_p61 hL  h)
def zb_X11_tell_p0 (E : zE) (L : Nat) (Q : kx_Rs → wS → Prop) (x1 : Int32) (w : wS) : Prop := zL_X11_tell_p2 E L Q x1 0 w
theorem zt_X11_tell_p0 {E : zE} {L : Nat} {Q : kx_Rs → wS → Prop} {x1 : Int32} {w : wS} (hL : 22 ≤ L) (h : zb_X11_tell_p0 E L Q x1 w) : kzE E L kt_M110 0 [(0, .ref (w_adr E.2.1 10 0)), (1, .int x1)] [] w Q := by
  unfold zb_X11_tell_p0 at h
  refine kz_ic (M := kt_M110) 0 kX11_tell_c0.1 rfl ?_
  refine kz_sti_n (M := kt_M110) [(0, .ref (w_adr E.2.1 10 0)), (1, .int x1)] kX11_tell_c0.2.1 (Nat.le_of_ble_eq_true rfl) ⟨⟨rfl, rfl, .inl rfl⟩, ⟨⟨rfl, rfl, .inr rfl⟩, trivial⟩⟩ rfl ?_
  exact kz_weak [(0, .ref (w_adr E.2.1 10 0)), (1, .int x1), (2, .int 0)] ⟨rfl, ⟨rfl, ⟨rfl, trivial⟩⟩⟩ rfl h
def zb_X11_draw_p0 (E : zE) (L : Nat) (Q : kx_Rs → wS → Prop) (x1 : Int32) (w : wS) : Prop := (¬ x1 = 0 ∧ Q (.inl (some (.int (((((((w_i w 10 0 13) * 1103515245) + 12345)).toUInt32 >>> ((16 : Int32).toUInt32 &&& Int32.toUInt32 31)).toInt32) - ((((((w_i w 10 0 13) * 1103515245) + 12345)).toUInt32 >>> ((16 : Int32).toUInt32 &&& Int32.toUInt32 31)).toInt32) / x1 * x1)))) (ws_i w 10 0 13 (((w_i w 10 0 13) * 1103515245) + 12345)))
theorem zt_X11_draw_p0 {E : zE} {L : Nat} {Q : kx_Rs → wS → Prop} {x1 : Int32} {w : wS} (hL : 19 ≤ L) (h : zb_X11_draw_p0 E L Q x1 w) : kzE E L kt_M69 0 [(0, .ref (w_adr E.2.1 10 0)), (1, .int x1)] [] w Q := by
  unfold zb_X11_draw_p0 at h
  refine kz_aload_n (M := kt_M69) kX11_draw_c0.1 rfl ?_
  refine kz_aload_n (M := kt_M69) kX11_draw_c0.2.1 rfl ?_
  refine kz_gfi (M := kt_M69) (c := 10) (o := 0) kX11_draw_c0.2.2.1 wf_X11_195 (.inl rfl) ?_
  refine kz_ldcI (M := kt_M69) (x := 1103515245) kX11_draw_c0.2.2.2.1 (zc_X11_220) ?_
  refine kz_imul (M := kt_M69) kX11_draw_c0.2.2.2.2.1 ?_
  refine kz_si (M := kt_M69) 12345 kX11_draw_c0.2.2.2.2.2.1 rfl ?_
  refine kz_iadd (M := kt_M69) kX11_draw_c0.2.2.2.2.2.2.1 ?_
  refine kz_pfi (M := kt_M69) (c := 10) (o := 0) kX11_draw_c0.2.2.2.2.2.2.2.1 wq_X11_195 (.inl rfl) ?_
  refine kz_aload_n (M := kt_M69) kX11_draw_c1.1 rfl ?_
  refine kz_gfiR (M := kt_M69) (c := 10) (o := 0) (((w_i w 10 0 13) * 1103515245) + 12345) kX11_draw_c1.2.1 wf_X11_195 (.inl rfl) rd_i_e ?_
  refine kz_bi (M := kt_M69) 16 kX11_draw_c1.2.2.1 rfl ?_
  refine kz_iushr (M := kt_M69) kX11_draw_c1.2.2.2.1 ?_
  refine kz_iload_n (M := kt_M69) kX11_draw_c1.2.2.2.2.1 rfl ?_
  obtain ⟨h0, h⟩ := h
  refine kz_irem (M := kt_M69) kX11_draw_c1.2.2.2.2.2.1 h0 ?_
  exact kz_iret (M := kt_M69) kX11_draw_c1.2.2.2.2.2.2.1 rfl rfl h
def zL_X11_call_p132 (E : zE) (L : Nat) (Q : kx_Rs → wS → Prop) (x3 : Option Nat) (x4 : Int32) (x6 : Int32) (w : wS) : Prop := kzE E L kt_M65 132 [(0, .ref (w_adr E.2.1 10 0)), (3, va_rf (x3)), (4, .int x4), (6, .int x6)] [] w Q
def zL_X11_call_p35 (E : zE) (L : Nat) (Q : kx_Rs → wS → Prop) (x2 : Int32) (x3 : Option Nat) (x4 : Int32) (x5 : Int32) (x6 : Int32) (w : wS) : Prop := kzE E L kt_M65 35 [(0, .ref (w_adr E.2.1 10 0)), (2, .int x2), (3, va_rf (x3)), (4, .int x4), (5, .int x5), (6, .int x6)] [] w Q
def zb_X11_call_p132 (E : zE) (L : Nat) (Q : kx_Rs → wS → Prop) (x3 : Option Nat) (x4 : Int32) (x6 : Int32) (w : wS) : Prop := (∃ p1, x3 = some p1 ∧ w_l w E.2.1 16 p1 ∧ (if w_i w 16 p1 5 ≤ x6 then Q (.inl none) (ws_i (ws_i w 10 0 26 x4) 10 0 25 (w_i w 16 p1 3)) else (kx_inb ((w_i w 10 0 29) + x6) (w_n w 10 0 30) = true ∧ zw E (L - 23) kt_M128 [.ref (w_adr E.2.1 11 0), .int x4, .int (4 + x6), .int (w_a w 10 0 30 (((w_i w 10 0 29) + x6)).toNatClampNeg)] w (wk0 (fun w2 => wle w w2 → zL_X11_call_p132 E L Q x3 x4 (x6 + 1) w2) (fun e w => Q (.inr e) w)))))
theorem zt_X11_call_p132 {E : zE} {L : Nat} {Q : kx_Rs → wS → Prop} {x3 : Option Nat} {x4 : Int32} {x6 : Int32} {w : wS} (hL : 24 ≤ L) (h : zb_X11_call_p132 E L Q x3 x4 x6 w) : kzE E L kt_M65 132 [(0, .ref (w_adr E.2.1 10 0)), (3, va_rf (x3)), (4, .int x4), (6, .int x6)] [] w Q := by
  unfold zb_X11_call_p132 at h
  refine kz_iload (M := kt_M65) kX11_call_c8.2.2.2.2.1 rfl ?_
  refine kz_aload_nv (M := kt_M65) (x := x3) kX11_call_c8.2.2.2.2.2.1 rfl ?_
  obtain ⟨p1, hxp1, hlp1, h⟩ := h
  refine kz_nz0 (x := x3) hxp1 ?_
  refine kz_gfi (M := kt_M65) (c := 16) (o := p1) kX11_call_c8.2.2.2.2.2.2.1 wf_X11_416 (.inr (by exact hlp1)) ?_
  refine kz_icmp_ge (M := kt_M65) kX11_call_c8.2.2.2.2.2.2.2.1 (t := 172) rfl h (fun h => ?_) (fun h => ?_)
  · skip
    refine kz_aload_n (M := kt_M65) kX11_call_c11.1 rfl ?_
    refine kz_iload (M := kt_M65) kX11_call_c11.2.1 rfl ?_
    refine kz_pfi (M := kt_M65) (c := 10) (o := 0) kX11_call_c11.2.2.1 wq_X11_114 (.inl rfl) ?_
    refine kz_aload_n (M := kt_M65) kX11_call_c11.2.2.2.1 rfl ?_
    refine kz_aload_nv (M := kt_M65) (x := x3) kX11_call_c11.2.2.2.2.1 rfl ?_
    refine kz_nz0 (x := x3) hxp1 ?_
    refine kz_gfiR (M := kt_M65) (c := 16) (o := p1) (w_i w 16 p1 3) kX11_call_c11.2.2.2.2.2.1 wf_X11_101 (.inr (by exact hlp1)) (rd_i_i rfl) ?_
    refine kz_pfi (M := kt_M65) (c := 10) (o := 0) kX11_call_c11.2.2.2.2.2.2.1 wq_X11_59 (.inl rfl) ?_
    exact kz_ret (M := kt_M65) kX11_call_c11.2.2.2.2.2.2.2.1 rfl h
  · skip
    refine kz_aload_n (M := kt_M65) kX11_call_c9.1 rfl ?_
    refine kz_gfc (M := kt_M65) (x := 44) (c := 10) (o := 0) kX11_call_c9.2.1 wf_X11_12 (.inl rfl) ?_
    refine kz_iload (M := kt_M65) kX11_call_c9.2.2.1 rfl ?_
    refine kz_ic (M := kt_M65) 4 kX11_call_c9.2.2.2.1 rfl ?_
    refine kz_iload (M := kt_M65) kX11_call_c9.2.2.2.2.1 rfl ?_
    refine kz_iadd (M := kt_M65) kX11_call_c9.2.2.2.2.2.1 ?_
    refine kz_aload_n (M := kt_M65) kX11_call_c9.2.2.2.2.2.2.1 rfl ?_
    refine kz_gfa (M := kt_M65) (c := 10) (o := 0) kX11_call_c9.2.2.2.2.2.2.2.1 wf_X11_38 (.inl rfl) ?_
    refine kz_aload_n (M := kt_M65) kX11_call_c10.1 rfl ?_
    refine kz_gfi (M := kt_M65) (c := 10) (o := 0) kX11_call_c10.2.1 wf_X11_45 (.inl rfl) ?_
    refine kz_iload (M := kt_M65) kX11_call_c10.2.2.1 rfl ?_
    refine kz_iadd (M := kt_M65) kX11_call_c10.2.2.2.1 ?_
    refine kz_iald (M := kt_M65) (c := 10) (o := 0) (k := 30) (a := (w_d w 10 0 30)) kX11_call_c10.2.2.2.2.1 ow_10_0_30 oa_10_0_30 ot_0 h (fun h => ?_)
    refine kz_cv0 (M := kt_M65) (c := 11) (o := 0) (As := [.int x4, .int (4 + x6), .int (w_a w 10 0 30 (((w_i w 10 0 29) + x6)).toNatClampNeg)]) (rest := []) kX11_call_c10.2.2.2.2.2.1 wl_X11_94 wMv_128 rfl (.inl rfl) rfl (Nat.le_trans (Nat.le_of_ble_eq_true rfl) hL) (Nat.le_of_ble_eq_true rfl) (Nat.le_of_ble_eq_true rfl) h (fun w2 hle h => ?_) (fun _ _ _ h => kzx_no rfl h)
    have h := h hle
    have hlp1 := w_l_le hlp1 hle
    refine kz_inc (M := kt_M65) [(0, .ref (w_adr E.2.1 10 0)), (3, va_rf (x3)), (4, .int x4)] kX11_call_c10.2.2.2.2.2.2.1 rfl (Nat.le_of_ble_eq_true rfl) ⟨⟨rfl, rfl, .inl rfl⟩, ⟨⟨rfl, rfl, .inl rfl⟩, ⟨⟨rfl, rfl, .inl rfl⟩, trivial⟩⟩⟩ rfl ?_
    refine kz_goto (M := kt_M65) kX11_call_c10.2.2.2.2.2.2.2.1 (t := 132) rfl ?_
    exact kz_weak [(0, .ref (w_adr E.2.1 10 0)), (3, va_rf (x3)), (4, .int x4), (6, .int (x6 + 1))] ⟨rfl, ⟨rfl, ⟨rfl, ⟨rfl, trivial⟩⟩⟩⟩ rfl h
def zb_X11_call_p35 (E : zE) (L : Nat) (Q : kx_Rs → wS → Prop) (x2 : Int32) (x3 : Option Nat) (x4 : Int32) (x5 : Int32) (x6 : Int32) (w : wS) : Prop := (if x2 ≤ x6 then zw E (L - 23) kt_M128 [.ref (w_adr E.2.1 11 0), .int x4, .int 0, .int x5] w (wk0 (fun w1 => wle w w1 → zw E (L - 23) kt_M128 [.ref (w_adr E.2.1 11 0), .int x4, .int 1, .int (w_i w1 10 0 25)] w1 (wk0 (fun w3 => wle w1 w3 → zw E (L - 23) kt_M128 [.ref (w_adr E.2.1 11 0), .int x4, .int 2, .int (w_i w3 10 0 26)] w3 (wk0 (fun w5 => wle w3 w5 → (∃ p7, w_p w5 10 0 21 = some p7 ∧ w_l w5 E.2.1 17 p7 ∧ zw E (L - 23) kt_M128 [.ref (w_adr E.2.1 11 0), .int x4, .int 3, .int (w_i w5 17 p7 17)] w5 (wk0 (fun w8 => wle w5 w8 → (∃ p10, x3 = some p10 ∧ w_l w8 E.2.1 16 p10 ∧ zL_X11_call_p132 E L Q x3 x4 0 (ws_i w8 10 0 29 ((w_i w8 10 0 29) - (w_i w8 16 p10 5))))) (fun e w => Q (.inr e) w)))) (fun e w => Q (.inr e) w))) (fun e w => Q (.inr e) w))) (fun e w => Q (.inr e) w)) else zw E (L - 22) kt_M129 [.ref (w_adr E.2.1 11 0), .int x5, .int 0] w (wk1 (fun v12 w11 => wle w w11 → zL_X11_call_p35 E L Q x2 x3 x4 v12 (x6 + 1) w11) (fun e w => Q (.inr e) w)))
theorem zt_X11_call_p35 {E : zE} {L : Nat} {Q : kx_Rs → wS → Prop} {x2 : Int32} {x3 : Option Nat} {x4 : Int32} {x5 : Int32} {x6 : Int32} {w : wS} (hL : 24 ≤ L) (h : zb_X11_call_p35 E L Q x2 x3 x4 x5 x6 w) : kzE E L kt_M65 35 [(0, .ref (w_adr E.2.1 10 0)), (2, .int x2), (3, va_rf (x3)), (4, .int x4), (5, .int x5), (6, .int x6)] [] w Q := by
  unfold zb_X11_call_p35 at h
  refine kz_iload (M := kt_M65) kX11_call_c2.2.2.2.2.1 rfl ?_
  refine kz_iload_n (M := kt_M65) kX11_call_c2.2.2.2.2.2.1 rfl ?_
  refine kz_icmp_ge (M := kt_M65) kX11_call_c2.2.2.2.2.2.2.1 (t := 59) rfl h (fun h => ?_) (fun h => ?_)
  · skip
    refine kz_aload_n (M := kt_M65) kX11_call_c3.2.2.2.2.2.2.2.1 rfl ?_
    refine kz_gfc (M := kt_M65) (x := 44) (c := 10) (o := 0) kX11_call_c4.1 wf_X11_12 (.inl rfl) ?_
    refine kz_iload (M := kt_M65) kX11_call_c4.2.1 rfl ?_
    refine kz_ic (M := kt_M65) 0 kX11_call_c4.2.2.1 rfl ?_
    refine kz_iload (M := kt_M65) kX11_call_c4.2.2.2.1 rfl ?_
    refine kz_cv0 (M := kt_M65) (c := 11) (o := 0) (As := [.int x4, .int 0, .int x5]) (rest := []) kX11_call_c4.2.2.2.2.1 wl_X11_94 wMv_128 rfl (.inl rfl) rfl (Nat.le_trans (Nat.le_of_ble_eq_true rfl) hL) (Nat.le_of_ble_eq_true rfl) (Nat.le_of_ble_eq_true rfl) h (fun w1 hle h => ?_) (fun _ _ _ h => kzx_no rfl h)
    have h := h hle
    refine kz_aload_n (M := kt_M65) kX11_call_c4.2.2.2.2.2.1 rfl ?_
    refine kz_gfc (M := kt_M65) (x := 44) (c := 10) (o := 0) kX11_call_c4.2.2.2.2.2.2.1 wf_X11_12 (.inl rfl) ?_
    refine kz_iload (M := kt_M65) kX11_call_c4.2.2.2.2.2.2.2.1 rfl ?_
    refine kz_ic (M := kt_M65) 1 kX11_call_c5.1 rfl ?_
    refine kz_aload_n (M := kt_M65) kX11_call_c5.2.1 rfl ?_
    refine kz_gfi (M := kt_M65) (c := 10) (o := 0) kX11_call_c5.2.2.1 wf_X11_59 (.inl rfl) ?_
    refine kz_cv0 (M := kt_M65) (c := 11) (o := 0) (As := [.int x4, .int 1, .int (w_i w1 10 0 25)]) (rest := []) kX11_call_c5.2.2.2.1 wl_X11_94 wMv_128 rfl (.inl rfl) rfl (Nat.le_trans (Nat.le_of_ble_eq_true rfl) hL) (Nat.le_of_ble_eq_true rfl) (Nat.le_of_ble_eq_true rfl) h (fun w3 hle h => ?_) (fun _ _ _ h => kzx_no rfl h)
    have h := h hle
    refine kz_aload_n (M := kt_M65) kX11_call_c5.2.2.2.2.1 rfl ?_
    refine kz_gfc (M := kt_M65) (x := 44) (c := 10) (o := 0) kX11_call_c5.2.2.2.2.2.1 wf_X11_12 (.inl rfl) ?_
    refine kz_iload (M := kt_M65) kX11_call_c5.2.2.2.2.2.2.1 rfl ?_
    refine kz_ic (M := kt_M65) 2 kX11_call_c5.2.2.2.2.2.2.2.1 rfl ?_
    refine kz_aload_n (M := kt_M65) kX11_call_c6.1 rfl ?_
    refine kz_gfi (M := kt_M65) (c := 10) (o := 0) kX11_call_c6.2.1 wf_X11_114 (.inl rfl) ?_
    refine kz_cv0 (M := kt_M65) (c := 11) (o := 0) (As := [.int x4, .int 2, .int (w_i w3 10 0 26)]) (rest := []) kX11_call_c6.2.2.1 wl_X11_94 wMv_128 rfl (.inl rfl) rfl (Nat.le_trans (Nat.le_of_ble_eq_true rfl) hL) (Nat.le_of_ble_eq_true rfl) (Nat.le_of_ble_eq_true rfl) h (fun w5 hle h => ?_) (fun _ _ _ h => kzx_no rfl h)
    have h := h hle
    refine kz_aload_n (M := kt_M65) kX11_call_c6.2.2.2.1 rfl ?_
    refine kz_gfc (M := kt_M65) (x := 44) (c := 10) (o := 0) kX11_call_c6.2.2.2.2.1 wf_X11_12 (.inl rfl) ?_
    refine kz_iload (M := kt_M65) kX11_call_c6.2.2.2.2.2.1 rfl ?_
    refine kz_ic (M := kt_M65) 3 kX11_call_c6.2.2.2.2.2.2.1 rfl ?_
    refine kz_aload_n (M := kt_M65) kX11_call_c6.2.2.2.2.2.2.2.1 rfl ?_
    refine kz_gfp (M := kt_M65) (c := 10) (o := 0) kX11_call_c7.1 wf_X11_110 (.inl rfl) ?_
    obtain ⟨p7, hxp7, hlp7, h⟩ := h
    refine kz_nz0 (x := w_p w5 10 0 21) hxp7 ?_
    refine kz_gfi (M := kt_M65) (c := 17) (o := p7) kX11_call_c7.2.1 wf_X11_161 (.inr (by exact hlp7)) ?_
    refine kz_cv0 (M := kt_M65) (c := 11) (o := 0) (As := [.int x4, .int 3, .int (w_i w5 17 p7 17)]) (rest := []) kX11_call_c7.2.2.1 wl_X11_94 wMv_128 rfl (.inl rfl) rfl (Nat.le_trans (Nat.le_of_ble_eq_true rfl) hL) (Nat.le_of_ble_eq_true rfl) (Nat.le_of_ble_eq_true rfl) h (fun w8 hle h => ?_) (fun _ _ _ h => kzx_no rfl h)
    have h := h hle
    have hlp7 := w_l_le hlp7 hle
    refine kz_aload_n (M := kt_M65) kX11_call_c7.2.2.2.1 rfl ?_
    refine kz_dup (M := kt_M65) kX11_call_c7.2.2.2.2.1 rfl ?_
    refine kz_gfi (M := kt_M65) (c := 10) (o := 0) kX11_call_c7.2.2.2.2.2.1 wf_X11_45 (.inl rfl) ?_
    refine kz_aload_nv (M := kt_M65) (x := x3) kX11_call_c7.2.2.2.2.2.2.1 rfl ?_
    obtain ⟨p10, hxp10, hlp10, h⟩ := h
    refine kz_nz0 (x := x3) hxp10 ?_
    refine kz_gfi (M := kt_M65) (c := 16) (o := p10) kX11_call_c7.2.2.2.2.2.2.2.1 wf_X11_416 (.inr (by exact hlp10)) ?_
    refine kz_isub (M := kt_M65) kX11_call_c8.1 ?_
    refine kz_pfi (M := kt_M65) (c := 10) (o := 0) kX11_call_c8.2.1 wq_X11_45 (.inl rfl) ?_
    refine kz_ic (M := kt_M65) 0 kX11_call_c8.2.2.1 rfl ?_
    refine kz_sti (M := kt_M65) [(0, .ref (w_adr E.2.1 10 0)), (3, va_rf (x3)), (4, .int x4)] kX11_call_c8.2.2.2.1 (Nat.le_of_ble_eq_true rfl) ⟨⟨rfl, rfl, .inl rfl⟩, ⟨⟨rfl, rfl, .inl rfl⟩, ⟨⟨rfl, rfl, .inl rfl⟩, trivial⟩⟩⟩ rfl ?_
    exact kz_weak [(0, .ref (w_adr E.2.1 10 0)), (3, va_rf (x3)), (4, .int x4), (6, .int 0)] ⟨rfl, ⟨rfl, ⟨rfl, ⟨rfl, trivial⟩⟩⟩⟩ rfl h
  · skip
    refine kz_aload_n (M := kt_M65) kX11_call_c2.2.2.2.2.2.2.2.1 rfl ?_
    refine kz_gfc (M := kt_M65) (x := 44) (c := 10) (o := 0) kX11_call_c3.1 wf_X11_12 (.inl rfl) ?_
    refine kz_iload (M := kt_M65) kX11_call_c3.2.1 rfl ?_
    refine kz_ic (M := kt_M65) 0 kX11_call_c3.2.2.1 rfl ?_
    refine kz_cv1 (M := kt_M65) (c := 11) (o := 0) (As := [.int x5, .int 0]) (rest := []) kX11_call_c3.2.2.2.1 wl_X11_289 wMv_129 rfl (.inl rfl) rfl (Nat.le_trans (Nat.le_of_ble_eq_true rfl) hL) (Nat.le_of_ble_eq_true rfl) (Nat.le_of_ble_eq_true rfl) h (fun v12 w11 hle h => ?_) (fun _ _ _ h => kzx_no rfl h)
    have h := h hle
    refine kz_sti (M := kt_M65) [(0, .ref (w_adr E.2.1 10 0)), (2, .int x2), (3, va_rf (x3)), (4, .int x4), (6, .int x6)] kX11_call_c3.2.2.2.2.1 (Nat.le_of_ble_eq_true rfl) ⟨⟨rfl, rfl, .inl rfl⟩, ⟨⟨rfl, rfl, .inl rfl⟩, ⟨⟨rfl, rfl, .inl rfl⟩, ⟨⟨rfl, rfl, .inr rfl⟩, ⟨⟨rfl, rfl, .inl rfl⟩, trivial⟩⟩⟩⟩⟩ rfl ?_
    refine kz_inc (M := kt_M65) [(0, .ref (w_adr E.2.1 10 0)), (2, .int x2), (3, va_rf (x3)), (4, .int x4), (5, .int v12)] kX11_call_c3.2.2.2.2.2.1 rfl (Nat.le_of_ble_eq_true rfl) ⟨⟨rfl, rfl, .inl rfl⟩, ⟨⟨rfl, rfl, .inl rfl⟩, ⟨⟨rfl, rfl, .inl rfl⟩, ⟨⟨rfl, rfl, .inl rfl⟩, ⟨⟨rfl, rfl, .inr rfl⟩, trivial⟩⟩⟩⟩⟩ rfl ?_
    refine kz_goto (M := kt_M65) kX11_call_c3.2.2.2.2.2.2.1 (t := 35) rfl ?_
    exact kz_weak [(0, .ref (w_adr E.2.1 10 0)), (2, .int x2), (3, va_rf (x3)), (4, .int x4), (5, .int v12), (6, .int (x6 + 1))] ⟨rfl, ⟨rfl, ⟨rfl, ⟨rfl, ⟨rfl, ⟨rfl, trivial⟩⟩⟩⟩⟩⟩ rfl h
def zb_X11_call_p0 (E : zE) (L : Nat) (Q : kx_Rs → wS → Prop) (x1 : Int32) (x2 : Int32) (w : wS) : Prop := (kx_inb x1 (w_n w 8 0 2) = true ∧ (∃ p1, w_r w 8 0 2 (x1).toNatClampNeg = some p1 ∧ w_l w E.2.1 16 p1 ∧ zw E (L - 24) kt_M125 [.ref (w_adr E.2.1 11 0), .int (w_i w 16 p1 2), .int ((-1 : Int32) - x1)] w (wk1 (fun v3 w2 => wle w w2 → zL_X11_call_p35 E L Q x2 (w_r w 8 0 2 (x1).toNatClampNeg) v3 (w_i w2 10 0 26) 0 w2) (fun e w => Q (.inr e) w))))
theorem zt_X11_call_p0 {E : zE} {L : Nat} {Q : kx_Rs → wS → Prop} {x1 : Int32} {x2 : Int32} {w : wS} (hL : 24 ≤ L) (h : zb_X11_call_p0 E L Q x1 x2 w) : kzE E L kt_M65 0 [(0, .ref (w_adr E.2.1 10 0)), (1, .int x1), (2, .int x2)] [] w Q := by
  unfold zb_X11_call_p0 at h
  refine kz_aload_n (M := kt_M65) kX11_call_c0.1 rfl ?_
  refine kz_gfc (M := kt_M65) (x := 32) (c := 10) (o := 0) kX11_call_c0.2.1 wf_X11_41 (.inl rfl) ?_
  refine kz_gfa (M := kt_M65) (c := 8) (o := 0) kX11_call_c0.2.2.1 wf_X11_76 (.inl rfl) ?_
  refine kz_iload_n (M := kt_M65) kX11_call_c0.2.2.2.1 rfl ?_
  refine kz_aald (M := kt_M65) (τ := 3) (c := 8) (o := 0) (k := 2) (a := (w_d w 8 0 2)) kX11_call_c0.2.2.2.2.1 ow_8_0_2 oa_8_0_2 ot_7 rfl h (fun h => ?_)
  refine kz_stv_n (M := kt_M65) (x := w_r w 8 0 2 (x1).toNatClampNeg) [(0, .ref (w_adr E.2.1 10 0)), (1, .int x1), (2, .int x2)] kX11_call_c0.2.2.2.2.2.1 (Nat.le_of_ble_eq_true rfl) ⟨⟨rfl, rfl, .inl rfl⟩, ⟨⟨rfl, rfl, .inl rfl⟩, ⟨⟨rfl, rfl, .inr rfl⟩, trivial⟩⟩⟩ rfl ?_
  refine kz_aload_n (M := kt_M65) kX11_call_c0.2.2.2.2.2.2.1 rfl ?_
  refine kz_gfc (M := kt_M65) (x := 44) (c := 10) (o := 0) kX11_call_c0.2.2.2.2.2.2.2.1 wf_X11_12 (.inl rfl) ?_
  refine kz_aload_nv (M := kt_M65) (x := w_r w 8 0 2 (x1).toNatClampNeg) kX11_call_c1.1 rfl ?_
  obtain ⟨p1, hxp1, hlp1, h⟩ := h
  refine kz_nz0 (x := w_r w 8 0 2 (x1).toNatClampNeg) hxp1 ?_
  refine kz_gfi (M := kt_M65) (c := 16) (o := p1) kX11_call_c1.2.1 wf_X11_82 (.inr (by exact hlp1)) ?_
  refine kz_ic (M := kt_M65) (-1) kX11_call_c1.2.2.1 rfl ?_
  refine kz_iload_n (M := kt_M65) kX11_call_c1.2.2.2.1 rfl ?_
  refine kz_isub (M := kt_M65) kX11_call_c1.2.2.2.2.1 ?_
  refine kz_cv1 (M := kt_M65) (c := 11) (o := 0) (As := [.int (w_i w 16 p1 2), .int ((-1 : Int32) - x1)]) (rest := []) kX11_call_c1.2.2.2.2.2.1 wl_X11_87 wMv_125 rfl (.inl rfl) rfl (Nat.le_trans (Nat.le_of_ble_eq_true rfl) hL) (Nat.le_of_ble_eq_true rfl) (Nat.le_of_ble_eq_true rfl) h (fun v3 w2 hle h => ?_) (fun _ _ _ h => kzx_no rfl h)
  have h := h hle
  have hlp1 := w_l_le hlp1 hle
  refine kz_sti (M := kt_M65) [(0, .ref (w_adr E.2.1 10 0)), (2, .int x2), (3, va_rf (w_r w 8 0 2 (x1).toNatClampNeg))] kX11_call_c1.2.2.2.2.2.2.1 (Nat.le_of_ble_eq_true rfl) ⟨⟨rfl, rfl, .inl rfl⟩, ⟨⟨rfl, rfl, .inl rfl⟩, ⟨⟨rfl, rfl, .inr (w_cat (w_r w 8 0 2 (x1).toNatClampNeg))⟩, trivial⟩⟩⟩ rfl ?_
  refine kz_aload_n (M := kt_M65) kX11_call_c1.2.2.2.2.2.2.2.1 rfl ?_
  refine kz_gfi (M := kt_M65) (c := 10) (o := 0) kX11_call_c2.1 wf_X11_114 (.inl rfl) ?_
  refine kz_sti (M := kt_M65) [(0, .ref (w_adr E.2.1 10 0)), (2, .int x2), (3, va_rf (w_r w 8 0 2 (x1).toNatClampNeg)), (4, .int v3)] kX11_call_c2.2.1 (Nat.le_of_ble_eq_true rfl) ⟨⟨rfl, rfl, .inl rfl⟩, ⟨⟨rfl, rfl, .inl rfl⟩, ⟨⟨rfl, rfl, .inl rfl⟩, ⟨⟨rfl, rfl, .inr rfl⟩, trivial⟩⟩⟩⟩ rfl ?_
  refine kz_ic (M := kt_M65) 0 kX11_call_c2.2.2.1 rfl ?_
  refine kz_sti (M := kt_M65) [(0, .ref (w_adr E.2.1 10 0)), (2, .int x2), (3, va_rf (w_r w 8 0 2 (x1).toNatClampNeg)), (4, .int v3), (5, .int (w_i w2 10 0 26))] kX11_call_c2.2.2.2.1 (Nat.le_of_ble_eq_true rfl) ⟨⟨rfl, rfl, .inl rfl⟩, ⟨⟨rfl, rfl, .inl rfl⟩, ⟨⟨rfl, rfl, .inl rfl⟩, ⟨⟨rfl, rfl, .inl rfl⟩, ⟨⟨rfl, rfl, .inr rfl⟩, trivial⟩⟩⟩⟩⟩ rfl ?_
  exact kz_weak [(0, .ref (w_adr E.2.1 10 0)), (2, .int x2), (3, va_rf (w_r w 8 0 2 (x1).toNatClampNeg)), (4, .int v3), (5, .int (w_i w2 10 0 26)), (6, .int 0)] ⟨rfl, ⟨rfl, ⟨rfl, ⟨rfl, ⟨rfl, ⟨rfl, trivial⟩⟩⟩⟩⟩⟩ rfl h
def zL_X11_back_p25 (E : zE) (L : Nat) (Q : kx_Rs → wS → Prop) (x2 : Int32) (x3 : Int32) (x4 : Int32) (w : wS) : Prop := kzE E L kt_M61 25 [(0, .ref (w_adr E.2.1 10 0)), (2, .int x2), (3, .int x3), (4, .int x4)] [] w Q
def zb_X11_back_p25 (E : zE) (L : Nat) (Q : kx_Rs → wS → Prop) (x2 : Int32) (x3 : Int32) (x4 : Int32) (w : wS) : Prop := (if x3 < x4 then zw E (L - 22) kt_M129 [.ref (w_adr E.2.1 11 0), .int (w_i w 10 0 26), .int 1] w (wk1 (fun v2 w1 => wle w w1 → zw E (L - 22) kt_M129 [.ref (w_adr E.2.1 11 0), .int (w_i w 10 0 26), .int 2] (ws_i w1 10 0 25 v2) (wk1 (fun v4 w3 => wle (ws_i w1 10 0 25 v2) w3 → zw E (L - 21) kt_M122 [.ref (w_adr E.2.1 11 0), .int (w_i w 10 0 26)] (ws_i w3 10 0 26 v4) (wk0 (fun w5 => wle (ws_i w3 10 0 26 v4) w5 → Q (.inl none) w5) (fun e w => Q (.inr e) w))) (fun e w => Q (.inr e) w))) (fun e w => Q (.inr e) w)) else (w_p w 10 0 2 = some (w_adr E.2.1 9 0) ∧ zw E (L - 21) kt_M221 [.ref (w_adr E.2.1 9 0), .int (x2 + x4)] w (wk1 (fun v9 w8 => wle w w8 → zw E (L - 22) kt_M129 [.ref (w_adr E.2.1 11 0), .int (w_i w 10 0 26), .int v9] w8 (wk1 (fun v11 w10 => wle w8 w10 → zw E (L - 22) kt_M73 [.ref (w_adr E.2.1 10 0), .int (v11 >>> (13 &&& 31)), .int 1] w10 (wk0 (fun w12 => wle w10 w12 → zL_X11_back_p25 E L Q x2 x3 (x4 + 1) w12) (fun e w => Q (.inr e) w))) (fun e w => Q (.inr e) w))) (fun e w => Q (.inr e) w))))
theorem zt_X11_back_p25 {E : zE} {L : Nat} {Q : kx_Rs → wS → Prop} {x2 : Int32} {x3 : Int32} {x4 : Int32} {w : wS} (hL : 22 ≤ L) (h : zb_X11_back_p25 E L Q x2 x3 x4 w) : kzE E L kt_M61 25 [(0, .ref (w_adr E.2.1 10 0)), (2, .int x2), (3, .int x3), (4, .int x4)] [] w Q := by
  unfold zb_X11_back_p25 at h
  refine kz_iload (M := kt_M61) kX11_back_c1.2.2.2.2.2.2.1 rfl ?_
  refine kz_iload_n (M := kt_M61) kX11_back_c1.2.2.2.2.2.2.2.1 rfl ?_
  refine kz_icmp_gt (M := kt_M61) kX11_back_c2.1 (t := 67) rfl h (fun h => ?_) (fun h => ?_)
  · skip
    refine kz_aload_n (M := kt_M61) kX11_back_c4.2.2.2.1 rfl ?_
    refine kz_gfi (M := kt_M61) (c := 10) (o := 0) kX11_back_c4.2.2.2.2.1 wf_X11_114 (.inl rfl) ?_
    refine kz_sti (M := kt_M61) [(0, .ref (w_adr E.2.1 10 0))] kX11_back_c4.2.2.2.2.2.1 (Nat.le_of_ble_eq_true rfl) ⟨⟨rfl, rfl, .inl rfl⟩, trivial⟩ rfl ?_
    refine kz_aload_n (M := kt_M61) kX11_back_c4.2.2.2.2.2.2.1 rfl ?_
    refine kz_aload_n (M := kt_M61) kX11_back_c4.2.2.2.2.2.2.2.1 rfl ?_
    refine kz_gfc (M := kt_M61) (x := 44) (c := 10) (o := 0) kX11_back_c5.1 wf_X11_12 (.inl rfl) ?_
    refine kz_iload (M := kt_M61) kX11_back_c5.2.1 rfl ?_
    refine kz_ic (M := kt_M61) 1 kX11_back_c5.2.2.1 rfl ?_
    refine kz_cv1 (M := kt_M61) (c := 11) (o := 0) (As := [.int (w_i w 10 0 26), .int 1]) (rest := [.ref (w_adr E.2.1 10 0)]) kX11_back_c5.2.2.2.1 wl_X11_289 wMv_129 rfl (.inl rfl) rfl (Nat.le_trans (Nat.le_of_ble_eq_true rfl) hL) (Nat.le_of_ble_eq_true rfl) (Nat.le_of_ble_eq_true rfl) h (fun v2 w1 hle h => ?_) (fun _ _ _ h => kzx_no rfl h)
    have h := h hle
    refine kz_pfi (M := kt_M61) (c := 10) (o := 0) kX11_back_c5.2.2.2.2.1 wq_X11_59 (.inl rfl) ?_
    refine kz_aload_n (M := kt_M61) kX11_back_c5.2.2.2.2.2.1 rfl ?_
    refine kz_aload_n (M := kt_M61) kX11_back_c5.2.2.2.2.2.2.1 rfl ?_
    refine kz_gfc (M := kt_M61) (x := 44) (c := 10) (o := 0) kX11_back_c5.2.2.2.2.2.2.2.1 wf_X11_12 (.inl rfl) ?_
    refine kz_iload (M := kt_M61) kX11_back_c6.1 rfl ?_
    refine kz_ic (M := kt_M61) 2 kX11_back_c6.2.1 rfl ?_
    refine kz_cv1 (M := kt_M61) (c := 11) (o := 0) (As := [.int (w_i w 10 0 26), .int 2]) (rest := [.ref (w_adr E.2.1 10 0)]) kX11_back_c6.2.2.1 wl_X11_289 wMv_129 rfl (.inl rfl) rfl (Nat.le_trans (Nat.le_of_ble_eq_true rfl) hL) (Nat.le_of_ble_eq_true rfl) (Nat.le_of_ble_eq_true rfl) h (fun v4 w3 hle h => ?_) (fun _ _ _ h => kzx_no rfl h)
    have h := h hle
    refine kz_pfi (M := kt_M61) (c := 10) (o := 0) kX11_back_c6.2.2.2.1 wq_X11_114 (.inl rfl) ?_
    refine kz_aload_n (M := kt_M61) kX11_back_c6.2.2.2.2.1 rfl ?_
    refine kz_gfc (M := kt_M61) (x := 44) (c := 10) (o := 0) kX11_back_c6.2.2.2.2.2.1 wf_X11_12 (.inl rfl) ?_
    refine kz_iload (M := kt_M61) kX11_back_c6.2.2.2.2.2.2.1 rfl ?_
    refine kz_cv0 (M := kt_M61) (c := 11) (o := 0) (As := [.int (w_i w 10 0 26)]) (rest := []) kX11_back_c6.2.2.2.2.2.2.2.1 wl_X11_141 wMv_122 rfl (.inl rfl) rfl (Nat.le_trans (Nat.le_of_ble_eq_true rfl) hL) (Nat.le_of_ble_eq_true rfl) (Nat.le_of_ble_eq_true rfl) h (fun w5 hle h => ?_) (fun _ _ _ h => kzx_no rfl h)
    have h := h hle
    exact kz_ret (M := kt_M61) kX11_back_c7.1 rfl h
  · skip
    refine kz_aload_n (M := kt_M61) kX11_back_c2.2.1 rfl ?_
    refine kz_aload_n (M := kt_M61) kX11_back_c2.2.2.1 rfl ?_
    refine kz_gfc (M := kt_M61) (x := 44) (c := 10) (o := 0) kX11_back_c2.2.2.2.1 wf_X11_12 (.inl rfl) ?_
    refine kz_aload_n (M := kt_M61) kX11_back_c2.2.2.2.2.1 rfl ?_
    refine kz_gfi (M := kt_M61) (c := 10) (o := 0) kX11_back_c2.2.2.2.2.2.1 wf_X11_114 (.inl rfl) ?_
    refine kz_aload_n (M := kt_M61) kX11_back_c2.2.2.2.2.2.2.1 rfl ?_
    refine kz_gfp (M := kt_M61) (c := 10) (o := 0) kX11_back_c2.2.2.2.2.2.2.2.1 wf_X11_55 (.inl rfl) ?_
    refine kz_iload_n (M := kt_M61) kX11_back_c3.1 rfl ?_
    refine kz_iload (M := kt_M61) kX11_back_c3.2.1 rfl ?_
    refine kz_iadd (M := kt_M61) kX11_back_c3.2.2.1 ?_
    obtain ⟨hf7, h⟩ := h
    refine kz_nz1 (x := w_p w 10 0 2) hf7 ?_
    refine kz_cv1 (M := kt_M61) (c := 9) (o := 0) (As := [.int (x2 + x4)]) (rest := [.int (w_i w 10 0 26), .ref (w_adr E.2.1 11 0), .ref (w_adr E.2.1 10 0)]) kX11_back_c3.2.2.2.1 wl_X11_62 wMv_221 rfl (.inl rfl) rfl (Nat.le_trans (Nat.le_of_ble_eq_true rfl) hL) (Nat.le_of_ble_eq_true rfl) (Nat.le_of_ble_eq_true rfl) h (fun v9 w8 hle h => ?_) (fun _ _ _ h => kzx_no rfl h)
    have h := h hle
    refine kz_cv1 (M := kt_M61) (c := 11) (o := 0) (As := [.int (w_i w 10 0 26), .int v9]) (rest := [.ref (w_adr E.2.1 10 0)]) kX11_back_c3.2.2.2.2.1 wl_X11_289 wMv_129 rfl (.inl rfl) rfl (Nat.le_trans (Nat.le_of_ble_eq_true rfl) hL) (Nat.le_of_ble_eq_true rfl) (Nat.le_of_ble_eq_true rfl) h (fun v11 w10 hle h => ?_) (fun _ _ _ h => kzx_no rfl h)
    have h := h hle
    refine kz_bi (M := kt_M61) 13 kX11_back_c3.2.2.2.2.2.1 rfl ?_
    refine kz_ishr (M := kt_M61) kX11_back_c3.2.2.2.2.2.2.1 ?_
    refine kz_ic (M := kt_M61) 1 kX11_back_c3.2.2.2.2.2.2.2.1 rfl ?_
    refine kz_cv0 (M := kt_M61) (c := 10) (o := 0) (As := [.int (v11 >>> (13 &&& 31)), .int 1]) (rest := []) kX11_back_c4.1 wl_X11_345 wMv_73 rfl (.inl rfl) rfl (Nat.le_trans (Nat.le_of_ble_eq_true rfl) hL) (Nat.le_of_ble_eq_true rfl) (Nat.le_of_ble_eq_true rfl) h (fun w12 hle h => ?_) (fun _ _ _ h => kzx_no rfl h)
    have h := h hle
    refine kz_inc (M := kt_M61) [(0, .ref (w_adr E.2.1 10 0)), (2, .int x2), (3, .int x3)] kX11_back_c4.2.1 rfl (Nat.le_of_ble_eq_true rfl) ⟨⟨rfl, rfl, .inl rfl⟩, ⟨⟨rfl, rfl, .inl rfl⟩, ⟨⟨rfl, rfl, .inr rfl⟩, trivial⟩⟩⟩ rfl ?_
    refine kz_goto (M := kt_M61) kX11_back_c4.2.2.1 (t := 25) rfl ?_
    exact kz_weak [(0, .ref (w_adr E.2.1 10 0)), (2, .int x2), (3, .int x3), (4, .int (x4 + 1))] ⟨rfl, ⟨rfl, ⟨rfl, ⟨rfl, trivial⟩⟩⟩⟩ rfl h
def zb_X11_back_p0 (E : zE) (L : Nat) (Q : kx_Rs → wS → Prop) (x1 : Int32) (w : wS) : Prop := (kx_inb x1 (w_n w 8 0 2) = true ∧ (∃ p1, w_r w 8 0 2 (x1).toNatClampNeg = some p1 ∧ w_l w E.2.1 16 p1 ∧ (w_p w 10 0 2 = some (w_adr E.2.1 9 0) ∧ zw E (L - 21) kt_M221 [.ref (w_adr E.2.1 9 0), .int (w_i w 16 p1 6)] w (wk1 (fun v4 w3 => wle w w3 → zL_X11_back_p25 E L Q (w_i w 16 p1 6) v4 1 w3) (fun e w => Q (.inr e) w)))))
theorem zt_X11_back_p0 {E : zE} {L : Nat} {Q : kx_Rs → wS → Prop} {x1 : Int32} {w : wS} (hL : 22 ≤ L) (h : zb_X11_back_p0 E L Q x1 w) : kzE E L kt_M61 0 [(0, .ref (w_adr E.2.1 10 0)), (1, .int x1)] [] w Q := by
  unfold zb_X11_back_p0 at h
  refine kz_aload_n (M := kt_M61) kX11_back_c0.1 rfl ?_
  refine kz_gfc (M := kt_M61) (x := 32) (c := 10) (o := 0) kX11_back_c0.2.1 wf_X11_41 (.inl rfl) ?_
  refine kz_gfa (M := kt_M61) (c := 8) (o := 0) kX11_back_c0.2.2.1 wf_X11_76 (.inl rfl) ?_
  refine kz_iload_n (M := kt_M61) kX11_back_c0.2.2.2.1 rfl ?_
  refine kz_aald (M := kt_M61) (τ := 3) (c := 8) (o := 0) (k := 2) (a := (w_d w 8 0 2)) kX11_back_c0.2.2.2.2.1 ow_8_0_2 oa_8_0_2 ot_7 rfl h (fun h => ?_)
  obtain ⟨p1, hxp1, hlp1, h⟩ := h
  refine kz_nz0 (x := w_r w 8 0 2 (x1).toNatClampNeg) hxp1 ?_
  refine kz_gfi (M := kt_M61) (c := 16) (o := p1) kX11_back_c0.2.2.2.2.2.1 wf_X11_419 (.inr (by exact hlp1)) ?_
  refine kz_sti_n (M := kt_M61) [(0, .ref (w_adr E.2.1 10 0))] kX11_back_c0.2.2.2.2.2.2.1 (Nat.le_of_ble_eq_true rfl) ⟨⟨rfl, rfl, .inl rfl⟩, trivial⟩ rfl ?_
  refine kz_aload_n (M := kt_M61) kX11_back_c0.2.2.2.2.2.2.2.1 rfl ?_
  refine kz_gfp (M := kt_M61) (c := 10) (o := 0) kX11_back_c1.1 wf_X11_55 (.inl rfl) ?_
  refine kz_iload_n (M := kt_M61) kX11_back_c1.2.1 rfl ?_
  obtain ⟨hf2, h⟩ := h
  refine kz_nz1 (x := w_p w 10 0 2) hf2 ?_
  refine kz_cv1 (M := kt_M61) (c := 9) (o := 0) (As := [.int (w_i w 16 p1 6)]) (rest := []) kX11_back_c1.2.2.1 wl_X11_62 wMv_221 rfl (.inl rfl) rfl (Nat.le_trans (Nat.le_of_ble_eq_true rfl) hL) (Nat.le_of_ble_eq_true rfl) (Nat.le_of_ble_eq_true rfl) h (fun v4 w3 hle h => ?_) (fun _ _ _ h => kzx_no rfl h)
  have h := h hle
  have hlp1 := w_l_le hlp1 hle
  refine kz_sti_n (M := kt_M61) [(0, .ref (w_adr E.2.1 10 0)), (2, .int (w_i w 16 p1 6))] kX11_back_c1.2.2.2.1 (Nat.le_of_ble_eq_true rfl) ⟨⟨rfl, rfl, .inl rfl⟩, ⟨⟨rfl, rfl, .inr rfl⟩, trivial⟩⟩ rfl ?_
  refine kz_ic (M := kt_M61) 1 kX11_back_c1.2.2.2.2.1 rfl ?_
  refine kz_sti (M := kt_M61) [(0, .ref (w_adr E.2.1 10 0)), (2, .int (w_i w 16 p1 6)), (3, .int v4)] kX11_back_c1.2.2.2.2.2.1 (Nat.le_of_ble_eq_true rfl) ⟨⟨rfl, rfl, .inl rfl⟩, ⟨⟨rfl, rfl, .inl rfl⟩, ⟨⟨rfl, rfl, .inr rfl⟩, trivial⟩⟩⟩ rfl ?_
  exact kz_weak [(0, .ref (w_adr E.2.1 10 0)), (2, .int (w_i w 16 p1 6)), (3, .int v4), (4, .int 1)] ⟨rfl, ⟨rfl, ⟨rfl, ⟨rfl, trivial⟩⟩⟩⟩ rfl h
def zL_X11_branches_p80 (E : zE) (L : Nat) (Q : kx_Rs → wS → Prop) (x1 : Int32) (x2 : Int32) (x3 : Int32) (x4 : Int32) (x5 : Option Nat) (x6 : Int32) (w : wS) : Prop := kzE E L kt_M62 80 [(0, .ref (w_adr E.2.1 10 0)), (1, .int x1), (2, .int x2), (3, .int x3), (4, .int x4), (5, va_rf (x5)), (6, .int x6)] [] w Q
def zb_X11_branches_p173 (E : zE) (L : Nat) (Q : kx_Rs → wS → Prop) (x5 : Option Nat) (y0 : Int32) (w : wS) : Prop := ((y0 = 0 ∨ y0 = 1) ∧ (if ¬ y0 = 0 then (∃ p1, x5 = some p1 ∧ w_l (ws_i w 10 0 31 y0) E.2.1 17 p1 ∧ zw E (L - 21) kt_M81 [.ref (w_adr E.2.1 10 0), va_rf (x5)] (ws_p (ws_i w 10 0 31 y0) 17 p1 9 (some (E.1.1 61))) (wk0 (fun w2 => wle (ws_p (ws_i w 10 0 31 y0) 17 p1 9 (some (E.1.1 61))) w2 → Q (.inl none) w2) (fun e w => Q (.inr e) w))) else Q (.inl none) (ws_i w 10 0 31 y0)))
theorem zt_X11_branches_p173 {E : zE} {L : Nat} {Q : kx_Rs → wS → Prop} {x5 : Option Nat} {y0 : Int32} {w : wS} (hL : 25 ≤ L) (h : zb_X11_branches_p173 E L Q x5 y0 w) : kzE E L kt_M62 173 [(0, .ref (w_adr E.2.1 10 0)), (5, va_rf (x5))] [.int y0, .ref (w_adr E.2.1 10 0)] w Q := by
  unfold zb_X11_branches_p173 at h
  obtain ⟨h0, h⟩ := h
  refine kz_pfz (M := kt_M62) (c := 10) (o := 0) kX11_branches_c11.1 wq_X11_115 (.inl rfl) h0 ?_
  refine kz_aload_n (M := kt_M62) kX11_branches_c11.2.1 rfl ?_
  refine kz_gfiR (M := kt_M62) (c := 10) (o := 0) y0 kX11_branches_c11.2.2.1 wf_X11_115 (.inl rfl) rd_i_e ?_
  refine kz_if_ne (M := kt_M62) kX11_branches_c11.2.2.2.1 (t := 184) rfl h (fun h => ?_) (fun h => ?_)
  · skip
    refine kz_aloadv (M := kt_M62) (x := x5) kX11_branches_c11.2.2.2.2.2.1 rfl ?_
    refine kz_getsE (M := kt_M62) (v := va_rf (some (E.1.1 61))) kX11_branches_c11.2.2.2.2.2.2.1 zs_X11_154 ?_
    obtain ⟨p1, hxp1, hlp1, h⟩ := h
    refine kz_nz1 (x := x5) hxp1 ?_
    refine kz_pfp (M := kt_M62) (n := some (E.1.1 61)) (c := 17) (o := p1) kX11_branches_c11.2.2.2.2.2.2.2.1 wq_X11_125 (.inr (by exact hlp1)) ?_
    refine kz_aload_n (M := kt_M62) kX11_branches_c12.1 rfl ?_
    refine kz_aloadv (M := kt_M62) (x := x5) kX11_branches_c12.2.1 rfl ?_
    refine kz_cv0 (M := kt_M62) (c := 10) (o := 0) (As := [va_rf (x5)]) (rest := []) kX11_branches_c12.2.2.1 wl_X11_157 wMv_81 rfl (.inl rfl) rfl (Nat.le_trans (Nat.le_of_ble_eq_true rfl) hL) (by simp [lg_sl, w_cat, z_ci, z_cr, z_cl, z_cn, kt_M81]) (Nat.le_of_ble_eq_true rfl) h (fun w2 hle h => ?_) (fun _ _ _ h => kzx_no rfl h)
    have h := h hle
    have hlp1 := w_l_le hlp1 hle
    exact kz_ret (M := kt_M62) kX11_branches_c12.2.2.2.1 rfl h
  · skip
    exact kz_ret (M := kt_M62) kX11_branches_c11.2.2.2.2.1 rfl h
def zb_X11_branches_p136 (E : zE) (L : Nat) (Q : kx_Rs → wS → Prop) (x1 : Int32) (x2 : Int32) (x3 : Int32) (x4 : Int32) (x5 : Option Nat) (x6 : Int32) (x7 : Option Nat) (w : wS) : Prop := zw E (L - 21) kt_M117 [.ref (w_adr E.2.1 10 0), va_rf (x7)] w (wk0 (fun w1 => wle w w1 → zL_X11_branches_p80 E L Q x1 x2 x3 x4 x5 (x6 + 1) w1) (fun e w => Q (.inr e) w))
theorem zt_X11_branches_p136 {E : zE} {L : Nat} {Q : kx_Rs → wS → Prop} {x1 : Int32} {x2 : Int32} {x3 : Int32} {x4 : Int32} {x5 : Option Nat} {x6 : Int32} {x7 : Option Nat} {w : wS} (hL : 25 ≤ L) (h : zb_X11_branches_p136 E L Q x1 x2 x3 x4 x5 x6 x7 w) : kzE E L kt_M62 136 [(0, .ref (w_adr E.2.1 10 0)), (1, .int x1), (2, .int x2), (3, .int x3), (4, .int x4), (5, va_rf (x5)), (6, .int x6), (7, va_rf (x7))] [] w Q := by
  unfold zb_X11_branches_p136 at h
  refine kz_aload_n (M := kt_M62) kX11_branches_c8.2.2.2.2.2.2.1 rfl ?_
  refine kz_aloadv (M := kt_M62) (x := x7) kX11_branches_c8.2.2.2.2.2.2.2.1 rfl ?_
  refine kz_cv0 (M := kt_M62) (c := 10) (o := 0) (As := [va_rf (x7)]) (rest := []) kX11_branches_c9.1 wl_X11_217 wMv_117 rfl (.inl rfl) rfl (Nat.le_trans (Nat.le_of_ble_eq_true rfl) hL) (by simp [lg_sl, w_cat, z_ci, z_cr, z_cl, z_cn, kt_M117]) (Nat.le_of_ble_eq_true rfl) h (fun w1 hle h => ?_) (fun _ _ _ h => kzx_no rfl h)
  have h := h hle
  refine kz_inc (M := kt_M62) [(0, .ref (w_adr E.2.1 10 0)), (1, .int x1), (2, .int x2), (3, .int x3), (4, .int x4), (5, va_rf (x5))] kX11_branches_c9.2.1 rfl (Nat.le_of_ble_eq_true rfl) ⟨⟨rfl, rfl, .inl rfl⟩, ⟨⟨rfl, rfl, .inl rfl⟩, ⟨⟨rfl, rfl, .inl rfl⟩, ⟨⟨rfl, rfl, .inl rfl⟩, ⟨⟨rfl, rfl, .inl rfl⟩, ⟨⟨rfl, rfl, .inr (w_cat (x5))⟩, trivial⟩⟩⟩⟩⟩⟩ rfl ?_
  refine kz_goto (M := kt_M62) kX11_branches_c9.2.2.1 (t := 80) rfl ?_
  exact kz_weak [(0, .ref (w_adr E.2.1 10 0)), (1, .int x1), (2, .int x2), (3, .int x3), (4, .int x4), (5, va_rf (x5)), (6, .int (x6 + 1))] ⟨rfl, ⟨rfl, ⟨rfl, ⟨rfl, ⟨rfl, ⟨rfl, ⟨rfl, trivial⟩⟩⟩⟩⟩⟩⟩ rfl h
def zb_X11_branches_p107 (E : zE) (L : Nat) (Q : kx_Rs → wS → Prop) (x1 : Int32) (x2 : Int32) (x3 : Int32) (x4 : Int32) (x5 : Option Nat) (x6 : Int32) (y0 : Int32) (y1 : Option Nat) (y2 : Option Nat) (w : wS) : Prop := (y1 = some (w_adr E.2.1 9 0) ∧ zw E (L - 21) kt_M221 [.ref (w_adr E.2.1 9 0), .int y0] w (wk1 (fun v3 w2 => wle w w2 → zw E (L - 25) kt_M87 [.ref (w_adr E.2.1 10 0), va_rf (y2), .int v3] w2 (wkr (fun v5 w4 => wle w2 w4 → (if x2 = 0 then zb_X11_branches_p136 E L Q x1 x2 x3 x4 x5 x6 v5 w4 else (∃ p6, v5 = some p6 ∧ w_l w4 E.2.1 17 p6 ∧ zw E (L - 23) kt_M128 [.ref (w_adr E.2.1 11 0), .int (w_i w4 17 p6 2), .int 4, .int (x3 + x6)] w4 (wk0 (fun w7 => wle w4 w7 → zb_X11_branches_p136 E L Q x1 x2 x3 x4 x5 x6 v5 w7) (fun e w => Q (.inr e) w))))) (fun e w => Q (.inr e) w))) (fun e w => Q (.inr e) w)))
theorem zt_X11_branches_p107 {E : zE} {L : Nat} {Q : kx_Rs → wS → Prop} {x1 : Int32} {x2 : Int32} {x3 : Int32} {x4 : Int32} {x5 : Option Nat} {x6 : Int32} {y0 : Int32} {y1 : Option Nat} {y2 : Option Nat} {w : wS} (hL : 25 ≤ L) (h : zb_X11_branches_p107 E L Q x1 x2 x3 x4 x5 x6 y0 y1 y2 w) : kzE E L kt_M62 107 [(0, .ref (w_adr E.2.1 10 0)), (1, .int x1), (2, .int x2), (3, .int x3), (4, .int x4), (5, va_rf (x5)), (6, .int x6)] [.int y0, va_rf (y1), va_rf (y2), .ref (w_adr E.2.1 10 0)] w Q := by
  unfold zb_X11_branches_p107 at h
  obtain ⟨hf1, h⟩ := h
  refine kz_nz1 (x := y1) hf1 ?_
  refine kz_cv1 (M := kt_M62) (c := 9) (o := 0) (As := [.int y0]) (rest := [va_rf (y2), .ref (w_adr E.2.1 10 0)]) kX11_branches_c7.1 wl_X11_62 wMv_221 rfl (.inl rfl) rfl (Nat.le_trans (Nat.le_of_ble_eq_true rfl) hL) (Nat.le_of_ble_eq_true rfl) (by simp [kx_cat, w_cat, z_ci, z_cr, z_cl, z_cn]) h (fun v3 w2 hle h => ?_) (fun _ _ _ h => kzx_no rfl h)
  have h := h hle
  refine kz_cvr (M := kt_M62) (c := 10) (o := 0) (As := [va_rf (y2), .int v3]) (rest := []) kX11_branches_c7.2.1 wl_X11_210 wMv_87 rfl (.inl rfl) rfl (Nat.le_trans (Nat.le_of_ble_eq_true rfl) hL) (by simp [lg_sl, w_cat, z_ci, z_cr, z_cl, z_cn, kt_M87]) (Nat.le_of_ble_eq_true rfl) h (fun v5 w4 hle h => ?_) (fun _ _ _ h => kzx_no rfl h)
  have h := h hle
  refine kz_stv (M := kt_M62) (x := v5) [(0, .ref (w_adr E.2.1 10 0)), (1, .int x1), (2, .int x2), (3, .int x3), (4, .int x4), (5, va_rf (x5)), (6, .int x6)] kX11_branches_c7.2.2.1 (Nat.le_of_ble_eq_true rfl) ⟨⟨rfl, rfl, .inl rfl⟩, ⟨⟨rfl, rfl, .inl rfl⟩, ⟨⟨rfl, rfl, .inl rfl⟩, ⟨⟨rfl, rfl, .inl rfl⟩, ⟨⟨rfl, rfl, .inl rfl⟩, ⟨⟨rfl, rfl, .inl rfl⟩, ⟨⟨rfl, rfl, .inr rfl⟩, trivial⟩⟩⟩⟩⟩⟩⟩ rfl ?_
  refine kz_iload_n (M := kt_M62) kX11_branches_c7.2.2.2.1 rfl ?_
  refine kz_if_eq (M := kt_M62) kX11_branches_c7.2.2.2.2.1 (t := 136) rfl h (fun h => ?_) (fun h => ?_)
  · skip
    exact kz_weak [(0, .ref (w_adr E.2.1 10 0)), (1, .int x1), (2, .int x2), (3, .int x3), (4, .int x4), (5, va_rf (x5)), (6, .int x6), (7, va_rf (v5))] ⟨rfl, ⟨rfl, ⟨rfl, ⟨rfl, ⟨rfl, ⟨rfl, ⟨rfl, ⟨rfl, trivial⟩⟩⟩⟩⟩⟩⟩⟩ rfl (zt_X11_branches_p136 hL  h)
  · skip
    refine kz_aload_n (M := kt_M62) kX11_branches_c7.2.2.2.2.2.1 rfl ?_
    refine kz_gfc (M := kt_M62) (x := 44) (c := 10) (o := 0) kX11_branches_c7.2.2.2.2.2.2.1 wf_X11_12 (.inl rfl) ?_
    refine kz_aloadv (M := kt_M62) (x := v5) kX11_branches_c7.2.2.2.2.2.2.2.1 rfl ?_
    obtain ⟨p6, hxp6, hlp6, h⟩ := h
    refine kz_nz0 (x := v5) hxp6 ?_
    refine kz_gfi (M := kt_M62) (c := 17) (o := p6) kX11_branches_c8.1 wf_X11_91 (.inr (by exact hlp6)) ?_
    refine kz_ic (M := kt_M62) 4 kX11_branches_c8.2.1 rfl ?_
    refine kz_iload_n (M := kt_M62) kX11_branches_c8.2.2.1 rfl ?_
    refine kz_iload (M := kt_M62) kX11_branches_c8.2.2.2.1 rfl ?_
    refine kz_iadd (M := kt_M62) kX11_branches_c8.2.2.2.2.1 ?_
    refine kz_cv0 (M := kt_M62) (c := 11) (o := 0) (As := [.int (w_i w4 17 p6 2), .int 4, .int (x3 + x6)]) (rest := []) kX11_branches_c8.2.2.2.2.2.1 wl_X11_94 wMv_128 rfl (.inl rfl) rfl (Nat.le_trans (Nat.le_of_ble_eq_true rfl) hL) (Nat.le_of_ble_eq_true rfl) (Nat.le_of_ble_eq_true rfl) h (fun w7 hle h => ?_) (fun _ _ _ h => kzx_no rfl h)
    have h := h hle
    have hlp6 := w_l_le hlp6 hle
    exact kz_weak [(0, .ref (w_adr E.2.1 10 0)), (1, .int x1), (2, .int x2), (3, .int x3), (4, .int x4), (5, va_rf (x5)), (6, .int x6), (7, va_rf (v5))] ⟨rfl, ⟨rfl, ⟨rfl, ⟨rfl, ⟨rfl, ⟨rfl, ⟨rfl, ⟨rfl, trivial⟩⟩⟩⟩⟩⟩⟩⟩ rfl (zt_X11_branches_p136 hL  h)
def zb_X11_branches_p80 (E : zE) (L : Nat) (Q : kx_Rs → wS → Prop) (x1 : Int32) (x2 : Int32) (x3 : Int32) (x4 : Int32) (x5 : Option Nat) (x6 : Int32) (w : wS) : Prop := (if x1 ≤ x6 then (∃ p1, x5 = some p1 ∧ w_l (ws_p (ws_p w 10 0 23 none) 10 0 21 x5) E.2.1 17 p1 ∧ (if ¬ w_i w 17 p1 5 = 0 then zb_X11_branches_p173 E L Q x5 0 (ws_p (ws_p w 10 0 23 none) 10 0 21 x5) else zb_X11_branches_p173 E L Q x5 1 (ws_p (ws_p w 10 0 23 none) 10 0 21 x5))) else (if x2 = 0 then zb_X11_branches_p107 E L Q x1 x2 x3 x4 x5 x6 (x4 + x6) (w_p w 10 0 2) x5 w else zb_X11_branches_p107 E L Q x1 x2 x3 x4 x5 x6 x4 (w_p w 10 0 2) x5 w))
theorem zt_X11_branches_p80 {E : zE} {L : Nat} {Q : kx_Rs → wS → Prop} {x1 : Int32} {x2 : Int32} {x3 : Int32} {x4 : Int32} {x5 : Option Nat} {x6 : Int32} {w : wS} (hL : 25 ≤ L) (h : zb_X11_branches_p80 E L Q x1 x2 x3 x4 x5 x6 w) : kzE E L kt_M62 80 [(0, .ref (w_adr E.2.1 10 0)), (1, .int x1), (2, .int x2), (3, .int x3), (4, .int x4), (5, va_rf (x5)), (6, .int x6)] [] w Q := by
  unfold zb_X11_branches_p80 at h
  refine kz_iload (M := kt_M62) kX11_branches_c5.2.2.1 rfl ?_
  refine kz_iload_n (M := kt_M62) kX11_branches_c5.2.2.2.1 rfl ?_
  refine kz_icmp_ge (M := kt_M62) kX11_branches_c5.2.2.2.2.1 (t := 148) rfl h (fun h => ?_) (fun h => ?_)
  · skip
    refine kz_aload_n (M := kt_M62) kX11_branches_c9.2.2.2.1 rfl ?_
    refine kz_null (M := kt_M62) kX11_branches_c9.2.2.2.2.1 ?_
    refine kz_pfp (M := kt_M62) (n := none) (c := 10) (o := 0) kX11_branches_c9.2.2.2.2.2.1 wq_X11_151 (.inl rfl) ?_
    refine kz_aload_n (M := kt_M62) kX11_branches_c9.2.2.2.2.2.2.1 rfl ?_
    refine kz_aloadv (M := kt_M62) (x := x5) kX11_branches_c9.2.2.2.2.2.2.2.1 rfl ?_
    refine kz_pfp (M := kt_M62) (n := x5) (c := 10) (o := 0) kX11_branches_c10.1 wq_X11_110 (.inl rfl) ?_
    refine kz_aload_n (M := kt_M62) kX11_branches_c10.2.1 rfl ?_
    refine kz_aloadv (M := kt_M62) (x := x5) kX11_branches_c10.2.2.1 rfl ?_
    obtain ⟨p1, hxp1, hlp1, h⟩ := h
    refine kz_nz0 (x := x5) hxp1 ?_
    refine kz_gfiR (M := kt_M62) (c := 17) (o := p1) (w_i w 17 p1 5) kX11_branches_c10.2.2.2.1 wf_X11_148 (.inr (by exact hlp1)) (rd_i_p.trans rd_i_p) ?_
    refine kz_if_ne (M := kt_M62) kX11_branches_c10.2.2.2.2.1 (t := 172) rfl h (fun h => ?_) (fun h => ?_)
    · skip
      refine kz_ic (M := kt_M62) 0 kX11_branches_c10.2.2.2.2.2.2.2.1 rfl ?_
      exact kz_weak [(0, .ref (w_adr E.2.1 10 0)), (5, va_rf (x5))] ⟨rfl, ⟨rfl, trivial⟩⟩ rfl (zt_X11_branches_p173 hL  h)
    · skip
      refine kz_ic (M := kt_M62) 1 kX11_branches_c10.2.2.2.2.2.1 rfl ?_
      refine kz_goto (M := kt_M62) kX11_branches_c10.2.2.2.2.2.2.1 (t := 173) rfl ?_
      exact kz_weak [(0, .ref (w_adr E.2.1 10 0)), (5, va_rf (x5))] ⟨rfl, ⟨rfl, trivial⟩⟩ rfl (zt_X11_branches_p173 hL  h)
  · skip
    refine kz_aload_n (M := kt_M62) kX11_branches_c5.2.2.2.2.2.1 rfl ?_
    refine kz_aloadv (M := kt_M62) (x := x5) kX11_branches_c5.2.2.2.2.2.2.1 rfl ?_
    refine kz_aload_n (M := kt_M62) kX11_branches_c5.2.2.2.2.2.2.2.1 rfl ?_
    refine kz_gfp (M := kt_M62) (c := 10) (o := 0) kX11_branches_c6.1 wf_X11_55 (.inl rfl) ?_
    refine kz_iload_n (M := kt_M62) kX11_branches_c6.2.1 rfl ?_
    refine kz_if_eq (M := kt_M62) kX11_branches_c6.2.2.1 (t := 102) rfl h (fun h => ?_) (fun h => ?_)
    · skip
      refine kz_iload (M := kt_M62) kX11_branches_c6.2.2.2.2.2.1 rfl ?_
      refine kz_iload (M := kt_M62) kX11_branches_c6.2.2.2.2.2.2.1 rfl ?_
      refine kz_iadd (M := kt_M62) kX11_branches_c6.2.2.2.2.2.2.2.1 ?_
      exact kz_weak [(0, .ref (w_adr E.2.1 10 0)), (1, .int x1), (2, .int x2), (3, .int x3), (4, .int x4), (5, va_rf (x5)), (6, .int x6)] ⟨rfl, ⟨rfl, ⟨rfl, ⟨rfl, ⟨rfl, ⟨rfl, ⟨rfl, trivial⟩⟩⟩⟩⟩⟩⟩ rfl (zt_X11_branches_p107 hL  h)
    · skip
      refine kz_iload (M := kt_M62) kX11_branches_c6.2.2.2.1 rfl ?_
      refine kz_goto (M := kt_M62) kX11_branches_c6.2.2.2.2.1 (t := 107) rfl ?_
      exact kz_weak [(0, .ref (w_adr E.2.1 10 0)), (1, .int x1), (2, .int x2), (3, .int x3), (4, .int x4), (5, va_rf (x5)), (6, .int x6)] ⟨rfl, ⟨rfl, ⟨rfl, ⟨rfl, ⟨rfl, ⟨rfl, ⟨rfl, trivial⟩⟩⟩⟩⟩⟩⟩ rfl (zt_X11_branches_p107 hL  h)
def zb_X11_branches_p20 (E : zE) (L : Nat) (Q : kx_Rs → wS → Prop) (x1 : Int32) (x2 : Int32) (x3 : Int32) (x4 : Int32) (y0 : Int32) (y1 : Int32) (w : wS) : Prop := (if ((w_i w 10 0 4) + x1) ≤ 80 then (if ¬ x1 = 0 then (∃ p1, w_p w 10 0 21 = some p1 ∧ w_l (ws_i w 10 0 25 (y1 + y0)) E.2.1 17 p1 ∧ zw E (L - 20) kt_M102 [.ref (w_adr E.2.1 10 0)] (ws_p (ws_i (ws_i w 10 0 25 (y1 + y0)) 17 p1 5 x1) 17 p1 9 (some (E.1.1 68))) (wk0 (fun w2 => wle (ws_p (ws_i (ws_i w 10 0 25 (y1 + y0)) 17 p1 5 x1) 17 p1 9 (some (E.1.1 68))) w2 → zL_X11_branches_p80 E L Q x1 x2 x3 x4 (w_p w 10 0 21) 0 (ws_p w2 10 0 23 (w_p w 10 0 21))) (fun e w => Q (.inr e) w))) else Q (.inl none) (ws_i w 10 0 25 (y1 + y0))) else zw E (L - 21) kt_M107 [.ref (w_adr E.2.1 10 0), .int 10] (ws_i w 10 0 25 (y1 + y0)) (wk0 (fun w4 => wle (ws_i w 10 0 25 (y1 + y0)) w4 → Q (.inl none) w4) (fun e w => Q (.inr e) w)))
theorem zt_X11_branches_p20 {E : zE} {L : Nat} {Q : kx_Rs → wS → Prop} {x1 : Int32} {x2 : Int32} {x3 : Int32} {x4 : Int32} {y0 : Int32} {y1 : Int32} {w : wS} (hL : 25 ≤ L) (h : zb_X11_branches_p20 E L Q x1 x2 x3 x4 y0 y1 w) : kzE E L kt_M62 20 [(0, .ref (w_adr E.2.1 10 0)), (1, .int x1), (2, .int x2), (3, .int x3), (4, .int x4)] [.int y0, .int y1, .ref (w_adr E.2.1 10 0)] w Q := by
  unfold zb_X11_branches_p20 at h
  refine kz_iadd (M := kt_M62) kX11_branches_c1.2.2.2.1 ?_
  refine kz_pfi (M := kt_M62) (c := 10) (o := 0) kX11_branches_c1.2.2.2.2.1 wq_X11_59 (.inl rfl) ?_
  refine kz_aload_n (M := kt_M62) kX11_branches_c1.2.2.2.2.2.1 rfl ?_
  refine kz_gfiR (M := kt_M62) (c := 10) (o := 0) (w_i w 10 0 4) kX11_branches_c1.2.2.2.2.2.2.1 wf_X11_107 (.inl rfl) (rd_i_i rfl) ?_
  refine kz_iload_n (M := kt_M62) kX11_branches_c1.2.2.2.2.2.2.2.1 rfl ?_
  refine kz_iadd (M := kt_M62) kX11_branches_c2.1 ?_
  refine kz_bi (M := kt_M62) 80 kX11_branches_c2.2.1 rfl ?_
  refine kz_icmp_le (M := kt_M62) kX11_branches_c2.2.2.1 (t := 42) rfl h (fun h => ?_) (fun h => ?_)
  · skip
    refine kz_iload_n (M := kt_M62) kX11_branches_c2.2.2.2.2.2.2.2.1 rfl ?_
    refine kz_if_ne (M := kt_M62) kX11_branches_c3.1 (t := 47) rfl h (fun h => ?_) (fun h => ?_)
    · skip
      refine kz_aload_n (M := kt_M62) kX11_branches_c3.2.2.1 rfl ?_
      refine kz_gfpR (M := kt_M62) (c := 10) (o := 0) (w_p w 10 0 21) kX11_branches_c3.2.2.2.1 wf_X11_110 (.inl rfl) rd_p_i ?_
      refine kz_stv (M := kt_M62) (x := w_p w 10 0 21) [(0, .ref (w_adr E.2.1 10 0)), (1, .int x1), (2, .int x2), (3, .int x3), (4, .int x4)] kX11_branches_c3.2.2.2.2.1 (Nat.le_of_ble_eq_true rfl) ⟨⟨rfl, rfl, .inl rfl⟩, ⟨⟨rfl, rfl, .inl rfl⟩, ⟨⟨rfl, rfl, .inl rfl⟩, ⟨⟨rfl, rfl, .inl rfl⟩, ⟨⟨rfl, rfl, .inr rfl⟩, trivial⟩⟩⟩⟩⟩ rfl ?_
      refine kz_aloadv (M := kt_M62) (x := w_p w 10 0 21) kX11_branches_c3.2.2.2.2.2.1 rfl ?_
      refine kz_iload_n (M := kt_M62) kX11_branches_c3.2.2.2.2.2.2.1 rfl ?_
      obtain ⟨p1, hxp1, hlp1, h⟩ := h
      refine kz_nz1 (x := w_p w 10 0 21) hxp1 ?_
      refine kz_pfi (M := kt_M62) (c := 17) (o := p1) kX11_branches_c3.2.2.2.2.2.2.2.1 wq_X11_148 (.inr (by exact hlp1)) ?_
      refine kz_aloadv (M := kt_M62) (x := w_p w 10 0 21) kX11_branches_c4.1 rfl ?_
      refine kz_getsE (M := kt_M62) (v := va_rf (some (E.1.1 68))) kX11_branches_c4.2.1 zs_X11_422 ?_
      refine kz_nz1 (x := w_p w 10 0 21) hxp1 ?_
      refine kz_pfp (M := kt_M62) (n := some (E.1.1 68)) (c := 17) (o := p1) kX11_branches_c4.2.2.1 wq_X11_125 (.inr (by exact hlp1)) ?_
      refine kz_aload_n (M := kt_M62) kX11_branches_c4.2.2.2.1 rfl ?_
      refine kz_cv0 (M := kt_M62) (c := 10) (o := 0) (As := []) (rest := []) kX11_branches_c4.2.2.2.2.1 wl_X11_138 wMv_102 rfl (.inl rfl) rfl (Nat.le_trans (Nat.le_of_ble_eq_true rfl) hL) (Nat.le_of_ble_eq_true rfl) (Nat.le_of_ble_eq_true rfl) h (fun w2 hle h => ?_) (fun _ _ _ h => kzx_no rfl h)
      have h := h hle
      have hlp1 := w_l_le hlp1 hle
      refine kz_aload_n (M := kt_M62) kX11_branches_c4.2.2.2.2.2.1 rfl ?_
      refine kz_aloadv (M := kt_M62) (x := w_p w 10 0 21) kX11_branches_c4.2.2.2.2.2.2.1 rfl ?_
      refine kz_pfp (M := kt_M62) (n := w_p w 10 0 21) (c := 10) (o := 0) kX11_branches_c4.2.2.2.2.2.2.2.1 wq_X11_151 (.inl rfl) ?_
      refine kz_ic (M := kt_M62) 0 kX11_branches_c5.1 rfl ?_
      refine kz_sti (M := kt_M62) [(0, .ref (w_adr E.2.1 10 0)), (1, .int x1), (2, .int x2), (3, .int x3), (4, .int x4), (5, va_rf (w_p w 10 0 21))] kX11_branches_c5.2.1 (Nat.le_of_ble_eq_true rfl) ⟨⟨rfl, rfl, .inl rfl⟩, ⟨⟨rfl, rfl, .inl rfl⟩, ⟨⟨rfl, rfl, .inl rfl⟩, ⟨⟨rfl, rfl, .inl rfl⟩, ⟨⟨rfl, rfl, .inl rfl⟩, ⟨⟨rfl, rfl, .inr (w_cat (w_p w 10 0 21))⟩, trivial⟩⟩⟩⟩⟩⟩ rfl ?_
      exact kz_weak [(0, .ref (w_adr E.2.1 10 0)), (1, .int x1), (2, .int x2), (3, .int x3), (4, .int x4), (5, va_rf (w_p w 10 0 21)), (6, .int 0)] ⟨rfl, ⟨rfl, ⟨rfl, ⟨rfl, ⟨rfl, ⟨rfl, ⟨rfl, trivial⟩⟩⟩⟩⟩⟩⟩ rfl h
    · skip
      exact kz_ret (M := kt_M62) kX11_branches_c3.2.1 rfl h
  · skip
    refine kz_aload_n (M := kt_M62) kX11_branches_c2.2.2.2.1 rfl ?_
    refine kz_bi (M := kt_M62) 10 kX11_branches_c2.2.2.2.2.1 rfl ?_
    refine kz_cv0 (M := kt_M62) (c := 10) (o := 0) (As := [.int 10]) (rest := []) kX11_branches_c2.2.2.2.2.2.1 wl_X11_295 wMv_107 rfl (.inl rfl) rfl (Nat.le_trans (Nat.le_of_ble_eq_true rfl) hL) (Nat.le_of_ble_eq_true rfl) (Nat.le_of_ble_eq_true rfl) h (fun w4 hle h => ?_) (fun _ _ _ h => kzx_no rfl h)
    have h := h hle
    exact kz_ret (M := kt_M62) kX11_branches_c2.2.2.2.2.2.2.1 rfl h
def zb_X11_branches_p0 (E : zE) (L : Nat) (Q : kx_Rs → wS → Prop) (x1 : Int32) (x2 : Int32) (x3 : Int32) (w : wS) : Prop := (if x2 = 0 then zb_X11_branches_p20 E L Q x1 x2 x3 (w_i w 10 0 25) x1 (w_i w 10 0 25) w else zb_X11_branches_p20 E L Q x1 x2 x3 (w_i w 10 0 25) 1 (w_i w 10 0 25) w)
theorem zt_X11_branches_p0 {E : zE} {L : Nat} {Q : kx_Rs → wS → Prop} {x1 : Int32} {x2 : Int32} {x3 : Int32} {w : wS} (hL : 25 ≤ L) (h : zb_X11_branches_p0 E L Q x1 x2 x3 w) : kzE E L kt_M62 0 [(0, .ref (w_adr E.2.1 10 0)), (1, .int x1), (2, .int x2), (3, .int x3)] [] w Q := by
  unfold zb_X11_branches_p0 at h
  refine kz_aload_n (M := kt_M62) kX11_branches_c0.1 rfl ?_
  refine kz_gfi (M := kt_M62) (c := 10) (o := 0) kX11_branches_c0.2.1 wf_X11_59 (.inl rfl) ?_
  refine kz_sti (M := kt_M62) [(0, .ref (w_adr E.2.1 10 0)), (1, .int x1), (2, .int x2), (3, .int x3)] kX11_branches_c0.2.2.1 (Nat.le_of_ble_eq_true rfl) ⟨⟨rfl, rfl, .inl rfl⟩, ⟨⟨rfl, rfl, .inl rfl⟩, ⟨⟨rfl, rfl, .inl rfl⟩, ⟨⟨rfl, rfl, .inr rfl⟩, trivial⟩⟩⟩⟩ rfl ?_
  refine kz_aload_n (M := kt_M62) kX11_branches_c0.2.2.2.1 rfl ?_
  refine kz_dup (M := kt_M62) kX11_branches_c0.2.2.2.2.1 rfl ?_
  refine kz_gfi (M := kt_M62) (c := 10) (o := 0) kX11_branches_c0.2.2.2.2.2.1 wf_X11_59 (.inl rfl) ?_
  refine kz_iload_n (M := kt_M62) kX11_branches_c0.2.2.2.2.2.2.1 rfl ?_
  refine kz_if_eq (M := kt_M62) kX11_branches_c0.2.2.2.2.2.2.2.1 (t := 19) rfl h (fun h => ?_) (fun h => ?_)
  · skip
    refine kz_iload_n (M := kt_M62) kX11_branches_c1.2.2.1 rfl ?_
    exact kz_weak [(0, .ref (w_adr E.2.1 10 0)), (1, .int x1), (2, .int x2), (3, .int x3), (4, .int (w_i w 10 0 25))] ⟨rfl, ⟨rfl, ⟨rfl, ⟨rfl, ⟨rfl, trivial⟩⟩⟩⟩⟩ rfl (zt_X11_branches_p20 hL  h)
  · skip
    refine kz_ic (M := kt_M62) 1 kX11_branches_c1.1 rfl ?_
    refine kz_goto (M := kt_M62) kX11_branches_c1.2.1 (t := 20) rfl ?_
    exact kz_weak [(0, .ref (w_adr E.2.1 10 0)), (1, .int x1), (2, .int x2), (3, .int x3), (4, .int (w_i w 10 0 25))] ⟨rfl, ⟨rfl, ⟨rfl, ⟨rfl, ⟨rfl, trivial⟩⟩⟩⟩⟩ rfl (zt_X11_branches_p20 hL  h)
def zb_X11_newTask_p90 (E : zE) (L : Nat) (Q : kx_Rs → wS → Prop) (x1 : Option Nat) (x3 : Option Nat) (x4 : Option Nat) (x5 : Int32) (w : wS) : Prop := (∃ p1, x4 = some p1 ∧ w_l (ws_i w 10 0 6 ((w_i w 10 0 6) + 1)) E.2.1 16 p1 ∧ (∃ p2, x3 = some p2 ∧ w_l (ws_i w 10 0 6 ((w_i w 10 0 6) + 1)) E.2.1 17 p2 ∧ zw E (L - 24) kt_M231 [.ref p2, .int (w_i w 10 0 6), va_rf (x1), .int (w_i w 16 p1 3), .int x5] (ws_i w 10 0 6 ((w_i w 10 0 6) + 1)) (wkr (fun v4 w3 => wle (ws_i w 10 0 6 ((w_i w 10 0 6) + 1)) w3 → (kx_inb (w_i w3 10 0 4) (w_n (ws_i w3 10 0 4 ((w_i w3 10 0 4) + 1)) 10 0 3) = true ∧ Q (.inl (some (va_rf (x3)))) (ws_r (ws_i w3 10 0 4 ((w_i w3 10 0 4) + 1)) 10 0 3 (w_i w3 10 0 4).toNatClampNeg (some p2)))) (fun e w => Q (.inr e) w))))
theorem zt_X11_newTask_p90 {E : zE} {L : Nat} {Q : kx_Rs → wS → Prop} {x1 : Option Nat} {x3 : Option Nat} {x4 : Option Nat} {x5 : Int32} {w : wS} (hL : 60 ≤ L) (h : zb_X11_newTask_p90 E L Q x1 x3 x4 x5 w) : kzE E L kt_M87 90 [(0, .ref (w_adr E.2.1 10 0)), (1, va_rf (x1)), (3, va_rf (x3)), (4, va_rf (x4)), (5, .int x5)] [] w Q := by
  unfold zb_X11_newTask_p90 at h
  refine kz_aload_nv (M := kt_M87) (x := x3) kX11_newTask_c5.2.2.2.2.1 rfl ?_
  refine kz_aload_n (M := kt_M87) kX11_newTask_c5.2.2.2.2.2.1 rfl ?_
  refine kz_dup (M := kt_M87) kX11_newTask_c5.2.2.2.2.2.2.1 rfl ?_
  refine kz_gfi (M := kt_M87) (c := 10) (o := 0) kX11_newTask_c5.2.2.2.2.2.2.2.1 wf_X11_98 (.inl rfl) ?_
  refine kz_dup_x1 (M := kt_M87) kX11_newTask_c6.1 ⟨rfl, rfl⟩ ?_
  refine kz_ic (M := kt_M87) 1 kX11_newTask_c6.2.1 rfl ?_
  refine kz_iadd (M := kt_M87) kX11_newTask_c6.2.2.1 ?_
  refine kz_pfi (M := kt_M87) (c := 10) (o := 0) kX11_newTask_c6.2.2.2.1 wq_X11_98 (.inl rfl) ?_
  refine kz_aload_nv (M := kt_M87) (x := x1) kX11_newTask_c6.2.2.2.2.1 rfl ?_
  refine kz_aloadv (M := kt_M87) (x := x4) kX11_newTask_c6.2.2.2.2.2.1 rfl ?_
  obtain ⟨p1, hxp1, hlp1, h⟩ := h
  refine kz_nz0 (x := x4) hxp1 ?_
  refine kz_gfiR (M := kt_M87) (c := 16) (o := p1) (w_i w 16 p1 3) kX11_newTask_c6.2.2.2.2.2.2.1 wf_X11_101 (.inr (by exact hlp1)) (rd_i_i rfl) ?_
  refine kz_iload (M := kt_M87) kX11_newTask_c6.2.2.2.2.2.2.2.1 rfl ?_
  obtain ⟨p2, hxp2, hlp2, h⟩ := h
  refine kz_nz4 (x := x3) hxp2 ?_
  refine kz_cvr (M := kt_M87) (c := 17) (o := p2) (As := [.int (w_i w 10 0 6), va_rf (x1), .int (w_i w 16 p1 3), .int x5]) (rest := []) kX11_newTask_c7.1 wl_X11_103 wMv_231 rfl (.inr (by exact hlp2)) rfl (Nat.le_trans (Nat.le_of_ble_eq_true rfl) hL) (by simp [lg_sl, w_cat, z_ci, z_cr, z_cl, z_cn, kt_M231]) (Nat.le_of_ble_eq_true rfl) h (fun v4 w3 hle h => ?_) (fun _ _ _ h => kzx_no rfl h)
  have h := h hle
  have hlp1 := w_l_le hlp1 hle
  have hlp2 := w_l_le hlp2 hle
  refine kz_pop (M := kt_M87) kX11_newTask_c7.2.1 (w_cat _) ?_
  refine kz_aload_n (M := kt_M87) kX11_newTask_c7.2.2.1 rfl ?_
  refine kz_gfc (M := kt_M87) (x := 3563) (c := 10) (o := 0) kX11_newTask_c7.2.2.2.1 wf_X11_20 (.inl rfl) ?_
  refine kz_aload_n (M := kt_M87) kX11_newTask_c7.2.2.2.2.1 rfl ?_
  refine kz_dup (M := kt_M87) kX11_newTask_c7.2.2.2.2.2.1 rfl ?_
  refine kz_gfi (M := kt_M87) (c := 10) (o := 0) kX11_newTask_c7.2.2.2.2.2.2.1 wf_X11_107 (.inl rfl) ?_
  refine kz_dup_x1 (M := kt_M87) kX11_newTask_c7.2.2.2.2.2.2.2.1 ⟨rfl, rfl⟩ ?_
  refine kz_ic (M := kt_M87) 1 kX11_newTask_c8.1 rfl ?_
  refine kz_iadd (M := kt_M87) kX11_newTask_c8.2.1 ?_
  refine kz_pfi (M := kt_M87) (c := 10) (o := 0) kX11_newTask_c8.2.2.1 wq_X11_107 (.inl rfl) ?_
  refine kz_aload_nv (M := kt_M87) (x := x3) kX11_newTask_c8.2.2.2.1 rfl ?_
  refine kz_nz0 (x := x3) hxp2 ?_
  refine kz_aasto (M := kt_M87) (C1 := "") (τ := 4) (ci := 17) (c := 10) (o := 0) (k := 3) (a := (E.2.1 3563)) (v := p2) kX11_newTask_c8.2.2.2.2.1 ow_10_0_3 oa_10_0_3 rfl rfl rfl (by exact hlp2) h (fun h => ?_)
  refine kz_aload_nv (M := kt_M87) (x := x3) kX11_newTask_c8.2.2.2.2.2.1 rfl ?_
  exact kz_areto (x := x3) (M := kt_M87) kX11_newTask_c8.2.2.2.2.2.2.1 rfl h
def zb_X11_newTask_p41 (E : zE) (L : Nat) (Q : kx_Rs → wS → Prop) (x1 : Option Nat) (x2 : Int32) (x3 : Option Nat) (y0 : Option Nat) (w : wS) : Prop := (kx_inb x2 (w_n w 8 0 2) = true ∧ (∃ p1, w_r w 8 0 2 (x2).toNatClampNeg = some p1 ∧ w_l (ws_p w 10 0 5 y0) E.2.1 16 p1 ∧ zw E (L - 24) kt_M125 [.ref (w_adr E.2.1 11 0), .int (w_i w 16 p1 2), .int ((-1 : Int32) - x2)] (ws_p w 10 0 5 y0) (wk1 (fun v3 w2 => wle (ws_p w 10 0 5 y0) w2 → (if x1 = none then zb_X11_newTask_p90 E L Q x1 x3 (w_r w 8 0 2 (x2).toNatClampNeg) v3 w2 else (∃ p4, x1 = some p4 ∧ w_l w2 E.2.1 17 p4 ∧ zw E (L - 23) kt_M128 [.ref (w_adr E.2.1 11 0), .int v3, .int 0, .int (w_i w2 17 p4 2)] w2 (wk0 (fun w5 => wle w2 w5 → zb_X11_newTask_p90 E L Q x1 x3 (w_r w 8 0 2 (x2).toNatClampNeg) v3 w5) (fun e w => Q (.inr e) w))))) (fun e w => Q (.inr e) w))))
theorem zt_X11_newTask_p41 {E : zE} {L : Nat} {Q : kx_Rs → wS → Prop} {x1 : Option Nat} {x2 : Int32} {x3 : Option Nat} {y0 : Option Nat} {w : wS} (hL : 60 ≤ L) (h : zb_X11_newTask_p41 E L Q x1 x2 x3 y0 w) : kzE E L kt_M87 41 [(0, .ref (w_adr E.2.1 10 0)), (1, va_rf (x1)), (2, .int x2), (3, va_rf (x3))] [va_rf (y0), .ref (w_adr E.2.1 10 0)] w Q := by
  unfold zb_X11_newTask_p41 at h
  refine kz_pfp (M := kt_M87) (n := y0) (c := 10) (o := 0) kX11_newTask_c2.2.2.2.1 wq_X11_68 (.inl rfl) ?_
  refine kz_aload_n (M := kt_M87) kX11_newTask_c2.2.2.2.2.1 rfl ?_
  refine kz_gfc (M := kt_M87) (x := 32) (c := 10) (o := 0) kX11_newTask_c2.2.2.2.2.2.1 wf_X11_41 (.inl rfl) ?_
  refine kz_gfa (M := kt_M87) (c := 8) (o := 0) kX11_newTask_c2.2.2.2.2.2.2.1 wf_X11_76 (.inl rfl) ?_
  refine kz_iload_n (M := kt_M87) kX11_newTask_c2.2.2.2.2.2.2.2.1 rfl ?_
  refine kz_aaldR (M := kt_M87) (τ := 3) (n := w_n w 8 0 2) (c := 8) (o := 0) (k := 2) (a := (w_d (ws_p w 10 0 5 y0) 8 0 2)) (w_r w 8 0 2 (x2).toNatClampNeg) kX11_newTask_c3.1 ow_8_0_2 oa_8_0_2 ot_7 rfl rd_n_p rd_r_p h (fun h => ?_)
  refine kz_stv (M := kt_M87) (x := w_r w 8 0 2 (x2).toNatClampNeg) [(0, .ref (w_adr E.2.1 10 0)), (1, va_rf (x1)), (2, .int x2), (3, va_rf (x3))] kX11_newTask_c3.2.1 (Nat.le_of_ble_eq_true rfl) ⟨⟨rfl, rfl, .inl rfl⟩, ⟨⟨rfl, rfl, .inl rfl⟩, ⟨⟨rfl, rfl, .inl rfl⟩, ⟨⟨rfl, rfl, .inr (w_cat (x3))⟩, trivial⟩⟩⟩⟩ rfl ?_
  refine kz_aload_n (M := kt_M87) kX11_newTask_c3.2.2.1 rfl ?_
  refine kz_gfc (M := kt_M87) (x := 44) (c := 10) (o := 0) kX11_newTask_c3.2.2.2.1 wf_X11_12 (.inl rfl) ?_
  refine kz_aloadv (M := kt_M87) (x := w_r w 8 0 2 (x2).toNatClampNeg) kX11_newTask_c3.2.2.2.2.1 rfl ?_
  obtain ⟨p1, hxp1, hlp1, h⟩ := h
  refine kz_nz0 (x := w_r w 8 0 2 (x2).toNatClampNeg) hxp1 ?_
  refine kz_gfiR (M := kt_M87) (c := 16) (o := p1) (w_i w 16 p1 2) kX11_newTask_c3.2.2.2.2.2.1 wf_X11_82 (.inr (by exact hlp1)) rd_i_p ?_
  refine kz_ic (M := kt_M87) (-1) kX11_newTask_c3.2.2.2.2.2.2.1 rfl ?_
  refine kz_iload_n (M := kt_M87) kX11_newTask_c3.2.2.2.2.2.2.2.1 rfl ?_
  refine kz_isub (M := kt_M87) kX11_newTask_c4.1 ?_
  refine kz_cv1 (M := kt_M87) (c := 11) (o := 0) (As := [.int (w_i w 16 p1 2), .int ((-1 : Int32) - x2)]) (rest := []) kX11_newTask_c4.2.1 wl_X11_87 wMv_125 rfl (.inl rfl) rfl (Nat.le_trans (Nat.le_of_ble_eq_true rfl) hL) (Nat.le_of_ble_eq_true rfl) (Nat.le_of_ble_eq_true rfl) h (fun v3 w2 hle h => ?_) (fun _ _ _ h => kzx_no rfl h)
  have h := h hle
  have hlp1 := w_l_le hlp1 hle
  refine kz_sti (M := kt_M87) [(0, .ref (w_adr E.2.1 10 0)), (1, va_rf (x1)), (3, va_rf (x3)), (4, va_rf (w_r w 8 0 2 (x2).toNatClampNeg))] kX11_newTask_c4.2.2.1 (Nat.le_of_ble_eq_true rfl) ⟨⟨rfl, rfl, .inl rfl⟩, ⟨⟨rfl, rfl, .inl rfl⟩, ⟨⟨rfl, rfl, .inl rfl⟩, ⟨⟨rfl, rfl, .inr (w_cat (w_r w 8 0 2 (x2).toNatClampNeg))⟩, trivial⟩⟩⟩⟩ rfl ?_
  refine kz_aload_nv (M := kt_M87) (x := x1) kX11_newTask_c4.2.2.2.1 rfl ?_
  refine kz_ifnull (M := kt_M87) (x := x1) kX11_newTask_c4.2.2.2.2.1 (t := 90) rfl h (fun h => ?_) (fun h => ?_)
  · skip
    exact kz_weak [(0, .ref (w_adr E.2.1 10 0)), (1, va_rf (x1)), (3, va_rf (x3)), (4, va_rf (w_r w 8 0 2 (x2).toNatClampNeg)), (5, .int v3)] ⟨rfl, ⟨rfl, ⟨rfl, ⟨rfl, ⟨rfl, trivial⟩⟩⟩⟩⟩ rfl (zt_X11_newTask_p90 hL  h)
  · skip
    refine kz_aload_n (M := kt_M87) kX11_newTask_c4.2.2.2.2.2.1 rfl ?_
    refine kz_gfc (M := kt_M87) (x := 44) (c := 10) (o := 0) kX11_newTask_c4.2.2.2.2.2.2.1 wf_X11_12 (.inl rfl) ?_
    refine kz_iload (M := kt_M87) kX11_newTask_c4.2.2.2.2.2.2.2.1 rfl ?_
    refine kz_ic (M := kt_M87) 0 kX11_newTask_c5.1 rfl ?_
    refine kz_aload_nv (M := kt_M87) (x := x1) kX11_newTask_c5.2.1 rfl ?_
    obtain ⟨p4, hxp4, hlp4, h⟩ := h
    refine kz_nz0 (x := x1) hxp4 ?_
    refine kz_gfi (M := kt_M87) (c := 17) (o := p4) kX11_newTask_c5.2.2.1 wf_X11_91 (.inr (by exact hlp4)) ?_
    refine kz_cv0 (M := kt_M87) (c := 11) (o := 0) (As := [.int v3, .int 0, .int (w_i w2 17 p4 2)]) (rest := []) kX11_newTask_c5.2.2.2.1 wl_X11_94 wMv_128 rfl (.inl rfl) rfl (Nat.le_trans (Nat.le_of_ble_eq_true rfl) hL) (Nat.le_of_ble_eq_true rfl) (Nat.le_of_ble_eq_true rfl) h (fun w5 hle h => ?_) (fun _ _ _ h => kzx_no rfl h)
    have h := h hle
    have hlp1 := w_l_le hlp1 hle
    have hlp4 := w_l_le hlp4 hle
    exact kz_weak [(0, .ref (w_adr E.2.1 10 0)), (1, va_rf (x1)), (3, va_rf (x3)), (4, va_rf (w_r w 8 0 2 (x2).toNatClampNeg)), (5, .int v3)] ⟨rfl, ⟨rfl, ⟨rfl, ⟨rfl, ⟨rfl, trivial⟩⟩⟩⟩⟩ rfl (zt_X11_newTask_p90 hL  h)
def zb_X11_newTask_p21 (E : zE) (L : Nat) (Q : kx_Rs → wS → Prop) (x1 : Option Nat) (x2 : Int32) (y0 : Option Nat) (w : wS) : Prop := (if ¬ (w_p w 10 0 5) = none then (∃ p1, w_p w 10 0 5 = some p1 ∧ w_l w E.2.1 17 p1 ∧ zb_X11_newTask_p41 E L Q x1 x2 y0 (w_p w 17 p1 11) w) else zb_X11_newTask_p41 E L Q x1 x2 y0 none w)
theorem zt_X11_newTask_p21 {E : zE} {L : Nat} {Q : kx_Rs → wS → Prop} {x1 : Option Nat} {x2 : Int32} {y0 : Option Nat} {w : wS} (hL : 60 ≤ L) (h : zb_X11_newTask_p21 E L Q x1 x2 y0 w) : kzE E L kt_M87 21 [(0, .ref (w_adr E.2.1 10 0)), (1, va_rf (x1)), (2, .int x2)] [va_rf (y0)] w Q := by
  unfold zb_X11_newTask_p21 at h
  refine kz_stv_n (M := kt_M87) (x := y0) [(0, .ref (w_adr E.2.1 10 0)), (1, va_rf (x1)), (2, .int x2)] kX11_newTask_c1.2.1 (Nat.le_of_ble_eq_true rfl) ⟨⟨rfl, rfl, .inl rfl⟩, ⟨⟨rfl, rfl, .inl rfl⟩, ⟨⟨rfl, rfl, .inr rfl⟩, trivial⟩⟩⟩ rfl ?_
  refine kz_aload_n (M := kt_M87) kX11_newTask_c1.2.2.1 rfl ?_
  refine kz_aload_n (M := kt_M87) kX11_newTask_c1.2.2.2.1 rfl ?_
  refine kz_gfp (M := kt_M87) (c := 10) (o := 0) kX11_newTask_c1.2.2.2.2.1 wf_X11_68 (.inl rfl) ?_
  refine kz_ifnonnull (M := kt_M87) (x := w_p w 10 0 5) kX11_newTask_c1.2.2.2.2.2.1 (t := 34) rfl h (fun h => ?_) (fun h => ?_)
  · skip
    refine kz_aload_n (M := kt_M87) kX11_newTask_c2.1 rfl ?_
    refine kz_gfp (M := kt_M87) (c := 10) (o := 0) kX11_newTask_c2.2.1 wf_X11_68 (.inl rfl) ?_
    obtain ⟨p1, hxp1, hlp1, h⟩ := h
    refine kz_nz0 (x := w_p w 10 0 5) hxp1 ?_
    refine kz_gfp (M := kt_M87) (c := 17) (o := p1) kX11_newTask_c2.2.2.1 wf_X11_73 (.inr (by exact hlp1)) ?_
    exact kz_weak [(0, .ref (w_adr E.2.1 10 0)), (1, va_rf (x1)), (2, .int x2), (3, va_rf (y0))] ⟨rfl, ⟨rfl, ⟨rfl, ⟨rfl, trivial⟩⟩⟩⟩ rfl (zt_X11_newTask_p41 hL  h)
  · skip
    refine kz_null (M := kt_M87) kX11_newTask_c1.2.2.2.2.2.2.1 ?_
    refine kz_goto (M := kt_M87) kX11_newTask_c1.2.2.2.2.2.2.2.1 (t := 41) rfl ?_
    exact kz_weak [(0, .ref (w_adr E.2.1 10 0)), (1, va_rf (x1)), (2, .int x2), (3, va_rf (y0))] ⟨rfl, ⟨rfl, ⟨rfl, ⟨rfl, trivial⟩⟩⟩⟩ rfl (zt_X11_newTask_p41 hL  h)
def zb_X11_newTask_p0 (E : zE) (L : Nat) (Q : kx_Rs → wS → Prop) (x1 : Option Nat) (x2 : Int32) (w : wS) : Prop := (if ¬ (w_p w 10 0 5) = none then zb_X11_newTask_p21 E L Q x1 x2 (w_p w 10 0 5) w else ((4 ≤ w_C w ∧ 34 ≤ w_S w) ∧ zb_X11_newTask_p21 E L Q x1 x2 (some (w_z w)) (ws_task w)))
theorem zt_X11_newTask_p0 {E : zE} {L : Nat} {Q : kx_Rs → wS → Prop} {x1 : Option Nat} {x2 : Int32} {w : wS} (hL : 60 ≤ L) (h : zb_X11_newTask_p0 E L Q x1 x2 w) : kzE E L kt_M87 0 [(0, .ref (w_adr E.2.1 10 0)), (1, va_rf (x1)), (2, .int x2)] [] w Q := by
  unfold zb_X11_newTask_p0 at h
  refine kz_aload_n (M := kt_M87) kX11_newTask_c0.1 rfl ?_
  refine kz_gfp (M := kt_M87) (c := 10) (o := 0) kX11_newTask_c0.2.1 wf_X11_68 (.inl rfl) ?_
  refine kz_ifnonnull (M := kt_M87) (x := w_p w 10 0 5) kX11_newTask_c0.2.2.1 (t := 17) rfl h (fun h => ?_) (fun h => ?_)
  · skip
    refine kz_aload_n (M := kt_M87) kX11_newTask_c0.2.2.2.2.2.2.2.1 rfl ?_
    refine kz_gfp (M := kt_M87) (c := 10) (o := 0) kX11_newTask_c1.1 wf_X11_68 (.inl rfl) ?_
    exact kz_weak [(0, .ref (w_adr E.2.1 10 0)), (1, va_rf (x1)), (2, .int x2)] ⟨rfl, ⟨rfl, ⟨rfl, trivial⟩⟩⟩ rfl (zt_X11_newTask_p21 hL  h)
  · skip
    refine kz_newt (M := kt_M87) kX11_newTask_c0.2.2.2.1 kX11_newTask_c0.2.2.2.2.1 kX11_newTask_c0.2.2.2.2.2.1 zkl_X11_18 wli_X11_72 (Nat.le_trans (Nat.le_of_ble_eq_true rfl) hL) (Nat.le_of_ble_eq_true rfl) h (fun h => ?_)
    refine kz_goto (M := kt_M87) kX11_newTask_c0.2.2.2.2.2.2.1 (t := 21) rfl ?_
    exact kz_weak [(0, .ref (w_adr E.2.1 10 0)), (1, va_rf (x1)), (2, .int x2)] ⟨rfl, ⟨rfl, ⟨rfl, trivial⟩⟩⟩ rfl (zt_X11_newTask_p21 hL  h)
def zL_X11_end_p51 (E : zE) (L : Nat) (Q : kx_Rs → wS → Prop) (x1 : Int32) (w : wS) : Prop := kzE E L kt_M71 51 [(0, .ref (w_adr E.2.1 10 0)), (1, .int x1)] [] w Q
def zL_X11_end_p22 (E : zE) (L : Nat) (Q : kx_Rs → wS → Prop) (x1 : Int32) (w : wS) : Prop := kzE E L kt_M71 22 [(0, .ref (w_adr E.2.1 10 0)), (1, .int x1)] [] w Q
def zb_X11_end_p141 (E : zE) (L : Nat) (Q : kx_Rs → wS → Prop) (w : wS) : Prop := Q (.inl none) w
theorem zt_X11_end_p141 {E : zE} {L : Nat} {Q : kx_Rs → wS → Prop} {w : wS} (hL : 22 ≤ L) (h : zb_X11_end_p141 E L Q  w) : kzE E L kt_M71 141 [(0, .ref (w_adr E.2.1 10 0))] [] w Q := by
  unfold zb_X11_end_p141 at h
  exact kz_ret (M := kt_M71) kX11_end_c9.2.2.2.1 rfl h
def zb_X11_end_p51 (E : zE) (L : Nat) (Q : kx_Rs → wS → Prop) (x1 : Int32) (w : wS) : Prop := (if w_i w 10 0 4 ≤ x1 then (∃ p1, w_p w 10 0 21 = some p1 ∧ w_l w E.2.1 17 p1 ∧ (if ¬ (w_p w 17 p1 10) = none then (∃ p2, w_p w 17 p1 10 = some p2 ∧ w_l (ws_i (ws_p (ws_p w 17 p1 11 (w_p w 10 0 5)) 10 0 5 (w_p w 10 0 21)) 10 0 31 0) E.2.1 17 p2 ∧ (if 0 < ((w_i w 17 p2 5) - 1) then zb_X11_end_p141 E L Q (ws_i (ws_i (ws_p (ws_p w 17 p1 11 (w_p w 10 0 5)) 10 0 5 (w_p w 10 0 21)) 10 0 31 0) 17 p2 5 ((w_i w 17 p2 5) - 1)) else (if ¬ w_p w 17 p1 10 = w_p w 10 0 23 then zw E (L - 21) kt_M81 [.ref (w_adr E.2.1 10 0), va_rf (w_p w 17 p1 10)] (ws_p (ws_i (ws_i (ws_p (ws_p w 17 p1 11 (w_p w 10 0 5)) 10 0 5 (w_p w 10 0 21)) 10 0 31 0) 17 p2 5 ((w_i w 17 p2 5) - 1)) 17 p2 9 (some (E.1.1 61))) (wk0 (fun w3 => wle (ws_p (ws_i (ws_i (ws_p (ws_p w 17 p1 11 (w_p w 10 0 5)) 10 0 5 (w_p w 10 0 21)) 10 0 31 0) 17 p2 5 ((w_i w 17 p2 5) - 1)) 17 p2 9 (some (E.1.1 61))) w3 → Q (.inl none) w3) (fun e w => Q (.inr e) w)) else zb_X11_end_p141 E L Q (ws_i (ws_i (ws_p (ws_p w 17 p1 11 (w_p w 10 0 5)) 10 0 5 (w_p w 10 0 21)) 10 0 31 0) 17 p2 5 ((w_i w 17 p2 5) - 1))))) else Q (.inl none) (ws_i (ws_p (ws_p w 17 p1 11 (w_p w 10 0 5)) 10 0 5 (w_p w 10 0 21)) 10 0 31 0))) else (kx_inb (x1 + 1) (w_n w 10 0 3) = true ∧ (∃ p5, w_r w 10 0 3 ((x1 + 1)).toNatClampNeg = some p5 ∧ w_l w E.2.1 17 p5 ∧ (kx_inb x1 (w_n w 10 0 3) = true ∧ zL_X11_end_p51 E L Q (x1 + 1) (ws_r w 10 0 3 (x1).toNatClampNeg (some p5))))))
theorem zt_X11_end_p51 {E : zE} {L : Nat} {Q : kx_Rs → wS → Prop} {x1 : Int32} {w : wS} (hL : 22 ≤ L) (h : zb_X11_end_p51 E L Q x1 w) : kzE E L kt_M71 51 [(0, .ref (w_adr E.2.1 10 0)), (1, .int x1)] [] w Q := by
  unfold zb_X11_end_p51 at h
  refine kz_iload_n (M := kt_M71) kX11_end_c3.2.2.2.1 rfl ?_
  refine kz_aload_n (M := kt_M71) kX11_end_c3.2.2.2.2.1 rfl ?_
  refine kz_gfi (M := kt_M71) (c := 10) (o := 0) kX11_end_c3.2.2.2.2.2.1 wf_X11_107 (.inl rfl) ?_
  refine kz_icmp_ge (M := kt_M71) kX11_end_c3.2.2.2.2.2.2.1 (t := 79) rfl h (fun h => ?_) (fun h => ?_)
  · skip
    refine kz_aload_n (M := kt_M71) kX11_end_c5.2.2.2.1 rfl ?_
    refine kz_gfp (M := kt_M71) (c := 10) (o := 0) kX11_end_c5.2.2.2.2.1 wf_X11_110 (.inl rfl) ?_
    obtain ⟨p1, hxp1, hlp1, h⟩ := h
    refine kz_nz0 (x := w_p w 10 0 21) hxp1 ?_
    refine kz_gfp (M := kt_M71) (c := 17) (o := p1) kX11_end_c5.2.2.2.2.2.1 wf_X11_145 (.inr (by exact hlp1)) ?_
    refine kz_stv_n (M := kt_M71) (x := w_p w 17 p1 10) [(0, .ref (w_adr E.2.1 10 0))] kX11_end_c5.2.2.2.2.2.2.1 (Nat.le_of_ble_eq_true rfl) ⟨⟨rfl, rfl, .inl rfl⟩, trivial⟩ rfl ?_
    refine kz_aload_n (M := kt_M71) kX11_end_c5.2.2.2.2.2.2.2.1 rfl ?_
    refine kz_gfp (M := kt_M71) (c := 10) (o := 0) kX11_end_c6.1 wf_X11_110 (.inl rfl) ?_
    refine kz_aload_n (M := kt_M71) kX11_end_c6.2.1 rfl ?_
    refine kz_gfp (M := kt_M71) (c := 10) (o := 0) kX11_end_c6.2.2.1 wf_X11_68 (.inl rfl) ?_
    refine kz_nz1 (x := w_p w 10 0 21) hxp1 ?_
    refine kz_pfp (M := kt_M71) (n := w_p w 10 0 5) (c := 17) (o := p1) kX11_end_c6.2.2.2.1 wq_X11_73 (.inr (by exact hlp1)) ?_
    refine kz_aload_n (M := kt_M71) kX11_end_c6.2.2.2.2.1 rfl ?_
    refine kz_aload_n (M := kt_M71) kX11_end_c6.2.2.2.2.2.1 rfl ?_
    refine kz_gfpR (M := kt_M71) (c := 10) (o := 0) (w_p w 10 0 21) kX11_end_c6.2.2.2.2.2.2.1 wf_X11_110 (.inl rfl) (rd_p_p rfl) ?_
    refine kz_pfp (M := kt_M71) (n := w_p w 10 0 21) (c := 10) (o := 0) kX11_end_c6.2.2.2.2.2.2.2.1 wq_X11_68 (.inl rfl) ?_
    refine kz_aload_n (M := kt_M71) kX11_end_c7.1 rfl ?_
    refine kz_ic (M := kt_M71) 0 kX11_end_c7.2.1 rfl ?_
    refine kz_pfz (M := kt_M71) (c := 10) (o := 0) kX11_end_c7.2.2.1 wq_X11_115 (.inl rfl) (by decide) ?_
    refine kz_aload_nv (M := kt_M71) (x := w_p w 17 p1 10) kX11_end_c7.2.2.2.1 rfl ?_
    refine kz_ifnonnull (M := kt_M71) (x := w_p w 17 p1 10) kX11_end_c7.2.2.2.2.1 (t := 116) rfl h (fun h => ?_) (fun h => ?_)
    · skip
      refine kz_aload_nv (M := kt_M71) (x := w_p w 17 p1 10) kX11_end_c7.2.2.2.2.2.2.1 rfl ?_
      refine kz_dup (M := kt_M71) kX11_end_c7.2.2.2.2.2.2.2.1 (w_cat _) ?_
      obtain ⟨p2, hxp2, hlp2, h⟩ := h
      refine kz_nz0 (x := w_p w 17 p1 10) hxp2 ?_
      refine kz_gfiR (M := kt_M71) (c := 17) (o := p2) (w_i w 17 p2 5) kX11_end_c8.1 wf_X11_148 (.inr (by exact hlp2)) ((rd_i_i rfl).trans (rd_i_p.trans rd_i_p)) ?_
      refine kz_ic (M := kt_M71) 1 kX11_end_c8.2.1 rfl ?_
      refine kz_isub (M := kt_M71) kX11_end_c8.2.2.1 ?_
      refine kz_nz1 (x := w_p w 17 p1 10) hxp2 ?_
      refine kz_pfi (M := kt_M71) (c := 17) (o := p2) kX11_end_c8.2.2.2.1 wq_X11_148 (.inr (by exact hlp2)) ?_
      refine kz_aload_nv (M := kt_M71) (x := w_p w 17 p1 10) kX11_end_c8.2.2.2.2.1 rfl ?_
      refine kz_nz0 (x := w_p w 17 p1 10) hxp2 ?_
      refine kz_gfiR (M := kt_M71) (c := 17) (o := p2) ((w_i w 17 p2 5) - 1) kX11_end_c8.2.2.2.2.2.1 wf_X11_148 (.inr (by exact hlp2)) rd_i_e ?_
      refine kz_if_gt (M := kt_M71) kX11_end_c8.2.2.2.2.2.2.1 (t := 141) rfl h (fun h => ?_) (fun h => ?_)
      · skip
        exact kz_weak [(0, .ref (w_adr E.2.1 10 0))] ⟨rfl, trivial⟩ rfl (zt_X11_end_p141 hL  h)
      · skip
        refine kz_aload_nv (M := kt_M71) (x := w_p w 17 p1 10) kX11_end_c8.2.2.2.2.2.2.2.1 rfl ?_
        refine kz_aload_n (M := kt_M71) kX11_end_c9.1 rfl ?_
        refine kz_gfpR (M := kt_M71) (c := 10) (o := 0) (w_p w 10 0 23) kX11_end_c9.2.1 wf_X11_151 (.inl rfl) (rd_p_i.trans (rd_p_i.trans ((rd_p_p rfl).trans (rd_p_p rfl)))) ?_
        refine kz_acmp_ne (M := kt_M71) (x := w_p w 17 p1 10) (y := w_p w 10 0 23) kX11_end_c9.2.2.1 (t := 142) rfl h (fun h => ?_) (fun h => ?_)
        · skip
          refine kz_aload_nv (M := kt_M71) (x := w_p w 17 p1 10) kX11_end_c9.2.2.2.2.1 rfl ?_
          refine kz_getsE (M := kt_M71) (v := va_rf (some (E.1.1 61))) kX11_end_c9.2.2.2.2.2.1 zs_X11_154 ?_
          refine kz_nz1 (x := w_p w 17 p1 10) hxp2 ?_
          refine kz_pfp (M := kt_M71) (n := some (E.1.1 61)) (c := 17) (o := p2) kX11_end_c9.2.2.2.2.2.2.1 wq_X11_125 (.inr (by exact hlp2)) ?_
          refine kz_aload_n (M := kt_M71) kX11_end_c9.2.2.2.2.2.2.2.1 rfl ?_
          refine kz_aload_nv (M := kt_M71) (x := w_p w 17 p1 10) kX11_end_c10.1 rfl ?_
          refine kz_cv0 (M := kt_M71) (c := 10) (o := 0) (As := [va_rf (w_p w 17 p1 10)]) (rest := []) kX11_end_c10.2.1 wl_X11_157 wMv_81 rfl (.inl rfl) rfl (Nat.le_trans (Nat.le_of_ble_eq_true rfl) hL) (by simp [lg_sl, w_cat, z_ci, z_cr, z_cl, z_cn, kt_M81]) (Nat.le_of_ble_eq_true rfl) h (fun w3 hle h => ?_) (fun _ _ _ h => kzx_no rfl h)
          have h := h hle
          have hlp1 := w_l_le hlp1 hle
          have hlp2 := w_l_le hlp2 hle
          exact kz_ret (M := kt_M71) kX11_end_c10.2.2.1 rfl h
        · skip
          exact kz_weak [(0, .ref (w_adr E.2.1 10 0))] ⟨rfl, trivial⟩ rfl (zt_X11_end_p141 hL  h)
    · skip
      exact kz_ret (M := kt_M71) kX11_end_c7.2.2.2.2.2.1 rfl h
  · skip
    refine kz_aload_n (M := kt_M71) kX11_end_c3.2.2.2.2.2.2.2.1 rfl ?_
    refine kz_gfc (M := kt_M71) (x := 3563) (c := 10) (o := 0) kX11_end_c4.1 wf_X11_20 (.inl rfl) ?_
    refine kz_iload_n (M := kt_M71) kX11_end_c4.2.1 rfl ?_
    refine kz_aload_n (M := kt_M71) kX11_end_c4.2.2.1 rfl ?_
    refine kz_gfc (M := kt_M71) (x := 3563) (c := 10) (o := 0) kX11_end_c4.2.2.2.1 wf_X11_20 (.inl rfl) ?_
    refine kz_iload_n (M := kt_M71) kX11_end_c4.2.2.2.2.1 rfl ?_
    refine kz_ic (M := kt_M71) 1 kX11_end_c4.2.2.2.2.2.1 rfl ?_
    refine kz_iadd (M := kt_M71) kX11_end_c4.2.2.2.2.2.2.1 ?_
    refine kz_aald (M := kt_M71) (τ := 4) (c := 10) (o := 0) (k := 3) (a := (E.2.1 3563)) kX11_end_c4.2.2.2.2.2.2.2.1 ow_10_0_3 oa_10_0_3 ot_8 rfl h (fun h => ?_)
    obtain ⟨p5, hxp5, hlp5, h⟩ := h
    refine kz_nz0 (x := w_r w 10 0 3 ((x1 + 1)).toNatClampNeg) hxp5 ?_
    refine kz_aasto (M := kt_M71) (C1 := "") (τ := 4) (ci := 17) (c := 10) (o := 0) (k := 3) (a := (E.2.1 3563)) (v := p5) kX11_end_c5.1 ow_10_0_3 oa_10_0_3 rfl rfl rfl (by exact hlp5) h (fun h => ?_)
    refine kz_inc (M := kt_M71) [(0, .ref (w_adr E.2.1 10 0))] kX11_end_c5.2.1 rfl (Nat.le_of_ble_eq_true rfl) ⟨⟨rfl, rfl, .inr rfl⟩, trivial⟩ rfl ?_
    refine kz_goto (M := kt_M71) kX11_end_c5.2.2.1 (t := 51) rfl ?_
    exact kz_weak [(0, .ref (w_adr E.2.1 10 0)), (1, .int (x1 + 1))] ⟨rfl, ⟨rfl, trivial⟩⟩ rfl h
def zb_X11_end_p22 (E : zE) (L : Nat) (Q : kx_Rs → wS → Prop) (x1 : Int32) (w : wS) : Prop := (kx_inb x1 (w_n w 10 0 3) = true ∧ (if w_r w 10 0 3 (x1).toNatClampNeg = w_p w 10 0 21 then zL_X11_end_p51 E L Q x1 (ws_i w 10 0 4 ((w_i w 10 0 4) - 1)) else zL_X11_end_p22 E L Q (x1 + 1) w))
theorem zt_X11_end_p22 {E : zE} {L : Nat} {Q : kx_Rs → wS → Prop} {x1 : Int32} {w : wS} (hL : 22 ≤ L) (h : zb_X11_end_p22 E L Q x1 w) : kzE E L kt_M71 22 [(0, .ref (w_adr E.2.1 10 0)), (1, .int x1)] [] w Q := by
  unfold zb_X11_end_p22 at h
  refine kz_aload_n (M := kt_M71) kX11_end_c1.2.2.2.2.1 rfl ?_
  refine kz_gfc (M := kt_M71) (x := 3563) (c := 10) (o := 0) kX11_end_c1.2.2.2.2.2.1 wf_X11_20 (.inl rfl) ?_
  refine kz_iload_n (M := kt_M71) kX11_end_c1.2.2.2.2.2.2.1 rfl ?_
  refine kz_aald (M := kt_M71) (τ := 4) (c := 10) (o := 0) (k := 3) (a := (E.2.1 3563)) kX11_end_c1.2.2.2.2.2.2.2.1 ow_10_0_3 oa_10_0_3 ot_8 rfl h (fun h => ?_)
  refine kz_aload_n (M := kt_M71) kX11_end_c2.1 rfl ?_
  refine kz_gfp (M := kt_M71) (c := 10) (o := 0) kX11_end_c2.2.1 wf_X11_110 (.inl rfl) ?_
  refine kz_acmp_eq (M := kt_M71) (x := w_r w 10 0 3 (x1).toNatClampNeg) (y := w_p w 10 0 21) kX11_end_c2.2.2.1 (t := 41) rfl h (fun h => ?_) (fun h => ?_)
  · skip
    refine kz_aload_n (M := kt_M71) kX11_end_c2.2.2.2.2.2.1 rfl ?_
    refine kz_dup (M := kt_M71) kX11_end_c2.2.2.2.2.2.2.1 rfl ?_
    refine kz_gfi (M := kt_M71) (c := 10) (o := 0) kX11_end_c2.2.2.2.2.2.2.2.1 wf_X11_107 (.inl rfl) ?_
    refine kz_ic (M := kt_M71) 1 kX11_end_c3.1 rfl ?_
    refine kz_isub (M := kt_M71) kX11_end_c3.2.1 ?_
    refine kz_pfi (M := kt_M71) (c := 10) (o := 0) kX11_end_c3.2.2.1 wq_X11_107 (.inl rfl) ?_
    exact kz_weak [(0, .ref (w_adr E.2.1 10 0)), (1, .int x1)] ⟨rfl, ⟨rfl, trivial⟩⟩ rfl h
  · skip
    refine kz_inc (M := kt_M71) [(0, .ref (w_adr E.2.1 10 0))] kX11_end_c2.2.2.2.1 rfl (Nat.le_of_ble_eq_true rfl) ⟨⟨rfl, rfl, .inr rfl⟩, trivial⟩ rfl ?_
    refine kz_goto (M := kt_M71) kX11_end_c2.2.2.2.2.1 (t := 22) rfl ?_
    exact kz_weak [(0, .ref (w_adr E.2.1 10 0)), (1, .int (x1 + 1))] ⟨rfl, ⟨rfl, trivial⟩⟩ rfl h
def zb_X11_end_p0 (E : zE) (L : Nat) (Q : kx_Rs → wS → Prop) (w : wS) : Prop := zw E (L - 22) kt_M70 [.ref (w_adr E.2.1 10 0), va_rf (w_p w 10 0 21), .int 0] w (wk0 (fun w1 => wle w w1 → zw E (L - 21) kt_M122 [.ref (w_adr E.2.1 11 0), .int (w_i w1 10 0 26)] w1 (wk0 (fun w3 => wle w1 w3 → zL_X11_end_p22 E L Q 0 w3) (fun e w => Q (.inr e) w))) (fun e w => Q (.inr e) w))
theorem zt_X11_end_p0 {E : zE} {L : Nat} {Q : kx_Rs → wS → Prop} {w : wS} (hL : 22 ≤ L) (h : zb_X11_end_p0 E L Q  w) : kzE E L kt_M71 0 [(0, .ref (w_adr E.2.1 10 0))] [] w Q := by
  unfold zb_X11_end_p0 at h
  refine kz_aload_n (M := kt_M71) kX11_end_c0.1 rfl ?_
  refine kz_aload_n (M := kt_M71) kX11_end_c0.2.1 rfl ?_
  refine kz_gfp (M := kt_M71) (c := 10) (o := 0) kX11_end_c0.2.2.1 wf_X11_110 (.inl rfl) ?_
  refine kz_ic (M := kt_M71) 0 kX11_end_c0.2.2.2.1 rfl ?_
  refine kz_cv0 (M := kt_M71) (c := 10) (o := 0) (As := [va_rf (w_p w 10 0 21), .int 0]) (rest := []) kX11_end_c0.2.2.2.2.1 wl_X11_131 wMv_70 rfl (.inl rfl) rfl (Nat.le_trans (Nat.le_of_ble_eq_true rfl) hL) (by simp [lg_sl, w_cat, z_ci, z_cr, z_cl, z_cn, kt_M70]) (Nat.le_of_ble_eq_true rfl) h (fun w1 hle h => ?_) (fun _ _ _ h => kzx_no rfl h)
  have h := h hle
  refine kz_aload_n (M := kt_M71) kX11_end_c0.2.2.2.2.2.1 rfl ?_
  refine kz_gfc (M := kt_M71) (x := 44) (c := 10) (o := 0) kX11_end_c0.2.2.2.2.2.2.1 wf_X11_12 (.inl rfl) ?_
  refine kz_aload_n (M := kt_M71) kX11_end_c0.2.2.2.2.2.2.2.1 rfl ?_
  refine kz_gfi (M := kt_M71) (c := 10) (o := 0) kX11_end_c1.1 wf_X11_114 (.inl rfl) ?_
  refine kz_cv0 (M := kt_M71) (c := 11) (o := 0) (As := [.int (w_i w1 10 0 26)]) (rest := []) kX11_end_c1.2.1 wl_X11_141 wMv_122 rfl (.inl rfl) rfl (Nat.le_trans (Nat.le_of_ble_eq_true rfl) hL) (Nat.le_of_ble_eq_true rfl) (Nat.le_of_ble_eq_true rfl) h (fun w3 hle h => ?_) (fun _ _ _ h => kzx_no rfl h)
  have h := h hle
  refine kz_ic (M := kt_M71) 0 kX11_end_c1.2.2.1 rfl ?_
  refine kz_sti_n (M := kt_M71) [(0, .ref (w_adr E.2.1 10 0))] kX11_end_c1.2.2.2.1 (Nat.le_of_ble_eq_true rfl) ⟨⟨rfl, rfl, .inr rfl⟩, trivial⟩ rfl ?_
  exact kz_weak [(0, .ref (w_adr E.2.1 10 0)), (1, .int 0)] ⟨rfl, ⟨rfl, trivial⟩⟩ rfl h
def zL_X11_process_p11 (E : zE) (L : Nat) (Q : kx_Rs → wS → Prop) (x1 : Int32) (x2 : Int32) (x3 : Int32) (w : wS) : Prop := kzE E L kt_M96 11 [(0, .ref (w_adr E.2.1 10 0)), (1, .int x1), (2, .int x2), (3, .int x3)] [] w Q
def zb_X11_process_p269 (E : zE) (L : Nat) (Q : kx_Rs → wS → Prop) (y0 : Int32) (w : wS) : Prop := Q (.inl (some (.int y0))) w
theorem zt_X11_process_p269 {E : zE} {L : Nat} {Q : kx_Rs → wS → Prop} {y0 : Int32} {w : wS} (hL : 25 ≤ L) (h : zb_X11_process_p269 E L Q y0 w) : kzE E L kt_M96 269 [(0, .ref (w_adr E.2.1 10 0))] [.int y0] w Q := by
  unfold zb_X11_process_p269 at h
  exact kz_iret (M := kt_M96) kX11_process_c13.2.2.2.2.1 rfl rfl h
def zb_X11_process_p248 (E : zE) (L : Nat) (Q : kx_Rs → wS → Prop) (y0 : Int32) (w : wS) : Prop := Q (.inl (some (.int y0))) w
theorem zt_X11_process_p248 {E : zE} {L : Nat} {Q : kx_Rs → wS → Prop} {y0 : Int32} {w : wS} (hL : 25 ≤ L) (h : zb_X11_process_p248 E L Q y0 w) : kzE E L kt_M96 248 [(0, .ref (w_adr E.2.1 10 0))] [.int y0] w Q := by
  unfold zb_X11_process_p248 at h
  exact kz_iret (M := kt_M96) kX11_process_c12.2.2.2.1 rfl rfl h
def zb_X11_process_p229 (E : zE) (L : Nat) (Q : kx_Rs → wS → Prop) (y0 : Int32) (w : wS) : Prop := Q (.inl (some (.int y0))) w
theorem zt_X11_process_p229 {E : zE} {L : Nat} {Q : kx_Rs → wS → Prop} {y0 : Int32} {w : wS} (hL : 25 ≤ L) (h : zb_X11_process_p229 E L Q y0 w) : kzE E L kt_M96 229 [(0, .ref (w_adr E.2.1 10 0))] [.int y0] w Q := by
  unfold zb_X11_process_p229 at h
  exact kz_iret (M := kt_M96) kX11_process_c11.2.2.1 rfl rfl h
def zb_X11_process_p210 (E : zE) (L : Nat) (Q : kx_Rs → wS → Prop) (y0 : Int32) (w : wS) : Prop := Q (.inl (some (.int y0))) w
theorem zt_X11_process_p210 {E : zE} {L : Nat} {Q : kx_Rs → wS → Prop} {y0 : Int32} {w : wS} (hL : 25 ≤ L) (h : zb_X11_process_p210 E L Q y0 w) : kzE E L kt_M96 210 [(0, .ref (w_adr E.2.1 10 0))] [.int y0] w Q := by
  unfold zb_X11_process_p210 at h
  exact kz_iret (M := kt_M96) kX11_process_c10.2.1 rfl rfl h
def zb_X11_process_p189 (E : zE) (L : Nat) (Q : kx_Rs → wS → Prop) (y0 : Int32) (w : wS) : Prop := Q (.inl (some (.int y0))) w
theorem zt_X11_process_p189 {E : zE} {L : Nat} {Q : kx_Rs → wS → Prop} {y0 : Int32} {w : wS} (hL : 25 ≤ L) (h : zb_X11_process_p189 E L Q y0 w) : kzE E L kt_M96 189 [(0, .ref (w_adr E.2.1 10 0))] [.int y0] w Q := by
  unfold zb_X11_process_p189 at h
  exact kz_iret (M := kt_M96) kX11_process_c9.1 rfl rfl h
def zb_X11_process_p184 (E : zE) (L : Nat) (Q : kx_Rs → wS → Prop) (x4 : Option Nat) (w : wS) : Prop := (∃ p1, x4 = some p1 ∧ w_l w E.2.1 17 p1 ∧ zb_X11_process_p189 E L Q (w_i w 17 p1 3) w)
theorem zt_X11_process_p184 {E : zE} {L : Nat} {Q : kx_Rs → wS → Prop} {x4 : Option Nat} {w : wS} (hL : 25 ≤ L) (h : zb_X11_process_p184 E L Q x4 w) : kzE E L kt_M96 184 [(0, .ref (w_adr E.2.1 10 0)), (4, va_rf (x4))] [] w Q := by
  unfold zb_X11_process_p184 at h
  refine kz_aloadv (M := kt_M96) (x := x4) kX11_process_c8.2.2.2.2.2.2.1 rfl ?_
  obtain ⟨p1, hxp1, hlp1, h⟩ := h
  refine kz_nz0 (x := x4) hxp1 ?_
  refine kz_gfi (M := kt_M96) (c := 17) (o := p1) kX11_process_c8.2.2.2.2.2.2.2.1 wf_X11_273 (.inr (by exact hlp1)) ?_
  exact kz_weak [(0, .ref (w_adr E.2.1 10 0))] ⟨rfl, trivial⟩ rfl (zt_X11_process_p189 hL  h)
def zb_X11_process_p83 (E : zE) (L : Nat) (Q : kx_Rs → wS → Prop) (x2 : Int32) (x4 : Option Nat) (y0 : Int32) (w : wS) : Prop := (if x2 = 0 then (∃ p1, x4 = some p1 ∧ w_l w E.2.1 17 p1 ∧ (∃ i2, zO E "MeetingHouse$State" (w_p w 17 p1 9) i2 ∧ Q (.inl (some (.int (kw_on i2)))) w)) else (if x2 = 1 then (∃ p3, x4 = some p3 ∧ w_l w E.2.1 17 p3 ∧ (if ¬ w_p w 17 p3 9 = some (E.1.1 61) then zb_X11_process_p184 E L Q x4 w else (if ¬ w_i w 17 p3 19 = 0 then zb_X11_process_p184 E L Q x4 w else (w_p w 10 0 2 = some (w_adr E.2.1 9 0) ∧ zw E (L - 21) kt_M221 [.ref (w_adr E.2.1 9 0), .int (w_i w 17 p3 1)] w (wk1 (fun v6 w5 => wle w w5 → (if ¬ v6 = 0 then zb_X11_process_p184 E L Q x4 w5 else (w_p w5 10 0 2 = some (w_adr E.2.1 9 0) ∧ zw E (L - 21) kt_M221 [.ref (w_adr E.2.1 9 0), .int ((w_i w5 17 p3 1) + 1)] w5 (wk1 (fun v9 w8 => wle w5 w8 → zb_X11_process_p189 E L Q v9 w8) (fun e w => Q (.inr e) w))))) (fun e w => Q (.inr e) w)))))) else (if x2 = 2 then (∃ p10, x4 = some p10 ∧ w_l w E.2.1 17 p10 ∧ (if ¬ (w_p w 17 p10 10) = none then (∃ p11, w_p w 17 p10 10 = some p11 ∧ w_l w E.2.1 17 p11 ∧ zb_X11_process_p210 E L Q (w_i w 17 p11 0) w) else zb_X11_process_p210 E L Q (-1) w)) else (if x2 = 3 then (if y0 = 0 then zb_X11_process_p229 E L Q 0 w else (∃ p12, x4 = some p12 ∧ w_l w E.2.1 17 p12 ∧ zw E (L - 25) kt_M80 [.ref (w_adr E.2.1 10 0), .int (w_i w 17 p12 6)] w (wk1 (fun v14 w13 => wle w w13 → zb_X11_process_p229 E L Q v14 w13) (fun e w => Q (.inr e) w)))) else (if x2 = 4 then (if y0 = 0 then zb_X11_process_p248 E L Q 0 w else (∃ p15, x4 = some p15 ∧ w_l w E.2.1 17 p15 ∧ zw E (L - 21) kt_M89 [.ref (w_adr E.2.1 10 0), .int (w_i w 17 p15 6)] w (wk1 (fun v17 w16 => wle w w16 → zb_X11_process_p248 E L Q v17 w16) (fun e w => Q (.inr e) w)))) else (if x2 = 5 then (∃ p18, x4 = some p18 ∧ w_l w E.2.1 17 p18 ∧ (if ¬ w_p w 17 p18 9 = some (E.1.1 65) then zb_X11_process_p269 E L Q (-1) w else zb_X11_process_p269 E L Q (w_i w 17 p18 4) w)) else Q (.inl (some (.int (-1)))) w))))))
theorem zt_X11_process_p83 {E : zE} {L : Nat} {Q : kx_Rs → wS → Prop} {x2 : Int32} {x4 : Option Nat} {y0 : Int32} {w : wS} (hL : 25 ≤ L) (h : zb_X11_process_p83 E L Q x2 x4 y0 w) : kzE E L kt_M96 83 [(0, .ref (w_adr E.2.1 10 0)), (2, .int x2), (4, va_rf (x4))] [.int y0] w Q := by
  unfold zb_X11_process_p83 at h
  refine kz_sti (M := kt_M96) [(0, .ref (w_adr E.2.1 10 0)), (2, .int x2), (4, va_rf (x4))] kX11_process_c5.2.2.1 (Nat.le_of_ble_eq_true rfl) ⟨⟨rfl, rfl, .inl rfl⟩, ⟨⟨rfl, rfl, .inl rfl⟩, ⟨⟨rfl, rfl, .inr (w_cat (x4))⟩, trivial⟩⟩⟩ rfl ?_
  refine kz_iload_n (M := kt_M96) kX11_process_c5.2.2.2.1 rfl ?_
  refine kz_tsw (M := kt_M96) [(0, 124), (1, 133), (2, 190), (3, 211), (4, 230), (5, 249)] [_, _, _, _, _, _] 270 dX11_process_p86 (by decide +kernel) h ⟨fun h => ?_, fun h => ?_, fun h => ?_, fun h => ?_, fun h => ?_, fun h => ?_, trivial⟩ (fun h => ?_)
  · skip
    refine kz_aloadv (M := kt_M96) (x := x4) kX11_process_c5.2.2.2.2.2.1 rfl ?_
    obtain ⟨p1, hxp1, hlp1, h⟩ := h
    refine kz_nz0 (x := x4) hxp1 ?_
    refine kz_gfp (M := kt_M96) (c := 17) (o := p1) kX11_process_c5.2.2.2.2.2.2.1 wf_X11_125 (.inr (by exact hlp1)) ?_
    obtain ⟨i2, ho, h⟩ := h
    refine kz_ord (M := kt_M96) (x := w_p w 17 p1 9) (i := i2) (C := "MeetingHouse$State") kX11_process_c5.2.2.2.2.2.2.2.1 zo_l_X11 zo_m_X11 zo_s_State zo_u_X11 (Nat.le_trans (Nat.le_of_ble_eq_true rfl) hL) (Nat.le_of_ble_eq_true rfl) ho ?_
    exact kz_iret (M := kt_M96) kX11_process_c6.1 rfl rfl h
  · skip
    refine kz_aloadv (M := kt_M96) (x := x4) kX11_process_c6.2.1 rfl ?_
    obtain ⟨p3, hxp3, hlp3, h⟩ := h
    refine kz_nz0 (x := x4) hxp3 ?_
    refine kz_gfp (M := kt_M96) (c := 17) (o := p3) kX11_process_c6.2.2.1 wf_X11_125 (.inr (by exact hlp3)) ?_
    refine kz_getsE (M := kt_M96) (v := va_rf (some (E.1.1 61))) kX11_process_c6.2.2.2.1 zs_X11_154 ?_
    refine kz_acmp_ne (M := kt_M96) (x := w_p w 17 p3 9) (y := some (E.1.1 61)) kX11_process_c6.2.2.2.2.1 (t := 184) rfl h (fun h => ?_) (fun h => ?_)
    · skip
      exact kz_weak [(0, .ref (w_adr E.2.1 10 0)), (4, va_rf (x4))] ⟨rfl, ⟨rfl, trivial⟩⟩ rfl (zt_X11_process_p184 hL  h)
    · skip
      refine kz_aloadv (M := kt_M96) (x := x4) kX11_process_c6.2.2.2.2.2.1 rfl ?_
      refine kz_nz0 (x := x4) hxp3 ?_
      refine kz_gfi (M := kt_M96) (c := 17) (o := p3) kX11_process_c6.2.2.2.2.2.2.1 wf_X11_270 (.inr (by exact hlp3)) ?_
      refine kz_if_ne (M := kt_M96) kX11_process_c6.2.2.2.2.2.2.2.1 (t := 184) rfl h (fun h => ?_) (fun h => ?_)
      · skip
        exact kz_weak [(0, .ref (w_adr E.2.1 10 0)), (4, va_rf (x4))] ⟨rfl, ⟨rfl, trivial⟩⟩ rfl (zt_X11_process_p184 hL  h)
      · skip
        refine kz_aload_n (M := kt_M96) kX11_process_c7.1 rfl ?_
        refine kz_gfp (M := kt_M96) (c := 10) (o := 0) kX11_process_c7.2.1 wf_X11_55 (.inl rfl) ?_
        refine kz_aloadv (M := kt_M96) (x := x4) kX11_process_c7.2.2.1 rfl ?_
        refine kz_nz0 (x := x4) hxp3 ?_
        refine kz_gfi (M := kt_M96) (c := 17) (o := p3) kX11_process_c7.2.2.2.1 wf_X11_113 (.inr (by exact hlp3)) ?_
        obtain ⟨hf4, h⟩ := h
        refine kz_nz1 (x := w_p w 10 0 2) hf4 ?_
        refine kz_cv1 (M := kt_M96) (c := 9) (o := 0) (As := [.int (w_i w 17 p3 1)]) (rest := []) kX11_process_c7.2.2.2.2.1 wl_X11_62 wMv_221 rfl (.inl rfl) rfl (Nat.le_trans (Nat.le_of_ble_eq_true rfl) hL) (Nat.le_of_ble_eq_true rfl) (Nat.le_of_ble_eq_true rfl) h (fun v6 w5 hle h => ?_) (fun _ _ _ h => kzx_no rfl h)
        have h := h hle
        have hlp3 := w_l_le hlp3 hle
        refine kz_if_ne (M := kt_M96) kX11_process_c7.2.2.2.2.2.1 (t := 184) rfl h (fun h => ?_) (fun h => ?_)
        · skip
          exact kz_weak [(0, .ref (w_adr E.2.1 10 0)), (4, va_rf (x4))] ⟨rfl, ⟨rfl, trivial⟩⟩ rfl (zt_X11_process_p184 hL  h)
        · skip
          refine kz_aload_n (M := kt_M96) kX11_process_c7.2.2.2.2.2.2.1 rfl ?_
          refine kz_gfp (M := kt_M96) (c := 10) (o := 0) kX11_process_c7.2.2.2.2.2.2.2.1 wf_X11_55 (.inl rfl) ?_
          refine kz_aloadv (M := kt_M96) (x := x4) kX11_process_c8.1 rfl ?_
          refine kz_nz0 (x := x4) hxp3 ?_
          refine kz_gfi (M := kt_M96) (c := 17) (o := p3) kX11_process_c8.2.1 wf_X11_113 (.inr (by exact hlp3)) ?_
          refine kz_ic (M := kt_M96) 1 kX11_process_c8.2.2.1 rfl ?_
          refine kz_iadd (M := kt_M96) kX11_process_c8.2.2.2.1 ?_
          obtain ⟨hf7, h⟩ := h
          refine kz_nz1 (x := w_p w5 10 0 2) hf7 ?_
          refine kz_cv1 (M := kt_M96) (c := 9) (o := 0) (As := [.int ((w_i w5 17 p3 1) + 1)]) (rest := []) kX11_process_c8.2.2.2.2.1 wl_X11_62 wMv_221 rfl (.inl rfl) rfl (Nat.le_trans (Nat.le_of_ble_eq_true rfl) hL) (Nat.le_of_ble_eq_true rfl) (Nat.le_of_ble_eq_true rfl) h (fun v9 w8 hle h => ?_) (fun _ _ _ h => kzx_no rfl h)
          have h := h hle
          have hlp3 := w_l_le hlp3 hle
          refine kz_goto (M := kt_M96) kX11_process_c8.2.2.2.2.2.1 (t := 189) rfl ?_
          exact kz_weak [(0, .ref (w_adr E.2.1 10 0))] ⟨rfl, trivial⟩ rfl (zt_X11_process_p189 hL  h)
  · skip
    refine kz_aloadv (M := kt_M96) (x := x4) kX11_process_c9.2.1 rfl ?_
    obtain ⟨p10, hxp10, hlp10, h⟩ := h
    refine kz_nz0 (x := x4) hxp10 ?_
    refine kz_gfp (M := kt_M96) (c := 17) (o := p10) kX11_process_c9.2.2.1 wf_X11_145 (.inr (by exact hlp10)) ?_
    refine kz_ifnonnull (M := kt_M96) (x := w_p w 17 p10 10) kX11_process_c9.2.2.2.1 (t := 202) rfl h (fun h => ?_) (fun h => ?_)
    · skip
      refine kz_aloadv (M := kt_M96) (x := x4) kX11_process_c9.2.2.2.2.2.2.1 rfl ?_
      refine kz_nz0 (x := x4) hxp10 ?_
      refine kz_gfp (M := kt_M96) (c := 17) (o := p10) kX11_process_c9.2.2.2.2.2.2.2.1 wf_X11_145 (.inr (by exact hlp10)) ?_
      obtain ⟨p11, hxp11, hlp11, h⟩ := h
      refine kz_nz0 (x := w_p w 17 p10 10) hxp11 ?_
      refine kz_gfi (M := kt_M96) (c := 17) (o := p11) kX11_process_c10.1 wf_X11_249 (.inr (by exact hlp11)) ?_
      exact kz_weak [(0, .ref (w_adr E.2.1 10 0))] ⟨rfl, trivial⟩ rfl (zt_X11_process_p210 hL  h)
    · skip
      refine kz_ic (M := kt_M96) (-1) kX11_process_c9.2.2.2.2.1 rfl ?_
      refine kz_goto (M := kt_M96) kX11_process_c9.2.2.2.2.2.1 (t := 210) rfl ?_
      exact kz_weak [(0, .ref (w_adr E.2.1 10 0))] ⟨rfl, trivial⟩ rfl (zt_X11_process_p210 hL  h)
  · skip
    refine kz_iload (M := kt_M96) kX11_process_c10.2.2.1 rfl ?_
    refine kz_if_eq (M := kt_M96) kX11_process_c10.2.2.2.1 (t := 228) rfl h (fun h => ?_) (fun h => ?_)
    · skip
      refine kz_ic (M := kt_M96) 0 kX11_process_c11.2.1 rfl ?_
      exact kz_weak [(0, .ref (w_adr E.2.1 10 0))] ⟨rfl, trivial⟩ rfl (zt_X11_process_p229 hL  h)
    · skip
      refine kz_aload_n (M := kt_M96) kX11_process_c10.2.2.2.2.1 rfl ?_
      refine kz_aloadv (M := kt_M96) (x := x4) kX11_process_c10.2.2.2.2.2.1 rfl ?_
      obtain ⟨p12, hxp12, hlp12, h⟩ := h
      refine kz_nz0 (x := x4) hxp12 ?_
      refine kz_gfi (M := kt_M96) (c := 17) (o := p12) kX11_process_c10.2.2.2.2.2.2.1 wf_X11_434 (.inr (by exact hlp12)) ?_
      refine kz_cv1 (M := kt_M96) (c := 10) (o := 0) (As := [.int (w_i w 17 p12 6)]) (rest := []) kX11_process_c10.2.2.2.2.2.2.2.1 wl_X11_476 wMv_80 rfl (.inl rfl) rfl (Nat.le_trans (Nat.le_of_ble_eq_true rfl) hL) (Nat.le_of_ble_eq_true rfl) (Nat.le_of_ble_eq_true rfl) h (fun v14 w13 hle h => ?_) (fun _ _ _ h => kzx_no rfl h)
      have h := h hle
      have hlp12 := w_l_le hlp12 hle
      refine kz_goto (M := kt_M96) kX11_process_c11.1 (t := 229) rfl ?_
      exact kz_weak [(0, .ref (w_adr E.2.1 10 0))] ⟨rfl, trivial⟩ rfl (zt_X11_process_p229 hL  h)
  · skip
    refine kz_iload (M := kt_M96) kX11_process_c11.2.2.2.1 rfl ?_
    refine kz_if_eq (M := kt_M96) kX11_process_c11.2.2.2.2.1 (t := 247) rfl h (fun h => ?_) (fun h => ?_)
    · skip
      refine kz_ic (M := kt_M96) 0 kX11_process_c12.2.2.1 rfl ?_
      exact kz_weak [(0, .ref (w_adr E.2.1 10 0))] ⟨rfl, trivial⟩ rfl (zt_X11_process_p248 hL  h)
    · skip
      refine kz_aload_n (M := kt_M96) kX11_process_c11.2.2.2.2.2.1 rfl ?_
      refine kz_aloadv (M := kt_M96) (x := x4) kX11_process_c11.2.2.2.2.2.2.1 rfl ?_
      obtain ⟨p15, hxp15, hlp15, h⟩ := h
      refine kz_nz0 (x := x4) hxp15 ?_
      refine kz_gfi (M := kt_M96) (c := 17) (o := p15) kX11_process_c11.2.2.2.2.2.2.2.1 wf_X11_434 (.inr (by exact hlp15)) ?_
      refine kz_cv1 (M := kt_M96) (c := 10) (o := 0) (As := [.int (w_i w 17 p15 6)]) (rest := []) kX11_process_c12.1 wl_X11_479 wMv_89 rfl (.inl rfl) rfl (Nat.le_trans (Nat.le_of_ble_eq_true rfl) hL) (Nat.le_of_ble_eq_true rfl) (Nat.le_of_ble_eq_true rfl) h (fun v17 w16 hle h => ?_) (fun _ _ _ h => kzx_no rfl h)
      have h := h hle
      have hlp15 := w_l_le hlp15 hle
      refine kz_goto (M := kt_M96) kX11_process_c12.2.1 (t := 248) rfl ?_
      exact kz_weak [(0, .ref (w_adr E.2.1 10 0))] ⟨rfl, trivial⟩ rfl (zt_X11_process_p248 hL  h)
  · skip
    refine kz_aloadv (M := kt_M96) (x := x4) kX11_process_c12.2.2.2.2.1 rfl ?_
    obtain ⟨p18, hxp18, hlp18, h⟩ := h
    refine kz_nz0 (x := x4) hxp18 ?_
    refine kz_gfp (M := kt_M96) (c := 17) (o := p18) kX11_process_c12.2.2.2.2.2.1 wf_X11_125 (.inr (by exact hlp18)) ?_
    refine kz_getsE (M := kt_M96) (v := va_rf (some (E.1.1 65))) kX11_process_c12.2.2.2.2.2.2.1 zs_X11_119 ?_
    refine kz_acmp_ne (M := kt_M96) (x := w_p w 17 p18 9) (y := some (E.1.1 65)) kX11_process_c12.2.2.2.2.2.2.2.1 (t := 268) rfl h (fun h => ?_) (fun h => ?_)
    · skip
      refine kz_ic (M := kt_M96) (-1) kX11_process_c13.2.2.2.1 rfl ?_
      exact kz_weak [(0, .ref (w_adr E.2.1 10 0))] ⟨rfl, trivial⟩ rfl (zt_X11_process_p269 hL  h)
    · skip
      refine kz_aloadv (M := kt_M96) (x := x4) kX11_process_c13.1 rfl ?_
      refine kz_nz0 (x := x4) hxp18 ?_
      refine kz_gfi (M := kt_M96) (c := 17) (o := p18) kX11_process_c13.2.1 wf_X11_128 (.inr (by exact hlp18)) ?_
      refine kz_goto (M := kt_M96) kX11_process_c13.2.2.1 (t := 269) rfl ?_
      exact kz_weak [(0, .ref (w_adr E.2.1 10 0))] ⟨rfl, trivial⟩ rfl (zt_X11_process_p269 hL  h)
  · skip
    refine kz_ic (M := kt_M96) (-1) kX11_process_c13.2.2.2.2.2.1 rfl ?_
    exact kz_iret (M := kt_M96) kX11_process_c13.2.2.2.2.2.2.1 rfl rfl h
def zb_X11_process_p78 (E : zE) (L : Nat) (Q : kx_Rs → wS → Prop) (x2 : Int32) (x4 : Option Nat) (w : wS) : Prop := zb_X11_process_p83 E L Q x2 x4 1 w
theorem zt_X11_process_p78 {E : zE} {L : Nat} {Q : kx_Rs → wS → Prop} {x2 : Int32} {x4 : Option Nat} {w : wS} (hL : 25 ≤ L) (h : zb_X11_process_p78 E L Q x2 x4 w) : kzE E L kt_M96 78 [(0, .ref (w_adr E.2.1 10 0)), (2, .int x2), (4, va_rf (x4))] [] w Q := by
  unfold zb_X11_process_p78 at h
  refine kz_ic (M := kt_M96) 1 kX11_process_c4.2.2.2.2.2.2.2.1 rfl ?_
  refine kz_goto (M := kt_M96) kX11_process_c5.1 (t := 83) rfl ?_
  exact kz_weak [(0, .ref (w_adr E.2.1 10 0)), (2, .int x2), (4, va_rf (x4))] ⟨rfl, ⟨rfl, ⟨rfl, trivial⟩⟩⟩ rfl (zt_X11_process_p83 hL  h)
def zb_X11_process_p38 (E : zE) (L : Nat) (Q : kx_Rs → wS → Prop) (x2 : Int32) (x3 : Int32) (w : wS) : Prop := (if ¬ x3 = w_i w 10 0 4 then (kx_inb x3 (w_n w 10 0 3) = true ∧ (∃ p1, w_r w 10 0 3 (x3).toNatClampNeg = some p1 ∧ w_l w E.2.1 17 p1 ∧ (if w_p w 17 p1 9 = some (E.1.1 66) then zb_X11_process_p78 E L Q x2 (w_r w 10 0 3 (x3).toNatClampNeg) w else (if ¬ w_p w 17 p1 9 = some (E.1.1 67) then zb_X11_process_p83 E L Q x2 (w_r w 10 0 3 (x3).toNatClampNeg) 0 w else zb_X11_process_p78 E L Q x2 (w_r w 10 0 3 (x3).toNatClampNeg) w)))) else Q (.inl (some (.int (-1)))) w)
theorem zt_X11_process_p38 {E : zE} {L : Nat} {Q : kx_Rs → wS → Prop} {x2 : Int32} {x3 : Int32} {w : wS} (hL : 25 ≤ L) (h : zb_X11_process_p38 E L Q x2 x3 w) : kzE E L kt_M96 38 [(0, .ref (w_adr E.2.1 10 0)), (2, .int x2), (3, .int x3)] [] w Q := by
  unfold zb_X11_process_p38 at h
  refine kz_iload_n (M := kt_M96) kX11_process_c2.2.2.2.2.1 rfl ?_
  refine kz_aload_n (M := kt_M96) kX11_process_c2.2.2.2.2.2.1 rfl ?_
  refine kz_gfi (M := kt_M96) (c := 10) (o := 0) kX11_process_c2.2.2.2.2.2.2.1 wf_X11_107 (.inl rfl) ?_
  refine kz_icmp_ne (M := kt_M96) kX11_process_c2.2.2.2.2.2.2.2.1 (t := 48) rfl h (fun h => ?_) (fun h => ?_)
  · skip
    refine kz_aload_n (M := kt_M96) kX11_process_c3.2.2.1 rfl ?_
    refine kz_gfc (M := kt_M96) (x := 3563) (c := 10) (o := 0) kX11_process_c3.2.2.2.1 wf_X11_20 (.inl rfl) ?_
    refine kz_iload_n (M := kt_M96) kX11_process_c3.2.2.2.2.1 rfl ?_
    refine kz_aald (M := kt_M96) (τ := 4) (c := 10) (o := 0) (k := 3) (a := (E.2.1 3563)) kX11_process_c3.2.2.2.2.2.1 ow_10_0_3 oa_10_0_3 ot_8 rfl h (fun h => ?_)
    refine kz_stv (M := kt_M96) (x := w_r w 10 0 3 (x3).toNatClampNeg) [(0, .ref (w_adr E.2.1 10 0)), (2, .int x2)] kX11_process_c3.2.2.2.2.2.2.1 (Nat.le_of_ble_eq_true rfl) ⟨⟨rfl, rfl, .inl rfl⟩, ⟨⟨rfl, rfl, .inl rfl⟩, trivial⟩⟩ rfl ?_
    refine kz_aloadv (M := kt_M96) (x := w_r w 10 0 3 (x3).toNatClampNeg) kX11_process_c3.2.2.2.2.2.2.2.1 rfl ?_
    obtain ⟨p1, hxp1, hlp1, h⟩ := h
    refine kz_nz0 (x := w_r w 10 0 3 (x3).toNatClampNeg) hxp1 ?_
    refine kz_gfp (M := kt_M96) (c := 17) (o := p1) kX11_process_c4.1 wf_X11_125 (.inr (by exact hlp1)) ?_
    refine kz_getsE (M := kt_M96) (v := va_rf (some (E.1.1 66))) kX11_process_c4.2.1 zs_X11_437 ?_
    refine kz_acmp_eq (M := kt_M96) (x := w_p w 17 p1 9) (y := some (E.1.1 66)) kX11_process_c4.2.2.1 (t := 78) rfl h (fun h => ?_) (fun h => ?_)
    · skip
      exact kz_weak [(0, .ref (w_adr E.2.1 10 0)), (2, .int x2), (4, va_rf (w_r w 10 0 3 (x3).toNatClampNeg))] ⟨rfl, ⟨rfl, ⟨rfl, trivial⟩⟩⟩ rfl (zt_X11_process_p78 hL  h)
    · skip
      refine kz_aloadv (M := kt_M96) (x := w_r w 10 0 3 (x3).toNatClampNeg) kX11_process_c4.2.2.2.1 rfl ?_
      refine kz_nz0 (x := w_r w 10 0 3 (x3).toNatClampNeg) hxp1 ?_
      refine kz_gfp (M := kt_M96) (c := 17) (o := p1) kX11_process_c4.2.2.2.2.1 wf_X11_125 (.inr (by exact hlp1)) ?_
      refine kz_getsE (M := kt_M96) (v := va_rf (some (E.1.1 67))) kX11_process_c4.2.2.2.2.2.1 zs_X11_460 ?_
      refine kz_acmp_ne (M := kt_M96) (x := w_p w 17 p1 9) (y := some (E.1.1 67)) kX11_process_c4.2.2.2.2.2.2.1 (t := 82) rfl h (fun h => ?_) (fun h => ?_)
      · skip
        refine kz_ic (M := kt_M96) 0 kX11_process_c5.2.1 rfl ?_
        exact kz_weak [(0, .ref (w_adr E.2.1 10 0)), (2, .int x2), (4, va_rf (w_r w 10 0 3 (x3).toNatClampNeg))] ⟨rfl, ⟨rfl, ⟨rfl, trivial⟩⟩⟩ rfl (zt_X11_process_p83 hL  h)
      · skip
        exact kz_weak [(0, .ref (w_adr E.2.1 10 0)), (2, .int x2), (4, va_rf (w_r w 10 0 3 (x3).toNatClampNeg))] ⟨rfl, ⟨rfl, ⟨rfl, trivial⟩⟩⟩ rfl (zt_X11_process_p78 hL  h)
  · skip
    refine kz_ic (M := kt_M96) (-1) kX11_process_c3.1 rfl ?_
    exact kz_iret (M := kt_M96) kX11_process_c3.2.1 rfl rfl h
def zb_X11_process_p11 (E : zE) (L : Nat) (Q : kx_Rs → wS → Prop) (x1 : Int32) (x2 : Int32) (x3 : Int32) (w : wS) : Prop := (if w_i w 10 0 4 ≤ x3 then zb_X11_process_p38 E L Q x2 x3 w else (kx_inb x3 (w_n w 10 0 3) = true ∧ (∃ p1, w_r w 10 0 3 (x3).toNatClampNeg = some p1 ∧ w_l w E.2.1 17 p1 ∧ (if w_i w 17 p1 0 = x1 then zb_X11_process_p38 E L Q x2 x3 w else zL_X11_process_p11 E L Q x1 x2 (x3 + 1) w))))
theorem zt_X11_process_p11 {E : zE} {L : Nat} {Q : kx_Rs → wS → Prop} {x1 : Int32} {x2 : Int32} {x3 : Int32} {w : wS} (hL : 25 ≤ L) (h : zb_X11_process_p11 E L Q x1 x2 x3 w) : kzE E L kt_M96 11 [(0, .ref (w_adr E.2.1 10 0)), (1, .int x1), (2, .int x2), (3, .int x3)] [] w Q := by
  unfold zb_X11_process_p11 at h
  refine kz_iload_n (M := kt_M96) kX11_process_c0.2.2.2.2.2.2.2.1 rfl ?_
  refine kz_aload_n (M := kt_M96) kX11_process_c1.1 rfl ?_
  refine kz_gfi (M := kt_M96) (c := 10) (o := 0) kX11_process_c1.2.1 wf_X11_107 (.inl rfl) ?_
  refine kz_icmp_ge (M := kt_M96) kX11_process_c1.2.2.1 (t := 38) rfl h (fun h => ?_) (fun h => ?_)
  · skip
    exact kz_weak [(0, .ref (w_adr E.2.1 10 0)), (2, .int x2), (3, .int x3)] ⟨rfl, ⟨rfl, ⟨rfl, trivial⟩⟩⟩ rfl (zt_X11_process_p38 hL  h)
  · skip
    refine kz_aload_n (M := kt_M96) kX11_process_c1.2.2.2.1 rfl ?_
    refine kz_gfc (M := kt_M96) (x := 3563) (c := 10) (o := 0) kX11_process_c1.2.2.2.2.1 wf_X11_20 (.inl rfl) ?_
    refine kz_iload_n (M := kt_M96) kX11_process_c1.2.2.2.2.2.1 rfl ?_
    refine kz_aald (M := kt_M96) (τ := 4) (c := 10) (o := 0) (k := 3) (a := (E.2.1 3563)) kX11_process_c1.2.2.2.2.2.2.1 ow_10_0_3 oa_10_0_3 ot_8 rfl h (fun h => ?_)
    obtain ⟨p1, hxp1, hlp1, h⟩ := h
    refine kz_nz0 (x := w_r w 10 0 3 (x3).toNatClampNeg) hxp1 ?_
    refine kz_gfi (M := kt_M96) (c := 17) (o := p1) kX11_process_c1.2.2.2.2.2.2.2.1 wf_X11_249 (.inr (by exact hlp1)) ?_
    refine kz_iload_n (M := kt_M96) kX11_process_c2.1 rfl ?_
    refine kz_icmp_eq (M := kt_M96) kX11_process_c2.2.1 (t := 38) rfl h (fun h => ?_) (fun h => ?_)
    · skip
      exact kz_weak [(0, .ref (w_adr E.2.1 10 0)), (2, .int x2), (3, .int x3)] ⟨rfl, ⟨rfl, ⟨rfl, trivial⟩⟩⟩ rfl (zt_X11_process_p38 hL  h)
    · skip
      refine kz_inc (M := kt_M96) [(0, .ref (w_adr E.2.1 10 0)), (1, .int x1), (2, .int x2)] kX11_process_c2.2.2.1 rfl (Nat.le_of_ble_eq_true rfl) ⟨⟨rfl, rfl, .inl rfl⟩, ⟨⟨rfl, rfl, .inl rfl⟩, ⟨⟨rfl, rfl, .inr rfl⟩, trivial⟩⟩⟩ rfl ?_
      refine kz_goto (M := kt_M96) kX11_process_c2.2.2.2.1 (t := 11) rfl ?_
      exact kz_weak [(0, .ref (w_adr E.2.1 10 0)), (1, .int x1), (2, .int x2), (3, .int (x3 + 1))] ⟨rfl, ⟨rfl, ⟨rfl, ⟨rfl, trivial⟩⟩⟩⟩ rfl h
def zb_X11_process_p0 (E : zE) (L : Nat) (Q : kx_Rs → wS → Prop) (x1 : Int32) (x2 : Int32) (w : wS) : Prop := (if ¬ w_i w 10 0 14 = 0 then zL_X11_process_p11 E L Q x1 x2 0 w else Q (.inl (some (.int (-1)))) w)
theorem zt_X11_process_p0 {E : zE} {L : Nat} {Q : kx_Rs → wS → Prop} {x1 : Int32} {x2 : Int32} {w : wS} (hL : 25 ≤ L) (h : zb_X11_process_p0 E L Q x1 x2 w) : kzE E L kt_M96 0 [(0, .ref (w_adr E.2.1 10 0)), (1, .int x1), (2, .int x2)] [] w Q := by
  unfold zb_X11_process_p0 at h
  refine kz_aload_n (M := kt_M96) kX11_process_c0.1 rfl ?_
  refine kz_gfi (M := kt_M96) (c := 10) (o := 0) kX11_process_c0.2.1 wf_X11_207 (.inl rfl) ?_
  refine kz_if_ne (M := kt_M96) kX11_process_c0.2.2.1 (t := 9) rfl h (fun h => ?_) (fun h => ?_)
  · skip
    refine kz_ic (M := kt_M96) 0 kX11_process_c0.2.2.2.2.2.1 rfl ?_
    refine kz_sti_n (M := kt_M96) [(0, .ref (w_adr E.2.1 10 0)), (1, .int x1), (2, .int x2)] kX11_process_c0.2.2.2.2.2.2.1 (Nat.le_of_ble_eq_true rfl) ⟨⟨rfl, rfl, .inl rfl⟩, ⟨⟨rfl, rfl, .inl rfl⟩, ⟨⟨rfl, rfl, .inr rfl⟩, trivial⟩⟩⟩ rfl ?_
    exact kz_weak [(0, .ref (w_adr E.2.1 10 0)), (1, .int x1), (2, .int x2), (3, .int 0)] ⟨rfl, ⟨rfl, ⟨rfl, ⟨rfl, trivial⟩⟩⟩⟩ rfl h
  · skip
    refine kz_ic (M := kt_M96) (-1) kX11_process_c0.2.2.2.1 rfl ?_
    exact kz_iret (M := kt_M96) kX11_process_c0.2.2.2.2.1 rfl rfl h
def zb_X11_cell_p47 (E : zE) (L : Nat) (Q : kx_Rs → wS → Prop) (y0 : Int32) (w : wS) : Prop := Q (.inl (some (.int y0))) w
theorem zt_X11_cell_p47 {E : zE} {L : Nat} {Q : kx_Rs → wS → Prop} {y0 : Int32} {w : wS} (hL : 26 ≤ L) (h : zb_X11_cell_p47 E L Q y0 w) : kzE E L kt_M66 47 [(0, .ref (w_adr E.2.1 10 0))] [.int y0] w Q := by
  unfold zb_X11_cell_p47 at h
  exact kz_iret (M := kt_M66) kX11_cell_c3.2.1 rfl rfl h
def zb_X11_cell_p31 (E : zE) (L : Nat) (Q : kx_Rs → wS → Prop) (x1 : Int32) (y0 : Int32) (w : wS) : Prop := (if y0 ≤ x1 then zb_X11_cell_p47 E L Q 0 w else (kx_inb x1 (w_n w 10 0 18) = true ∧ zb_X11_cell_p47 E L Q (w_a w 10 0 18 (x1).toNatClampNeg) w))
theorem zt_X11_cell_p31 {E : zE} {L : Nat} {Q : kx_Rs → wS → Prop} {x1 : Int32} {y0 : Int32} {w : wS} (hL : 26 ≤ L) (h : zb_X11_cell_p31 E L Q x1 y0 w) : kzE E L kt_M66 31 [(0, .ref (w_adr E.2.1 10 0)), (1, .int x1)] [.int y0] w Q := by
  unfold zb_X11_cell_p31 at h
  refine kz_sti_n (M := kt_M66) [(0, .ref (w_adr E.2.1 10 0)), (1, .int x1)] kX11_cell_c1.2.2.2.2.2.2.2.1 (Nat.le_of_ble_eq_true rfl) ⟨⟨rfl, rfl, .inl rfl⟩, ⟨⟨rfl, rfl, .inr rfl⟩, trivial⟩⟩ rfl ?_
  refine kz_iload_n (M := kt_M66) kX11_cell_c2.1 rfl ?_
  refine kz_iload_n (M := kt_M66) kX11_cell_c2.2.1 rfl ?_
  refine kz_icmp_ge (M := kt_M66) kX11_cell_c2.2.2.1 (t := 46) rfl h (fun h => ?_) (fun h => ?_)
  · skip
    refine kz_ic (M := kt_M66) 0 kX11_cell_c3.1 rfl ?_
    exact kz_weak [(0, .ref (w_adr E.2.1 10 0))] ⟨rfl, trivial⟩ rfl (zt_X11_cell_p47 hL  h)
  · skip
    refine kz_aload_n (M := kt_M66) kX11_cell_c2.2.2.2.1 rfl ?_
    refine kz_gfa (M := kt_M66) (c := 10) (o := 0) kX11_cell_c2.2.2.2.2.1 wf_X11_35 (.inl rfl) ?_
    refine kz_iload_n (M := kt_M66) kX11_cell_c2.2.2.2.2.2.1 rfl ?_
    refine kz_iald (M := kt_M66) (c := 10) (o := 0) (k := 18) (a := (w_d w 10 0 18)) kX11_cell_c2.2.2.2.2.2.2.1 ow_10_0_18 oa_10_0_18 ot_0 h (fun h => ?_)
    refine kz_goto (M := kt_M66) kX11_cell_c2.2.2.2.2.2.2.2.1 (t := 47) rfl ?_
    exact kz_weak [(0, .ref (w_adr E.2.1 10 0))] ⟨rfl, trivial⟩ rfl (zt_X11_cell_p47 hL  h)
def zb_X11_cell_p11 (E : zE) (L : Nat) (Q : kx_Rs → wS → Prop) (w : wS) : Prop := Q (.inl (some (.int 0))) w
theorem zt_X11_cell_p11 {E : zE} {L : Nat} {Q : kx_Rs → wS → Prop} {w : wS} (hL : 26 ≤ L) (h : zb_X11_cell_p11 E L Q  w) : kzE E L kt_M66 11 [(0, .ref (w_adr E.2.1 10 0))] [] w Q := by
  unfold zb_X11_cell_p11 at h
  refine kz_ic (M := kt_M66) 0 kX11_cell_c0.2.2.2.2.2.1 rfl ?_
  exact kz_iret (M := kt_M66) kX11_cell_c0.2.2.2.2.2.2.1 rfl rfl h
def zb_X11_cell_p0 (E : zE) (L : Nat) (Q : kx_Rs → wS → Prop) (x1 : Int32) (w : wS) : Prop := (if w_i w 10 0 14 = 0 then zb_X11_cell_p11 E L Q w else (if 0 ≤ x1 then (if ¬ w_i w 10 0 20 = 0 then zw E (L - 26) kt_M92 [.ref (w_adr E.2.1 10 0)] w (wk1 (fun v2 w1 => wle w w1 → zb_X11_cell_p31 E L Q x1 v2 w1) (fun e w => Q (.inr e) w)) else zb_X11_cell_p31 E L Q x1 (w_i w 10 0 19) w) else zb_X11_cell_p11 E L Q w))
theorem zt_X11_cell_p0 {E : zE} {L : Nat} {Q : kx_Rs → wS → Prop} {x1 : Int32} {w : wS} (hL : 26 ≤ L) (h : zb_X11_cell_p0 E L Q x1 w) : kzE E L kt_M66 0 [(0, .ref (w_adr E.2.1 10 0)), (1, .int x1)] [] w Q := by
  unfold zb_X11_cell_p0 at h
  refine kz_aload_n (M := kt_M66) kX11_cell_c0.1 rfl ?_
  refine kz_gfi (M := kt_M66) (c := 10) (o := 0) kX11_cell_c0.2.1 wf_X11_207 (.inl rfl) ?_
  refine kz_if_eq (M := kt_M66) kX11_cell_c0.2.2.1 (t := 11) rfl h (fun h => ?_) (fun h => ?_)
  · skip
    exact kz_weak [(0, .ref (w_adr E.2.1 10 0))] ⟨rfl, trivial⟩ rfl (zt_X11_cell_p11 hL  h)
  · skip
    refine kz_iload_n (M := kt_M66) kX11_cell_c0.2.2.2.1 rfl ?_
    refine kz_if_ge (M := kt_M66) kX11_cell_c0.2.2.2.2.1 (t := 13) rfl h (fun h => ?_) (fun h => ?_)
    · skip
      refine kz_aload_n (M := kt_M66) kX11_cell_c0.2.2.2.2.2.2.2.1 rfl ?_
      refine kz_gfi (M := kt_M66) (c := 10) (o := 0) kX11_cell_c1.1 wf_X11_214 (.inl rfl) ?_
      refine kz_if_ne (M := kt_M66) kX11_cell_c1.2.1 (t := 27) rfl h (fun h => ?_) (fun h => ?_)
      · skip
        refine kz_aload_n (M := kt_M66) kX11_cell_c1.2.2.2.2.2.1 rfl ?_
        refine kz_cv1 (M := kt_M66) (c := 10) (o := 0) (As := []) (rest := []) kX11_cell_c1.2.2.2.2.2.2.1 wl_X11_375 wMv_92 rfl (.inl rfl) rfl (Nat.le_trans (Nat.le_of_ble_eq_true rfl) hL) (Nat.le_of_ble_eq_true rfl) (Nat.le_of_ble_eq_true rfl) h (fun v2 w1 hle h => ?_) (fun _ _ _ h => kzx_no rfl h)
        have h := h hle
        exact kz_weak [(0, .ref (w_adr E.2.1 10 0)), (1, .int x1)] ⟨rfl, ⟨rfl, trivial⟩⟩ rfl (zt_X11_cell_p31 hL  h)
      · skip
        refine kz_aload_n (M := kt_M66) kX11_cell_c1.2.2.1 rfl ?_
        refine kz_gfi (M := kt_M66) (c := 10) (o := 0) kX11_cell_c1.2.2.2.1 wf_X11_192 (.inl rfl) ?_
        refine kz_goto (M := kt_M66) kX11_cell_c1.2.2.2.2.1 (t := 31) rfl ?_
        exact kz_weak [(0, .ref (w_adr E.2.1 10 0)), (1, .int x1)] ⟨rfl, ⟨rfl, trivial⟩⟩ rfl (zt_X11_cell_p31 hL  h)
    · skip
      exact kz_weak [(0, .ref (w_adr E.2.1 10 0))] ⟨rfl, trivial⟩ rfl (zt_X11_cell_p11 hL  h)
def zb_X11_meeting_p35 (E : zE) (L : Nat) (Q : kx_Rs → wS → Prop) (w : wS) : Prop := Q (.inl (some (.int (-1)))) w
theorem zt_X11_meeting_p35 {E : zE} {L : Nat} {Q : kx_Rs → wS → Prop} {w : wS} (hL : 19 ≤ L) (h : zb_X11_meeting_p35 E L Q  w) : kzE E L kt_M82 35 [(0, .ref (w_adr E.2.1 10 0))] [] w Q := by
  unfold zb_X11_meeting_p35 at h
  refine kz_ic (M := kt_M82) (-1) kX11_meeting_c2.2.1 rfl ?_
  exact kz_iret (M := kt_M82) kX11_meeting_c2.2.2.1 rfl rfl h
def zb_X11_meeting_p0 (E : zE) (L : Nat) (Q : kx_Rs → wS → Prop) (x1 : Int32) (x2 : Int32) (w : wS) : Prop := (if w_i w 10 0 14 = 0 then zb_X11_meeting_p35 E L Q w else (if x1 < 0 then zb_X11_meeting_p35 E L Q w else (if 64 ≤ x1 then zb_X11_meeting_p35 E L Q w else (if w_i w 10 0 9 ≤ x1 then zb_X11_meeting_p35 E L Q w else (if x2 < 0 then zb_X11_meeting_p35 E L Q w else (if x2 < 7 then (kx_inb ((((((w_i w 10 0 9) - 1) - x1) - (((w_i w 10 0 9) - 1) - x1) / 64 * 64) * 7) + x2) (w_n w 10 0 17) = true ∧ Q (.inl (some (.int (w_a w 10 0 17 (((((((w_i w 10 0 9) - 1) - x1) - (((w_i w 10 0 9) - 1) - x1) / 64 * 64) * 7) + x2)).toNatClampNeg)))) w) else zb_X11_meeting_p35 E L Q w))))))
theorem zt_X11_meeting_p0 {E : zE} {L : Nat} {Q : kx_Rs → wS → Prop} {x1 : Int32} {x2 : Int32} {w : wS} (hL : 19 ≤ L) (h : zb_X11_meeting_p0 E L Q x1 x2 w) : kzE E L kt_M82 0 [(0, .ref (w_adr E.2.1 10 0)), (1, .int x1), (2, .int x2)] [] w Q := by
  unfold zb_X11_meeting_p0 at h
  refine kz_aload_n (M := kt_M82) kX11_meeting_c0.1 rfl ?_
  refine kz_gfi (M := kt_M82) (c := 10) (o := 0) kX11_meeting_c0.2.1 wf_X11_207 (.inl rfl) ?_
  refine kz_if_eq (M := kt_M82) kX11_meeting_c0.2.2.1 (t := 35) rfl h (fun h => ?_) (fun h => ?_)
  · skip
    exact kz_weak [(0, .ref (w_adr E.2.1 10 0))] ⟨rfl, trivial⟩ rfl (zt_X11_meeting_p35 hL  h)
  · skip
    refine kz_iload_n (M := kt_M82) kX11_meeting_c0.2.2.2.1 rfl ?_
    refine kz_if_lt (M := kt_M82) kX11_meeting_c0.2.2.2.2.1 (t := 35) rfl h (fun h => ?_) (fun h => ?_)
    · skip
      exact kz_weak [(0, .ref (w_adr E.2.1 10 0))] ⟨rfl, trivial⟩ rfl (zt_X11_meeting_p35 hL  h)
    · skip
      refine kz_iload_n (M := kt_M82) kX11_meeting_c0.2.2.2.2.2.1 rfl ?_
      refine kz_bi (M := kt_M82) 64 kX11_meeting_c0.2.2.2.2.2.2.1 rfl ?_
      refine kz_icmp_ge (M := kt_M82) kX11_meeting_c0.2.2.2.2.2.2.2.1 (t := 35) rfl h (fun h => ?_) (fun h => ?_)
      · skip
        exact kz_weak [(0, .ref (w_adr E.2.1 10 0))] ⟨rfl, trivial⟩ rfl (zt_X11_meeting_p35 hL  h)
      · skip
        refine kz_iload_n (M := kt_M82) kX11_meeting_c1.1 rfl ?_
        refine kz_aload_n (M := kt_M82) kX11_meeting_c1.2.1 rfl ?_
        refine kz_gfi (M := kt_M82) (c := 10) (o := 0) kX11_meeting_c1.2.2.1 wf_X11_180 (.inl rfl) ?_
        refine kz_icmp_ge (M := kt_M82) kX11_meeting_c1.2.2.2.1 (t := 35) rfl h (fun h => ?_) (fun h => ?_)
        · skip
          exact kz_weak [(0, .ref (w_adr E.2.1 10 0))] ⟨rfl, trivial⟩ rfl (zt_X11_meeting_p35 hL  h)
        · skip
          refine kz_iload_n (M := kt_M82) kX11_meeting_c1.2.2.2.2.1 rfl ?_
          refine kz_if_lt (M := kt_M82) kX11_meeting_c1.2.2.2.2.2.1 (t := 35) rfl h (fun h => ?_) (fun h => ?_)
          · skip
            exact kz_weak [(0, .ref (w_adr E.2.1 10 0))] ⟨rfl, trivial⟩ rfl (zt_X11_meeting_p35 hL  h)
          · skip
            refine kz_iload_n (M := kt_M82) kX11_meeting_c1.2.2.2.2.2.2.1 rfl ?_
            refine kz_bi (M := kt_M82) 7 kX11_meeting_c1.2.2.2.2.2.2.2.1 rfl ?_
            refine kz_icmp_lt (M := kt_M82) kX11_meeting_c2.1 (t := 37) rfl h (fun h => ?_) (fun h => ?_)
            · skip
              refine kz_aload_n (M := kt_M82) kX11_meeting_c2.2.2.2.1 rfl ?_
              refine kz_gfc (M := kt_M82) (x := 3577) (c := 10) (o := 0) kX11_meeting_c2.2.2.2.2.1 wf_X11_31 (.inl rfl) ?_
              refine kz_aload_n (M := kt_M82) kX11_meeting_c2.2.2.2.2.2.1 rfl ?_
              refine kz_gfi (M := kt_M82) (c := 10) (o := 0) kX11_meeting_c2.2.2.2.2.2.2.1 wf_X11_180 (.inl rfl) ?_
              refine kz_ic (M := kt_M82) 1 kX11_meeting_c2.2.2.2.2.2.2.2.1 rfl ?_
              refine kz_isub (M := kt_M82) kX11_meeting_c3.1 ?_
              refine kz_iload_n (M := kt_M82) kX11_meeting_c3.2.1 rfl ?_
              refine kz_isub (M := kt_M82) kX11_meeting_c3.2.2.1 ?_
              refine kz_bi (M := kt_M82) 64 kX11_meeting_c3.2.2.2.1 rfl ?_
              refine kz_irem (M := kt_M82) kX11_meeting_c3.2.2.2.2.1 (by decide) ?_
              refine kz_bi (M := kt_M82) 7 kX11_meeting_c3.2.2.2.2.2.1 rfl ?_
              refine kz_imul (M := kt_M82) kX11_meeting_c3.2.2.2.2.2.2.1 ?_
              refine kz_iload_n (M := kt_M82) kX11_meeting_c3.2.2.2.2.2.2.2.1 rfl ?_
              refine kz_iadd (M := kt_M82) kX11_meeting_c4.1 ?_
              refine kz_iald (M := kt_M82) (c := 10) (o := 0) (k := 17) (a := (E.2.1 3577)) kX11_meeting_c4.2.1 ow_10_0_17 oa_10_0_17 ot_0 h (fun h => ?_)
              exact kz_iret (M := kt_M82) kX11_meeting_c4.2.2.1 rfl rfl h
            · skip
              exact kz_weak [(0, .ref (w_adr E.2.1 10 0))] ⟨rfl, trivial⟩ rfl (zt_X11_meeting_p35 hL  h)
def zL_X11_start_p18 (E : zE) (L : Nat) (Q : kx_Rs → wS → Prop) (x1 : Int32) (w : wS) : Prop := kzE E L kt_M105 18 [(0, .ref (w_adr E.2.1 10 0)), (1, .int x1)] [] w Q
def zb_X11_start_p18 (E : zE) (L : Nat) (Q : kx_Rs → wS → Prop) (x1 : Int32) (w : wS) : Prop := (if w_i w 10 0 4 ≤ 0 then zw E (L - 25) kt_M87 [.ref (w_adr E.2.1 10 0), .null, .int 0] (ws_i (ws_i (ws_p (ws_p (ws_i (ws_i (ws_i (ws_i (ws_i (ws_i (ws_i (ws_i (ws_i (ws_i (ws_i (ws_i w 10 0 6 0) 10 0 7 0) 10 0 8 0) 10 0 9 0) 10 0 10 0) 10 0 11 0) 10 0 12 0) 10 0 19 0) 10 0 13 x1) 10 0 29 0) 10 0 27 0) 10 0 28 0) 10 0 22 none) 10 0 23 none) 10 0 32 0) 10 0 14 1) (wkr (fun v2 w1 => wle (ws_i (ws_i (ws_p (ws_p (ws_i (ws_i (ws_i (ws_i (ws_i (ws_i (ws_i (ws_i (ws_i (ws_i (ws_i (ws_i w 10 0 6 0) 10 0 7 0) 10 0 8 0) 10 0 9 0) 10 0 10 0) 10 0 11 0) 10 0 12 0) 10 0 19 0) 10 0 13 x1) 10 0 29 0) 10 0 27 0) 10 0 28 0) 10 0 22 none) 10 0 23 none) 10 0 32 0) 10 0 14 1) w1 → (∃ p3, v2 = some p3 ∧ w_l w1 E.2.1 17 p3 ∧ zw E (L - 21) kt_M117 [.ref (w_adr E.2.1 10 0), va_rf (v2)] (ws_i w1 10 0 20 (w_i w1 17 p3 2)) (wk0 (fun w4 => wle (ws_i w1 10 0 20 (w_i w1 17 p3 2)) w4 → Q (.inl none) w4) (fun e w => Q (.inr e) w)))) (fun e w => Q (.inr e) w)) else (kx_inb ((w_i w 10 0 4) - 1) (w_n w 10 0 3) = true ∧ (∃ p6, w_r w 10 0 3 (((w_i w 10 0 4) - 1)).toNatClampNeg = some p6 ∧ w_l (ws_i w 10 0 4 ((w_i w 10 0 4) - 1)) E.2.1 17 p6 ∧ zL_X11_start_p18 E L Q x1 (ws_p (ws_p (ws_i w 10 0 4 ((w_i w 10 0 4) - 1)) 17 p6 11 (w_p w 10 0 5)) 10 0 5 (w_r w 10 0 3 (((w_i w 10 0 4) - 1)).toNatClampNeg)))))
theorem zt_X11_start_p18 {E : zE} {L : Nat} {Q : kx_Rs → wS → Prop} {x1 : Int32} {w : wS} (hL : 25 ≤ L) (h : zb_X11_start_p18 E L Q x1 w) : kzE E L kt_M105 18 [(0, .ref (w_adr E.2.1 10 0)), (1, .int x1)] [] w Q := by
  unfold zb_X11_start_p18 at h
  refine kz_aload_n (M := kt_M105) kX11_start_c1.1 rfl ?_
  refine kz_gfi (M := kt_M105) (c := 10) (o := 0) kX11_start_c1.2.1 wf_X11_107 (.inl rfl) ?_
  refine kz_if_le (M := kt_M105) kX11_start_c1.2.2.1 (t := 58) rfl h (fun h => ?_) (fun h => ?_)
  · skip
    refine kz_aload_n (M := kt_M105) kX11_start_c3.2.2.2.2.2.2.1 rfl ?_
    refine kz_ic (M := kt_M105) 0 kX11_start_c3.2.2.2.2.2.2.2.1 rfl ?_
    refine kz_pfi (M := kt_M105) (c := 10) (o := 0) kX11_start_c4.1 wq_X11_98 (.inl rfl) ?_
    refine kz_aload_n (M := kt_M105) kX11_start_c4.2.1 rfl ?_
    refine kz_ic (M := kt_M105) 0 kX11_start_c4.2.2.1 rfl ?_
    refine kz_pfi (M := kt_M105) (c := 10) (o := 0) kX11_start_c4.2.2.2.1 wq_X11_174 (.inl rfl) ?_
    refine kz_aload_n (M := kt_M105) kX11_start_c4.2.2.2.2.1 rfl ?_
    refine kz_ic (M := kt_M105) 0 kX11_start_c4.2.2.2.2.2.1 rfl ?_
    refine kz_pfi (M := kt_M105) (c := 10) (o := 0) kX11_start_c4.2.2.2.2.2.2.1 wq_X11_177 (.inl rfl) ?_
    refine kz_aload_n (M := kt_M105) kX11_start_c4.2.2.2.2.2.2.2.1 rfl ?_
    refine kz_ic (M := kt_M105) 0 kX11_start_c5.1 rfl ?_
    refine kz_pfi (M := kt_M105) (c := 10) (o := 0) kX11_start_c5.2.1 wq_X11_180 (.inl rfl) ?_
    refine kz_aload_n (M := kt_M105) kX11_start_c5.2.2.1 rfl ?_
    refine kz_ic (M := kt_M105) 0 kX11_start_c5.2.2.2.1 rfl ?_
    refine kz_pfi (M := kt_M105) (c := 10) (o := 0) kX11_start_c5.2.2.2.2.1 wq_X11_183 (.inl rfl) ?_
    refine kz_aload_n (M := kt_M105) kX11_start_c5.2.2.2.2.2.1 rfl ?_
    refine kz_ic (M := kt_M105) 0 kX11_start_c5.2.2.2.2.2.2.1 rfl ?_
    refine kz_pfi (M := kt_M105) (c := 10) (o := 0) kX11_start_c5.2.2.2.2.2.2.2.1 wq_X11_186 (.inl rfl) ?_
    refine kz_aload_n (M := kt_M105) kX11_start_c6.1 rfl ?_
    refine kz_ic (M := kt_M105) 0 kX11_start_c6.2.1 rfl ?_
    refine kz_pfi (M := kt_M105) (c := 10) (o := 0) kX11_start_c6.2.2.1 wq_X11_189 (.inl rfl) ?_
    refine kz_aload_n (M := kt_M105) kX11_start_c6.2.2.2.1 rfl ?_
    refine kz_ic (M := kt_M105) 0 kX11_start_c6.2.2.2.2.1 rfl ?_
    refine kz_pfi (M := kt_M105) (c := 10) (o := 0) kX11_start_c6.2.2.2.2.2.1 wq_X11_192 (.inl rfl) ?_
    refine kz_aload_n (M := kt_M105) kX11_start_c6.2.2.2.2.2.2.1 rfl ?_
    refine kz_iload_n (M := kt_M105) kX11_start_c6.2.2.2.2.2.2.2.1 rfl ?_
    refine kz_pfi (M := kt_M105) (c := 10) (o := 0) kX11_start_c7.1 wq_X11_195 (.inl rfl) ?_
    refine kz_aload_n (M := kt_M105) kX11_start_c7.2.1 rfl ?_
    refine kz_ic (M := kt_M105) 0 kX11_start_c7.2.2.1 rfl ?_
    refine kz_pfi (M := kt_M105) (c := 10) (o := 0) kX11_start_c7.2.2.2.1 wq_X11_45 (.inl rfl) ?_
    refine kz_aload_n (M := kt_M105) kX11_start_c7.2.2.2.2.1 rfl ?_
    refine kz_ic (M := kt_M105) 0 kX11_start_c7.2.2.2.2.2.1 rfl ?_
    refine kz_pfi (M := kt_M105) (c := 10) (o := 0) kX11_start_c7.2.2.2.2.2.2.1 wq_X11_135 (.inl rfl) ?_
    refine kz_aload_n (M := kt_M105) kX11_start_c7.2.2.2.2.2.2.2.1 rfl ?_
    refine kz_ic (M := kt_M105) 0 kX11_start_c8.1 rfl ?_
    refine kz_pfi (M := kt_M105) (c := 10) (o := 0) kX11_start_c8.2.1 wq_X11_198 (.inl rfl) ?_
    refine kz_aload_n (M := kt_M105) kX11_start_c8.2.2.1 rfl ?_
    refine kz_null (M := kt_M105) kX11_start_c8.2.2.2.1 ?_
    refine kz_pfp (M := kt_M105) (n := none) (c := 10) (o := 0) kX11_start_c8.2.2.2.2.1 wq_X11_201 (.inl rfl) ?_
    refine kz_aload_n (M := kt_M105) kX11_start_c8.2.2.2.2.2.1 rfl ?_
    refine kz_null (M := kt_M105) kX11_start_c8.2.2.2.2.2.2.1 ?_
    refine kz_pfp (M := kt_M105) (n := none) (c := 10) (o := 0) kX11_start_c8.2.2.2.2.2.2.2.1 wq_X11_151 (.inl rfl) ?_
    refine kz_aload_n (M := kt_M105) kX11_start_c9.1 rfl ?_
    refine kz_ic (M := kt_M105) 0 kX11_start_c9.2.1 rfl ?_
    refine kz_pfz (M := kt_M105) (c := 10) (o := 0) kX11_start_c9.2.2.1 wq_X11_204 (.inl rfl) (by decide) ?_
    refine kz_aload_n (M := kt_M105) kX11_start_c9.2.2.2.1 rfl ?_
    refine kz_ic (M := kt_M105) 1 kX11_start_c9.2.2.2.2.1 rfl ?_
    refine kz_pfz (M := kt_M105) (c := 10) (o := 0) kX11_start_c9.2.2.2.2.2.1 wq_X11_207 (.inl rfl) (by decide) ?_
    refine kz_aload_n (M := kt_M105) kX11_start_c9.2.2.2.2.2.2.1 rfl ?_
    refine kz_null (M := kt_M105) kX11_start_c9.2.2.2.2.2.2.2.1 ?_
    refine kz_ic (M := kt_M105) 0 kX11_start_c10.1 rfl ?_
    refine kz_cvr (M := kt_M105) (c := 10) (o := 0) (As := [.null, .int 0]) (rest := []) kX11_start_c10.2.1 wl_X11_210 wMv_87 rfl (.inl rfl) rfl (Nat.le_trans (Nat.le_of_ble_eq_true rfl) hL) (Nat.le_of_ble_eq_true rfl) (Nat.le_of_ble_eq_true rfl) h (fun v2 w1 hle h => ?_) (fun _ _ _ h => kzx_no rfl h)
    have h := h hle
    refine kz_stv_n (M := kt_M105) (x := v2) [(0, .ref (w_adr E.2.1 10 0))] kX11_start_c10.2.2.1 (Nat.le_of_ble_eq_true rfl) ⟨⟨rfl, rfl, .inl rfl⟩, trivial⟩ rfl ?_
    refine kz_aload_n (M := kt_M105) kX11_start_c10.2.2.2.1 rfl ?_
    refine kz_aload_nv (M := kt_M105) (x := v2) kX11_start_c10.2.2.2.2.1 rfl ?_
    obtain ⟨p3, hxp3, hlp3, h⟩ := h
    refine kz_nz0 (x := v2) hxp3 ?_
    refine kz_gfi (M := kt_M105) (c := 17) (o := p3) kX11_start_c10.2.2.2.2.2.1 wf_X11_91 (.inr (by exact hlp3)) ?_
    refine kz_pfi (M := kt_M105) (c := 10) (o := 0) kX11_start_c10.2.2.2.2.2.2.1 wq_X11_214 (.inl rfl) ?_
    refine kz_aload_n (M := kt_M105) kX11_start_c10.2.2.2.2.2.2.2.1 rfl ?_
    refine kz_aload_nv (M := kt_M105) (x := v2) kX11_start_c11.1 rfl ?_
    refine kz_cv0 (M := kt_M105) (c := 10) (o := 0) (As := [va_rf (v2)]) (rest := []) kX11_start_c11.2.1 wl_X11_217 wMv_117 rfl (.inl rfl) rfl (Nat.le_trans (Nat.le_of_ble_eq_true rfl) hL) (by simp [lg_sl, w_cat, z_ci, z_cr, z_cl, z_cn, kt_M117]) (Nat.le_of_ble_eq_true rfl) h (fun w4 hle h => ?_) (fun _ _ _ h => kzx_no rfl h)
    have h := h hle
    have hlp3 := w_l_le hlp3 hle
    exact kz_ret (M := kt_M105) kX11_start_c11.2.2.1 rfl h
  · skip
    refine kz_aload_n (M := kt_M105) kX11_start_c1.2.2.2.1 rfl ?_
    refine kz_gfc (M := kt_M105) (x := 3563) (c := 10) (o := 0) kX11_start_c1.2.2.2.2.1 wf_X11_20 (.inl rfl) ?_
    refine kz_aload_n (M := kt_M105) kX11_start_c1.2.2.2.2.2.1 rfl ?_
    refine kz_dup (M := kt_M105) kX11_start_c1.2.2.2.2.2.2.1 rfl ?_
    refine kz_gfi (M := kt_M105) (c := 10) (o := 0) kX11_start_c1.2.2.2.2.2.2.2.1 wf_X11_107 (.inl rfl) ?_
    refine kz_ic (M := kt_M105) 1 kX11_start_c2.1 rfl ?_
    refine kz_isub (M := kt_M105) kX11_start_c2.2.1 ?_
    refine kz_dup_x1 (M := kt_M105) kX11_start_c2.2.2.1 ⟨rfl, rfl⟩ ?_
    refine kz_pfi (M := kt_M105) (c := 10) (o := 0) kX11_start_c2.2.2.2.1 wq_X11_107 (.inl rfl) ?_
    refine kz_aaldR (M := kt_M105) (τ := 4) (n := w_n w 10 0 3) (c := 10) (o := 0) (k := 3) (a := (E.2.1 3563)) (w_r w 10 0 3 (((w_i w 10 0 4) - 1)).toNatClampNeg) kX11_start_c2.2.2.2.2.1 ow_10_0_3 oa_10_0_3 ot_8 rfl rd_n_i rd_r_i h (fun h => ?_)
    refine kz_stv_n (M := kt_M105) (x := w_r w 10 0 3 (((w_i w 10 0 4) - 1)).toNatClampNeg) [(0, .ref (w_adr E.2.1 10 0)), (1, .int x1)] kX11_start_c2.2.2.2.2.2.1 (Nat.le_of_ble_eq_true rfl) ⟨⟨rfl, rfl, .inl rfl⟩, ⟨⟨rfl, rfl, .inr rfl⟩, trivial⟩⟩ rfl ?_
    refine kz_aload_nv (M := kt_M105) (x := w_r w 10 0 3 (((w_i w 10 0 4) - 1)).toNatClampNeg) kX11_start_c2.2.2.2.2.2.2.1 rfl ?_
    refine kz_aload_n (M := kt_M105) kX11_start_c2.2.2.2.2.2.2.2.1 rfl ?_
    refine kz_gfpR (M := kt_M105) (c := 10) (o := 0) (w_p w 10 0 5) kX11_start_c3.1 wf_X11_68 (.inl rfl) rd_p_i ?_
    obtain ⟨p6, hxp6, hlp6, h⟩ := h
    refine kz_nz1 (x := w_r w 10 0 3 (((w_i w 10 0 4) - 1)).toNatClampNeg) hxp6 ?_
    refine kz_pfp (M := kt_M105) (n := w_p w 10 0 5) (c := 17) (o := p6) kX11_start_c3.2.1 wq_X11_73 (.inr (by exact hlp6)) ?_
    refine kz_aload_n (M := kt_M105) kX11_start_c3.2.2.1 rfl ?_
    refine kz_aload_nv (M := kt_M105) (x := w_r w 10 0 3 (((w_i w 10 0 4) - 1)).toNatClampNeg) kX11_start_c3.2.2.2.1 rfl ?_
    refine kz_pfp (M := kt_M105) (n := w_r w 10 0 3 (((w_i w 10 0 4) - 1)).toNatClampNeg) (c := 10) (o := 0) kX11_start_c3.2.2.2.2.1 wq_X11_68 (.inl rfl) ?_
    refine kz_goto (M := kt_M105) kX11_start_c3.2.2.2.2.2.1 (t := 18) rfl ?_
    exact kz_weak [(0, .ref (w_adr E.2.1 10 0)), (1, .int x1)] ⟨rfl, ⟨rfl, trivial⟩⟩ rfl h
def zb_X11_start_p0 (E : zE) (L : Nat) (Q : kx_Rs → wS → Prop) (x1 : Int32) (w : wS) : Prop := zw E (L - 20) kt_M120 [.ref (w_adr E.2.1 11 0)] (ws_p w 10 0 2 (some (w_adr E.2.1 9 0))) (wk0 (fun w1 => wle (ws_p w 10 0 2 (some (w_adr E.2.1 9 0))) w1 → zL_X11_start_p18 E L Q x1 w1) (fun e w => Q (.inr e) w))
theorem zt_X11_start_p0 {E : zE} {L : Nat} {Q : kx_Rs → wS → Prop} {x1 : Int32} {w : wS} (hL : 25 ≤ L) (h : zb_X11_start_p0 E L Q x1 w) : kzE E L kt_M105 0 [(0, .ref (w_adr E.2.1 10 0)), (1, .int x1)] [] w Q := by
  unfold zb_X11_start_p0 at h
  refine kz_aload_n (M := kt_M105) kX11_start_c0.1 rfl ?_
  refine kz_aload_n (M := kt_M105) kX11_start_c0.2.1 rfl ?_
  refine kz_gfc (M := kt_M105) (x := 32) (c := 10) (o := 0) kX11_start_c0.2.2.1 wf_X11_41 (.inl rfl) ?_
  refine kz_gfc (M := kt_M105) (x := 36) (c := 8) (o := 0) kX11_start_c0.2.2.2.1 wf_X11_170 (.inl rfl) ?_
  refine kz_pfp (M := kt_M105) (n := some (w_adr E.2.1 9 0)) (c := 10) (o := 0) kX11_start_c0.2.2.2.2.1 wq_X11_55 (.inl rfl) ?_
  refine kz_aload_n (M := kt_M105) kX11_start_c0.2.2.2.2.2.1 rfl ?_
  refine kz_gfc (M := kt_M105) (x := 44) (c := 10) (o := 0) kX11_start_c0.2.2.2.2.2.2.1 wf_X11_12 (.inl rfl) ?_
  refine kz_cv0 (M := kt_M105) (c := 11) (o := 0) (As := []) (rest := []) kX11_start_c0.2.2.2.2.2.2.2.1 wl_X11_171 wMv_120 rfl (.inl rfl) rfl (Nat.le_trans (Nat.le_of_ble_eq_true rfl) hL) (Nat.le_of_ble_eq_true rfl) (Nat.le_of_ble_eq_true rfl) h (fun w1 hle h => ?_) (fun _ _ _ h => kzx_no rfl h)
  have h := h hle
  exact kz_weak [(0, .ref (w_adr E.2.1 10 0)), (1, .int x1)] ⟨rfl, ⟨rfl, trivial⟩⟩ rfl h
def zL_X11_step_p61 (E : zE) (L : Nat) (Q : kx_Rs → wS → Prop) (x2 : Int32) (x3 : Int32) (w : wS) : Prop := kzE E L kt_M106 61 [(0, .ref (w_adr E.2.1 10 0)), (2, .int x2), (3, .int x3)] [] w Q
def zb_X11_step_p230 (E : zE) (L : Nat) (Q : kx_Rs → wS → Prop) (w : wS) : Prop := zw E (L - 24) kt_M115 [.ref (w_adr E.2.1 10 0)] (ws_i w 10 0 8 ((w_i w 10 0 8) + 1)) (wk0 (fun w1 => wle (ws_i w 10 0 8 ((w_i w 10 0 8) + 1)) w1 → Q (.inl (some (.int 1))) w1) (fun e w => Q (.inr e) w))
theorem zt_X11_step_p230 {E : zE} {L : Nat} {Q : kx_Rs → wS → Prop} {w : wS} (hL : 25 ≤ L) (h : zb_X11_step_p230 E L Q  w) : kzE E L kt_M106 230 [(0, .ref (w_adr E.2.1 10 0))] [] w Q := by
  unfold zb_X11_step_p230 at h
  refine kz_aload_n (M := kt_M106) kX11_step_c15.1 rfl ?_
  refine kz_dup (M := kt_M106) kX11_step_c15.2.1 rfl ?_
  refine kz_gfi (M := kt_M106) (c := 10) (o := 0) kX11_step_c15.2.2.1 wf_X11_177 (.inl rfl) ?_
  refine kz_ic (M := kt_M106) 1 kX11_step_c15.2.2.2.1 rfl ?_
  refine kz_iadd (M := kt_M106) kX11_step_c15.2.2.2.2.1 ?_
  refine kz_pfi (M := kt_M106) (c := 10) (o := 0) kX11_step_c15.2.2.2.2.2.1 wq_X11_177 (.inl rfl) ?_
  refine kz_aload_n (M := kt_M106) kX11_step_c15.2.2.2.2.2.2.1 rfl ?_
  refine kz_cv0 (M := kt_M106) (c := 10) (o := 0) (As := []) (rest := []) kX11_step_c15.2.2.2.2.2.2.2.1 wl_X11_264 wMv_115 rfl (.inl rfl) rfl (Nat.le_trans (Nat.le_of_ble_eq_true rfl) hL) (Nat.le_of_ble_eq_true rfl) (Nat.le_of_ble_eq_true rfl) h (fun w1 hle h => ?_) (fun _ _ _ h => kzx_no rfl h)
  have h := h hle
  refine kz_ic (M := kt_M106) 1 kX11_step_c16.1 rfl ?_
  exact kz_iretz (M := kt_M106) kX11_step_c16.2.1 rfl (by decide) h
def zb_X11_step_p190 (E : zE) (L : Nat) (Q : kx_Rs → wS → Prop) (x4 : Option Nat) (w : wS) : Prop := (∃ p1, x4 = some p1 ∧ w_l w E.2.1 17 p1 ∧ zw E (L - 21) kt_M117 [.ref (w_adr E.2.1 10 0), va_rf (x4)] (ws_i w 17 p1 19 0) (wk0 (fun w2 => wle (ws_i w 17 p1 19 0) w2 → (if (w_p w2 10 0 22) = none then zb_X11_step_p230 E L Q w2 else (∃ p4, w_p w2 10 0 22 = some p4 ∧ w_l w2 E.2.1 17 p4 ∧ (if w_p w2 17 p4 9 = some (E.1.1 65) then zb_X11_step_p230 E L Q w2 else zw E (L - 21) kt_M117 [.ref (w_adr E.2.1 10 0), va_rf (w_p w2 10 0 22)] w2 (wk0 (fun w5 => wle w2 w5 → zb_X11_step_p230 E L Q w5) (fun e w => Q (.inr e) w)))))) (fun e w => Q (.inr e) w)))
theorem zt_X11_step_p190 {E : zE} {L : Nat} {Q : kx_Rs → wS → Prop} {x4 : Option Nat} {w : wS} (hL : 25 ≤ L) (h : zb_X11_step_p190 E L Q x4 w) : kzE E L kt_M106 190 [(0, .ref (w_adr E.2.1 10 0)), (4, va_rf (x4))] [] w Q := by
  unfold zb_X11_step_p190 at h
  refine kz_aloadv (M := kt_M106) (x := x4) kX11_step_c12.2.2.2.2.2.2.1 rfl ?_
  refine kz_ic (M := kt_M106) 0 kX11_step_c12.2.2.2.2.2.2.2.1 rfl ?_
  obtain ⟨p1, hxp1, hlp1, h⟩ := h
  refine kz_nz1 (x := x4) hxp1 ?_
  refine kz_pfz (M := kt_M106) (c := 17) (o := p1) kX11_step_c13.1 wq_X11_270 (.inr (by exact hlp1)) (by decide) ?_
  refine kz_aload_n (M := kt_M106) kX11_step_c13.2.1 rfl ?_
  refine kz_aloadv (M := kt_M106) (x := x4) kX11_step_c13.2.2.1 rfl ?_
  refine kz_cv0 (M := kt_M106) (c := 10) (o := 0) (As := [va_rf (x4)]) (rest := []) kX11_step_c13.2.2.2.1 wl_X11_217 wMv_117 rfl (.inl rfl) rfl (Nat.le_trans (Nat.le_of_ble_eq_true rfl) hL) (by simp [lg_sl, w_cat, z_ci, z_cr, z_cl, z_cn, kt_M117]) (Nat.le_of_ble_eq_true rfl) h (fun w2 hle h => ?_) (fun _ _ _ h => kzx_no rfl h)
  have h := h hle
  have hlp1 := w_l_le hlp1 hle
  refine kz_aload_n (M := kt_M106) kX11_step_c13.2.2.2.2.1 rfl ?_
  refine kz_gfp (M := kt_M106) (c := 10) (o := 0) kX11_step_c13.2.2.2.2.2.1 wf_X11_201 (.inl rfl) ?_
  refine kz_ifnull (M := kt_M106) (x := w_p w2 10 0 22) kX11_step_c13.2.2.2.2.2.2.1 (t := 230) rfl h (fun h => ?_) (fun h => ?_)
  · skip
    exact kz_weak [(0, .ref (w_adr E.2.1 10 0))] ⟨rfl, trivial⟩ rfl (zt_X11_step_p230 hL  h)
  · skip
    refine kz_aload_n (M := kt_M106) kX11_step_c13.2.2.2.2.2.2.2.1 rfl ?_
    refine kz_gfp (M := kt_M106) (c := 10) (o := 0) kX11_step_c14.1 wf_X11_201 (.inl rfl) ?_
    obtain ⟨p4, hxp4, hlp4, h⟩ := h
    refine kz_nz0 (x := w_p w2 10 0 22) hxp4 ?_
    refine kz_gfp (M := kt_M106) (c := 17) (o := p4) kX11_step_c14.2.1 wf_X11_125 (.inr (by exact hlp4)) ?_
    refine kz_getsE (M := kt_M106) (v := va_rf (some (E.1.1 65))) kX11_step_c14.2.2.1 zs_X11_119 ?_
    refine kz_acmp_eq (M := kt_M106) (x := w_p w2 17 p4 9) (y := some (E.1.1 65)) kX11_step_c14.2.2.2.1 (t := 230) rfl h (fun h => ?_) (fun h => ?_)
    · skip
      exact kz_weak [(0, .ref (w_adr E.2.1 10 0))] ⟨rfl, trivial⟩ rfl (zt_X11_step_p230 hL  h)
    · skip
      refine kz_aload_n (M := kt_M106) kX11_step_c14.2.2.2.2.1 rfl ?_
      refine kz_aload_n (M := kt_M106) kX11_step_c14.2.2.2.2.2.1 rfl ?_
      refine kz_gfp (M := kt_M106) (c := 10) (o := 0) kX11_step_c14.2.2.2.2.2.2.1 wf_X11_201 (.inl rfl) ?_
      refine kz_cv0 (M := kt_M106) (c := 10) (o := 0) (As := [va_rf (w_p w2 10 0 22)]) (rest := []) kX11_step_c14.2.2.2.2.2.2.2.1 wl_X11_217 wMv_117 rfl (.inl rfl) rfl (Nat.le_trans (Nat.le_of_ble_eq_true rfl) hL) (by simp [lg_sl, w_cat, z_ci, z_cr, z_cl, z_cn, kt_M117]) (Nat.le_of_ble_eq_true rfl) h (fun w5 hle h => ?_) (fun _ _ _ h => kzx_no rfl h)
      have h := h hle
      have hlp1 := w_l_le hlp1 hle
      have hlp4 := w_l_le hlp4 hle
      exact kz_weak [(0, .ref (w_adr E.2.1 10 0))] ⟨rfl, trivial⟩ rfl (zt_X11_step_p230 hL  h)
def zb_X11_step_p101 (E : zE) (L : Nat) (Q : kx_Rs → wS → Prop) (x3 : Int32) (y0 : Int32) (y1 : Int32) (w : wS) : Prop := zL_X11_step_p61 E L Q (y1 - y0) (x3 + 1) w
theorem zt_X11_step_p101 {E : zE} {L : Nat} {Q : kx_Rs → wS → Prop} {x3 : Int32} {y0 : Int32} {y1 : Int32} {w : wS} (hL : 25 ≤ L) (h : zb_X11_step_p101 E L Q x3 y0 y1 w) : kzE E L kt_M106 101 [(0, .ref (w_adr E.2.1 10 0)), (3, .int x3)] [.int y0, .int y1] w Q := by
  unfold zb_X11_step_p101 at h
  refine kz_isub (M := kt_M106) kX11_step_c7.2.1 ?_
  refine kz_sti_n (M := kt_M106) [(0, .ref (w_adr E.2.1 10 0)), (3, .int x3)] kX11_step_c7.2.2.1 (Nat.le_of_ble_eq_true rfl) ⟨⟨rfl, rfl, .inl rfl⟩, ⟨⟨rfl, rfl, .inl rfl⟩, trivial⟩⟩ rfl ?_
  refine kz_inc (M := kt_M106) [(0, .ref (w_adr E.2.1 10 0)), (2, .int (y1 - y0))] kX11_step_c7.2.2.2.1 rfl (Nat.le_of_ble_eq_true rfl) ⟨⟨rfl, rfl, .inl rfl⟩, ⟨⟨rfl, rfl, .inr rfl⟩, trivial⟩⟩ rfl ?_
  refine kz_goto (M := kt_M106) kX11_step_c7.2.2.2.2.1 (t := 61) rfl ?_
  exact kz_weak [(0, .ref (w_adr E.2.1 10 0)), (2, .int (y1 - y0)), (3, .int (x3 + 1))] ⟨rfl, ⟨rfl, ⟨rfl, trivial⟩⟩⟩ rfl h
def zb_X11_step_p80 (E : zE) (L : Nat) (Q : kx_Rs → wS → Prop) (x2 : Int32) (x3 : Int32) (w : wS) : Prop := (kx_inb x3 (w_n w 10 0 3) = true ∧ (∃ p1, w_r w 10 0 3 (x3).toNatClampNeg = some p1 ∧ w_l w E.2.1 17 p1 ∧ (if ¬ w_p w 17 p1 9 = some (E.1.1 61) then zb_X11_step_p101 E L Q x3 0 x2 w else zb_X11_step_p101 E L Q x3 1 x2 w)))
theorem zt_X11_step_p80 {E : zE} {L : Nat} {Q : kx_Rs → wS → Prop} {x2 : Int32} {x3 : Int32} {w : wS} (hL : 25 ≤ L) (h : zb_X11_step_p80 E L Q x2 x3 w) : kzE E L kt_M106 80 [(0, .ref (w_adr E.2.1 10 0)), (2, .int x2), (3, .int x3)] [] w Q := by
  unfold zb_X11_step_p80 at h
  refine kz_iload_n (M := kt_M106) kX11_step_c5.2.2.2.2.2.2.1 rfl ?_
  refine kz_aload_n (M := kt_M106) kX11_step_c5.2.2.2.2.2.2.2.1 rfl ?_
  refine kz_gfc (M := kt_M106) (x := 3563) (c := 10) (o := 0) kX11_step_c6.1 wf_X11_20 (.inl rfl) ?_
  refine kz_iload_n (M := kt_M106) kX11_step_c6.2.1 rfl ?_
  refine kz_aald (M := kt_M106) (τ := 4) (c := 10) (o := 0) (k := 3) (a := (E.2.1 3563)) kX11_step_c6.2.2.1 ow_10_0_3 oa_10_0_3 ot_8 rfl h (fun h => ?_)
  obtain ⟨p1, hxp1, hlp1, h⟩ := h
  refine kz_nz0 (x := w_r w 10 0 3 (x3).toNatClampNeg) hxp1 ?_
  refine kz_gfp (M := kt_M106) (c := 17) (o := p1) kX11_step_c6.2.2.2.1 wf_X11_125 (.inr (by exact hlp1)) ?_
  refine kz_getsE (M := kt_M106) (v := va_rf (some (E.1.1 61))) kX11_step_c6.2.2.2.2.1 zs_X11_154 ?_
  refine kz_acmp_ne (M := kt_M106) (x := w_p w 17 p1 9) (y := some (E.1.1 61)) kX11_step_c6.2.2.2.2.2.1 (t := 100) rfl h (fun h => ?_) (fun h => ?_)
  · skip
    refine kz_ic (M := kt_M106) 0 kX11_step_c7.1 rfl ?_
    exact kz_weak [(0, .ref (w_adr E.2.1 10 0)), (3, .int x3)] ⟨rfl, ⟨rfl, trivial⟩⟩ rfl (zt_X11_step_p101 hL  h)
  · skip
    refine kz_ic (M := kt_M106) 1 kX11_step_c6.2.2.2.2.2.2.1 rfl ?_
    refine kz_goto (M := kt_M106) kX11_step_c6.2.2.2.2.2.2.2.1 (t := 101) rfl ?_
    exact kz_weak [(0, .ref (w_adr E.2.1 10 0)), (3, .int x3)] ⟨rfl, ⟨rfl, trivial⟩⟩ rfl (zt_X11_step_p101 hL  h)
def zb_X11_step_p61 (E : zE) (L : Nat) (Q : kx_Rs → wS → Prop) (x2 : Int32) (x3 : Int32) (w : wS) : Prop := (kx_inb x3 (w_n w 10 0 3) = true ∧ (∃ p1, w_r w 10 0 3 (x3).toNatClampNeg = some p1 ∧ w_l w E.2.1 17 p1 ∧ (if ¬ w_p w 17 p1 9 = some (E.1.1 61) then zb_X11_step_p80 E L Q x2 x3 w else (if x2 ≤ 0 then (kx_inb x3 (w_n w 10 0 3) = true ∧ (if ¬ w_i w 17 p1 19 = 0 then zb_X11_step_p190 E L Q (w_r w 10 0 3 (x3).toNatClampNeg) (ws_p (ws_i (ws_i w 10 0 7 ((w_i w 10 0 7) + 1)) 10 0 28 0) 10 0 22 none) else (w_p w 10 0 2 = some (w_adr E.2.1 9 0) ∧ zw E (L - 21) kt_M221 [.ref (w_adr E.2.1 9 0), .int (w_i w 17 p1 1)] (ws_p (ws_i (ws_i w 10 0 7 ((w_i w 10 0 7) + 1)) 10 0 28 0) 10 0 22 none) (wk1 (fun v4 w3 => wle (ws_p (ws_i (ws_i w 10 0 7 ((w_i w 10 0 7) + 1)) 10 0 28 0) 10 0 22 none) w3 → (if ¬ v4 = 0 then zb_X11_step_p190 E L Q (w_r w 10 0 3 (x3).toNatClampNeg) w3 else (w_p w3 10 0 2 = some (w_adr E.2.1 9 0) ∧ zw E (L - 21) kt_M221 [.ref (w_adr E.2.1 9 0), .int ((w_i w3 17 p1 1) + 1)] w3 (wk1 (fun v7 w6 => wle w3 w6 → zb_X11_step_p190 E L Q (w_r w 10 0 3 (x3).toNatClampNeg) (ws_i (ws_i w6 17 p1 3 v7) 17 p1 1 ((w_i w6 17 p1 1) + 2))) (fun e w => Q (.inr e) w))))) (fun e w => Q (.inr e) w))))) else zb_X11_step_p80 E L Q x2 x3 w))))
theorem zt_X11_step_p61 {E : zE} {L : Nat} {Q : kx_Rs → wS → Prop} {x2 : Int32} {x3 : Int32} {w : wS} (hL : 25 ≤ L) (h : zb_X11_step_p61 E L Q x2 x3 w) : kzE E L kt_M106 61 [(0, .ref (w_adr E.2.1 10 0)), (2, .int x2), (3, .int x3)] [] w Q := by
  unfold zb_X11_step_p61 at h
  refine kz_aload_n (M := kt_M106) kX11_step_c4.2.2.2.2.2.1 rfl ?_
  refine kz_gfc (M := kt_M106) (x := 3563) (c := 10) (o := 0) kX11_step_c4.2.2.2.2.2.2.1 wf_X11_20 (.inl rfl) ?_
  refine kz_iload_n (M := kt_M106) kX11_step_c4.2.2.2.2.2.2.2.1 rfl ?_
  refine kz_aald (M := kt_M106) (τ := 4) (c := 10) (o := 0) (k := 3) (a := (E.2.1 3563)) kX11_step_c5.1 ow_10_0_3 oa_10_0_3 ot_8 rfl h (fun h => ?_)
  obtain ⟨p1, hxp1, hlp1, h⟩ := h
  refine kz_nz0 (x := w_r w 10 0 3 (x3).toNatClampNeg) hxp1 ?_
  refine kz_gfp (M := kt_M106) (c := 17) (o := p1) kX11_step_c5.2.1 wf_X11_125 (.inr (by exact hlp1)) ?_
  refine kz_getsE (M := kt_M106) (v := va_rf (some (E.1.1 61))) kX11_step_c5.2.2.1 zs_X11_154 ?_
  refine kz_acmp_ne (M := kt_M106) (x := w_p w 17 p1 9) (y := some (E.1.1 61)) kX11_step_c5.2.2.2.1 (t := 80) rfl h (fun h => ?_) (fun h => ?_)
  · skip
    exact kz_weak [(0, .ref (w_adr E.2.1 10 0)), (2, .int x2), (3, .int x3)] ⟨rfl, ⟨rfl, ⟨rfl, trivial⟩⟩⟩ rfl (zt_X11_step_p80 hL  h)
  · skip
    refine kz_iload_n (M := kt_M106) kX11_step_c5.2.2.2.2.1 rfl ?_
    refine kz_if_le (M := kt_M106) kX11_step_c5.2.2.2.2.2.1 (t := 109) rfl h (fun h => ?_) (fun h => ?_)
    · skip
      refine kz_aload_n (M := kt_M106) kX11_step_c7.2.2.2.2.2.1 rfl ?_
      refine kz_dup (M := kt_M106) kX11_step_c7.2.2.2.2.2.2.1 rfl ?_
      refine kz_gfi (M := kt_M106) (c := 10) (o := 0) kX11_step_c7.2.2.2.2.2.2.2.1 wf_X11_174 (.inl rfl) ?_
      refine kz_ic (M := kt_M106) 1 kX11_step_c8.1 rfl ?_
      refine kz_iadd (M := kt_M106) kX11_step_c8.2.1 ?_
      refine kz_pfi (M := kt_M106) (c := 10) (o := 0) kX11_step_c8.2.2.1 wq_X11_174 (.inl rfl) ?_
      refine kz_aload_n (M := kt_M106) kX11_step_c8.2.2.2.1 rfl ?_
      refine kz_ic (M := kt_M106) 0 kX11_step_c8.2.2.2.2.1 rfl ?_
      refine kz_pfi (M := kt_M106) (c := 10) (o := 0) kX11_step_c8.2.2.2.2.2.1 wq_X11_198 (.inl rfl) ?_
      refine kz_aload_n (M := kt_M106) kX11_step_c8.2.2.2.2.2.2.1 rfl ?_
      refine kz_null (M := kt_M106) kX11_step_c8.2.2.2.2.2.2.2.1 ?_
      refine kz_pfp (M := kt_M106) (n := none) (c := 10) (o := 0) kX11_step_c9.1 wq_X11_201 (.inl rfl) ?_
      refine kz_aload_n (M := kt_M106) kX11_step_c9.2.1 rfl ?_
      refine kz_gfc (M := kt_M106) (x := 3563) (c := 10) (o := 0) kX11_step_c9.2.2.1 wf_X11_20 (.inl rfl) ?_
      refine kz_iload_n (M := kt_M106) kX11_step_c9.2.2.2.1 rfl ?_
      refine kz_aaldR (M := kt_M106) (τ := 4) (n := w_n w 10 0 3) (c := 10) (o := 0) (k := 3) (a := (E.2.1 3563)) (w_r w 10 0 3 (x3).toNatClampNeg) kX11_step_c9.2.2.2.2.1 ow_10_0_3 oa_10_0_3 ot_8 rfl (rd_n_p.trans (rd_n_i.trans rd_n_i)) (rd_r_p.trans (rd_r_i.trans rd_r_i)) h (fun h => ?_)
      refine kz_stv (M := kt_M106) (x := w_r w 10 0 3 (x3).toNatClampNeg) [(0, .ref (w_adr E.2.1 10 0))] kX11_step_c9.2.2.2.2.2.1 (Nat.le_of_ble_eq_true rfl) ⟨⟨rfl, rfl, .inl rfl⟩, trivial⟩ rfl ?_
      refine kz_aloadv (M := kt_M106) (x := w_r w 10 0 3 (x3).toNatClampNeg) kX11_step_c9.2.2.2.2.2.2.1 rfl ?_
      refine kz_nz0 (x := w_r w 10 0 3 (x3).toNatClampNeg) hxp1 ?_
      refine kz_gfiR (M := kt_M106) (c := 17) (o := p1) (w_i w 17 p1 19) kX11_step_c9.2.2.2.2.2.2.2.1 wf_X11_270 (.inr (by exact hlp1)) (rd_i_p.trans ((rd_i_i rfl).trans (rd_i_i rfl))) ?_
      refine kz_if_ne (M := kt_M106) kX11_step_c10.1 (t := 190) rfl h (fun h => ?_) (fun h => ?_)
      · skip
        exact kz_weak [(0, .ref (w_adr E.2.1 10 0)), (4, va_rf (w_r w 10 0 3 (x3).toNatClampNeg))] ⟨rfl, ⟨rfl, trivial⟩⟩ rfl (zt_X11_step_p190 hL  h)
      · skip
        refine kz_aload_n (M := kt_M106) kX11_step_c10.2.1 rfl ?_
        refine kz_gfpR (M := kt_M106) (c := 10) (o := 0) (w_p w 10 0 2) kX11_step_c10.2.2.1 wf_X11_55 (.inl rfl) ((rd_p_p rfl).trans (rd_p_i.trans rd_p_i)) ?_
        refine kz_aloadv (M := kt_M106) (x := w_r w 10 0 3 (x3).toNatClampNeg) kX11_step_c10.2.2.2.1 rfl ?_
        refine kz_nz0 (x := w_r w 10 0 3 (x3).toNatClampNeg) hxp1 ?_
        refine kz_gfiR (M := kt_M106) (c := 17) (o := p1) (w_i w 17 p1 1) kX11_step_c10.2.2.2.2.1 wf_X11_113 (.inr (by exact hlp1)) (rd_i_p.trans ((rd_i_i rfl).trans (rd_i_i rfl))) ?_
        obtain ⟨hf2, h⟩ := h
        refine kz_nz1 (x := w_p w 10 0 2) hf2 ?_
        refine kz_cv1 (M := kt_M106) (c := 9) (o := 0) (As := [.int (w_i w 17 p1 1)]) (rest := []) kX11_step_c10.2.2.2.2.2.1 wl_X11_62 wMv_221 rfl (.inl rfl) rfl (Nat.le_trans (Nat.le_of_ble_eq_true rfl) hL) (Nat.le_of_ble_eq_true rfl) (Nat.le_of_ble_eq_true rfl) h (fun v4 w3 hle h => ?_) (fun _ _ _ h => kzx_no rfl h)
        have h := h hle
        have hlp1 := w_l_le hlp1 hle
        refine kz_if_ne (M := kt_M106) kX11_step_c10.2.2.2.2.2.2.1 (t := 190) rfl h (fun h => ?_) (fun h => ?_)
        · skip
          exact kz_weak [(0, .ref (w_adr E.2.1 10 0)), (4, va_rf (w_r w 10 0 3 (x3).toNatClampNeg))] ⟨rfl, ⟨rfl, trivial⟩⟩ rfl (zt_X11_step_p190 hL  h)
        · skip
          refine kz_aloadv (M := kt_M106) (x := w_r w 10 0 3 (x3).toNatClampNeg) kX11_step_c10.2.2.2.2.2.2.2.1 rfl ?_
          refine kz_aload_n (M := kt_M106) kX11_step_c11.1 rfl ?_
          refine kz_gfp (M := kt_M106) (c := 10) (o := 0) kX11_step_c11.2.1 wf_X11_55 (.inl rfl) ?_
          refine kz_aloadv (M := kt_M106) (x := w_r w 10 0 3 (x3).toNatClampNeg) kX11_step_c11.2.2.1 rfl ?_
          refine kz_nz0 (x := w_r w 10 0 3 (x3).toNatClampNeg) hxp1 ?_
          refine kz_gfi (M := kt_M106) (c := 17) (o := p1) kX11_step_c11.2.2.2.1 wf_X11_113 (.inr (by exact hlp1)) ?_
          refine kz_ic (M := kt_M106) 1 kX11_step_c11.2.2.2.2.1 rfl ?_
          refine kz_iadd (M := kt_M106) kX11_step_c11.2.2.2.2.2.1 ?_
          obtain ⟨hf5, h⟩ := h
          refine kz_nz1 (x := w_p w3 10 0 2) hf5 ?_
          refine kz_cv1 (M := kt_M106) (c := 9) (o := 0) (As := [.int ((w_i w3 17 p1 1) + 1)]) (rest := [va_rf (w_r w 10 0 3 (x3).toNatClampNeg)]) kX11_step_c11.2.2.2.2.2.2.1 wl_X11_62 wMv_221 rfl (.inl rfl) rfl (Nat.le_trans (Nat.le_of_ble_eq_true rfl) hL) (Nat.le_of_ble_eq_true rfl) (by simp [kx_cat, w_cat, z_ci, z_cr, z_cl, z_cn]) h (fun v7 w6 hle h => ?_) (fun _ _ _ h => kzx_no rfl h)
          have h := h hle
          have hlp1 := w_l_le hlp1 hle
          refine kz_nz1 (x := w_r w 10 0 3 (x3).toNatClampNeg) hxp1 ?_
          refine kz_pfi (M := kt_M106) (c := 17) (o := p1) kX11_step_c11.2.2.2.2.2.2.2.1 wq_X11_273 (.inr (by exact hlp1)) ?_
          refine kz_aloadv (M := kt_M106) (x := w_r w 10 0 3 (x3).toNatClampNeg) kX11_step_c12.1 rfl ?_
          refine kz_dup (M := kt_M106) kX11_step_c12.2.1 (w_cat _) ?_
          refine kz_nz0 (x := w_r w 10 0 3 (x3).toNatClampNeg) hxp1 ?_
          refine kz_gfiR (M := kt_M106) (c := 17) (o := p1) (w_i w6 17 p1 1) kX11_step_c12.2.2.1 wf_X11_113 (.inr (by exact hlp1)) (rd_i_i rfl) ?_
          refine kz_ic (M := kt_M106) 2 kX11_step_c12.2.2.2.1 rfl ?_
          refine kz_iadd (M := kt_M106) kX11_step_c12.2.2.2.2.1 ?_
          refine kz_nz1 (x := w_r w 10 0 3 (x3).toNatClampNeg) hxp1 ?_
          refine kz_pfi (M := kt_M106) (c := 17) (o := p1) kX11_step_c12.2.2.2.2.2.1 wq_X11_113 (.inr (by exact hlp1)) ?_
          exact kz_weak [(0, .ref (w_adr E.2.1 10 0)), (4, va_rf (w_r w 10 0 3 (x3).toNatClampNeg))] ⟨rfl, ⟨rfl, trivial⟩⟩ rfl (zt_X11_step_p190 hL  h)
    · skip
      exact kz_weak [(0, .ref (w_adr E.2.1 10 0)), (2, .int x2), (3, .int x3)] ⟨rfl, ⟨rfl, ⟨rfl, trivial⟩⟩⟩ rfl (zt_X11_step_p80 hL  h)
def zb_X11_step_p53 (E : zE) (L : Nat) (Q : kx_Rs → wS → Prop) (x1 : Int32) (w : wS) : Prop := zw E (L - 21) kt_M69 [.ref (w_adr E.2.1 10 0), .int x1] w (wk1 (fun v2 w1 => wle w w1 → zL_X11_step_p61 E L Q v2 0 w1) (fun e w => Q (.inr e) w))
theorem zt_X11_step_p53 {E : zE} {L : Nat} {Q : kx_Rs → wS → Prop} {x1 : Int32} {w : wS} (hL : 25 ≤ L) (h : zb_X11_step_p53 E L Q x1 w) : kzE E L kt_M106 53 [(0, .ref (w_adr E.2.1 10 0)), (1, .int x1)] [] w Q := by
  unfold zb_X11_step_p53 at h
  refine kz_aload_n (M := kt_M106) kX11_step_c3.2.2.2.2.2.2.2.1 rfl ?_
  refine kz_iload_n (M := kt_M106) kX11_step_c4.1 rfl ?_
  refine kz_cv1 (M := kt_M106) (c := 10) (o := 0) (As := [.int x1]) (rest := []) kX11_step_c4.2.1 wl_X11_267 wMv_69 rfl (.inl rfl) rfl (Nat.le_trans (Nat.le_of_ble_eq_true rfl) hL) (Nat.le_of_ble_eq_true rfl) (Nat.le_of_ble_eq_true rfl) h (fun v2 w1 hle h => ?_) (fun _ _ _ h => kzx_no rfl h)
  have h := h hle
  refine kz_sti_n (M := kt_M106) [(0, .ref (w_adr E.2.1 10 0))] kX11_step_c4.2.2.1 (Nat.le_of_ble_eq_true rfl) ⟨⟨rfl, rfl, .inl rfl⟩, trivial⟩ rfl ?_
  refine kz_ic (M := kt_M106) 0 kX11_step_c4.2.2.2.1 rfl ?_
  refine kz_sti_n (M := kt_M106) [(0, .ref (w_adr E.2.1 10 0)), (2, .int v2)] kX11_step_c4.2.2.2.2.1 (Nat.le_of_ble_eq_true rfl) ⟨⟨rfl, rfl, .inl rfl⟩, ⟨⟨rfl, rfl, .inr rfl⟩, trivial⟩⟩ rfl ?_
  exact kz_weak [(0, .ref (w_adr E.2.1 10 0)), (2, .int v2), (3, .int 0)] ⟨rfl, ⟨rfl, ⟨rfl, trivial⟩⟩⟩ rfl h
def zb_X11_step_p15 (E : zE) (L : Nat) (Q : kx_Rs → wS → Prop) (y0 : Int32) (w : wS) : Prop := (if ¬ y0 = 0 then zb_X11_step_p53 E L Q y0 w else zw E (L - 25) kt_M86 [.ref (w_adr E.2.1 10 0)] w (wkl (fun v2 w1 => wle w w1 → (if ¬ (lg_cmp v2 0) = 0 then zw E (L - 24) kt_M115 [.ref (w_adr E.2.1 10 0)] (ws_i w1 10 0 8 ((w_i w1 10 0 8) + ((v2).toInt32))) (wk0 (fun w3 => wle (ws_i w1 10 0 8 ((w_i w1 10 0 8) + ((v2).toInt32))) w3 → zw E (L - 22) kt_M99 [.ref (w_adr E.2.1 10 0)] w3 (wk1 (fun v6 w5 => wle w3 w5 → zb_X11_step_p53 E L Q v6 w5) (fun e w => Q (.inr e) w))) (fun e w => Q (.inr e) w)) else Q (.inl (some (.int 0))) w1)) (fun e w => Q (.inr e) w)))
theorem zt_X11_step_p15 {E : zE} {L : Nat} {Q : kx_Rs → wS → Prop} {y0 : Int32} {w : wS} (hL : 25 ≤ L) (h : zb_X11_step_p15 E L Q y0 w) : kzE E L kt_M106 15 [(0, .ref (w_adr E.2.1 10 0))] [.int y0] w Q := by
  unfold zb_X11_step_p15 at h
  refine kz_sti_n (M := kt_M106) [(0, .ref (w_adr E.2.1 10 0))] kX11_step_c0.2.2.2.2.2.2.2.1 (Nat.le_of_ble_eq_true rfl) ⟨⟨rfl, rfl, .inr rfl⟩, trivial⟩ rfl ?_
  refine kz_iload_n (M := kt_M106) kX11_step_c1.1 rfl ?_
  refine kz_if_ne (M := kt_M106) kX11_step_c1.2.1 (t := 53) rfl h (fun h => ?_) (fun h => ?_)
  · skip
    exact kz_weak [(0, .ref (w_adr E.2.1 10 0)), (1, .int y0)] ⟨rfl, ⟨rfl, trivial⟩⟩ rfl (zt_X11_step_p53 hL  h)
  · skip
    refine kz_aload_n (M := kt_M106) kX11_step_c1.2.2.1 rfl ?_
    refine kz_cvl (M := kt_M106) (c := 10) (o := 0) (As := []) (rest := []) kX11_step_c1.2.2.2.1 wl_X11_256 wMv_86 rfl (.inl rfl) rfl (Nat.le_trans (Nat.le_of_ble_eq_true rfl) hL) (Nat.le_of_ble_eq_true rfl) (Nat.le_of_ble_eq_true rfl) h (fun v2 w1 hle h => ?_) (fun _ _ _ h => kzx_no rfl h)
    have h := h hle
    refine kz_stl_n (M := kt_M106) [(0, .ref (w_adr E.2.1 10 0))] kX11_step_c1.2.2.2.2.1 (Nat.le_of_ble_eq_true rfl) ⟨⟨rfl, rfl, .inl rfl⟩, trivial⟩ rfl rfl ?_
    refine kz_lload_n (M := kt_M106) kX11_step_c1.2.2.2.2.2.1 rfl ?_
    refine kz_lconst (M := kt_M106) kX11_step_c1.2.2.2.2.2.2.1 ?_
    refine kz_lcmp (M := kt_M106) kX11_step_c1.2.2.2.2.2.2.2.1 ?_
    refine kz_if_ne (M := kt_M106) kX11_step_c2.1 (t := 33) rfl h (fun h => ?_) (fun h => ?_)
    · skip
      refine kz_aload_n (M := kt_M106) kX11_step_c2.2.2.2.1 rfl ?_
      refine kz_dup (M := kt_M106) kX11_step_c2.2.2.2.2.1 rfl ?_
      refine kz_gfi (M := kt_M106) (c := 10) (o := 0) kX11_step_c2.2.2.2.2.2.1 wf_X11_177 (.inl rfl) ?_
      refine kz_lload_n (M := kt_M106) kX11_step_c2.2.2.2.2.2.2.1 rfl ?_
      refine kz_l2i (M := kt_M106) kX11_step_c2.2.2.2.2.2.2.2.1 ?_
      refine kz_iadd (M := kt_M106) kX11_step_c3.1 ?_
      refine kz_pfi (M := kt_M106) (c := 10) (o := 0) kX11_step_c3.2.1 wq_X11_177 (.inl rfl) ?_
      refine kz_aload_n (M := kt_M106) kX11_step_c3.2.2.1 rfl ?_
      refine kz_cv0 (M := kt_M106) (c := 10) (o := 0) (As := []) (rest := []) kX11_step_c3.2.2.2.1 wl_X11_264 wMv_115 rfl (.inl rfl) rfl (Nat.le_trans (Nat.le_of_ble_eq_true rfl) hL) (Nat.le_of_ble_eq_true rfl) (Nat.le_of_ble_eq_true rfl) h (fun w3 hle h => ?_) (fun _ _ _ h => kzx_no rfl h)
      have h := h hle
      refine kz_aload_n (M := kt_M106) kX11_step_c3.2.2.2.2.1 rfl ?_
      refine kz_cv1 (M := kt_M106) (c := 10) (o := 0) (As := []) (rest := []) kX11_step_c3.2.2.2.2.2.1 wl_X11_252 wMv_99 rfl (.inl rfl) rfl (Nat.le_trans (Nat.le_of_ble_eq_true rfl) hL) (Nat.le_of_ble_eq_true rfl) (Nat.le_of_ble_eq_true rfl) h (fun v6 w5 hle h => ?_) (fun _ _ _ h => kzx_no rfl h)
      have h := h hle
      refine kz_sti_n (M := kt_M106) [(0, .ref (w_adr E.2.1 10 0))] kX11_step_c3.2.2.2.2.2.2.1 (Nat.le_of_ble_eq_true rfl) ⟨⟨rfl, rfl, .inr rfl⟩, trivial⟩ rfl ?_
      exact kz_weak [(0, .ref (w_adr E.2.1 10 0)), (1, .int v6)] ⟨rfl, ⟨rfl, trivial⟩⟩ rfl (zt_X11_step_p53 hL  h)
    · skip
      refine kz_ic (M := kt_M106) 0 kX11_step_c2.2.1 rfl ?_
      exact kz_iretz (M := kt_M106) kX11_step_c2.2.2.1 rfl (by decide) h
def zb_X11_step_p0 (E : zE) (L : Nat) (Q : kx_Rs → wS → Prop) (w : wS) : Prop := (if ¬ w_i w 10 0 4 = 0 then zw E (L - 22) kt_M99 [.ref (w_adr E.2.1 10 0)] w (wk1 (fun v2 w1 => wle w w1 → zb_X11_step_p15 E L Q v2 w1) (fun e w => Q (.inr e) w)) else zb_X11_step_p15 E L Q 0 w)
theorem zt_X11_step_p0 {E : zE} {L : Nat} {Q : kx_Rs → wS → Prop} {w : wS} (hL : 25 ≤ L) (h : zb_X11_step_p0 E L Q  w) : kzE E L kt_M106 0 [(0, .ref (w_adr E.2.1 10 0))] [] w Q := by
  unfold zb_X11_step_p0 at h
  refine kz_aload_n (M := kt_M106) kX11_step_c0.1 rfl ?_
  refine kz_gfi (M := kt_M106) (c := 10) (o := 0) kX11_step_c0.2.1 wf_X11_107 (.inl rfl) ?_
  refine kz_if_ne (M := kt_M106) kX11_step_c0.2.2.1 (t := 11) rfl h (fun h => ?_) (fun h => ?_)
  · skip
    refine kz_aload_n (M := kt_M106) kX11_step_c0.2.2.2.2.2.1 rfl ?_
    refine kz_cv1 (M := kt_M106) (c := 10) (o := 0) (As := []) (rest := []) kX11_step_c0.2.2.2.2.2.2.1 wl_X11_252 wMv_99 rfl (.inl rfl) rfl (Nat.le_trans (Nat.le_of_ble_eq_true rfl) hL) (Nat.le_of_ble_eq_true rfl) (Nat.le_of_ble_eq_true rfl) h (fun v2 w1 hle h => ?_) (fun _ _ _ h => kzx_no rfl h)
    have h := h hle
    exact kz_weak [(0, .ref (w_adr E.2.1 10 0))] ⟨rfl, trivial⟩ rfl (zt_X11_step_p15 hL  h)
  · skip
    refine kz_ic (M := kt_M106) 0 kX11_step_c0.2.2.2.1 rfl ?_
    refine kz_goto (M := kt_M106) kX11_step_c0.2.2.2.2.1 (t := 15) rfl ?_
    exact kz_weak [(0, .ref (w_adr E.2.1 10 0))] ⟨rfl, trivial⟩ rfl (zt_X11_step_p15 hL  h)
def zL_X11_wake_p47 (E : zE) (L : Nat) (Q : kx_Rs → wS → Prop) (x1 : Int32) (x2 : Option Nat) (x3 : Int32) (x4 : Int32) (w : wS) : Prop := kzE E L kt_M115 47 [(0, .ref (w_adr E.2.1 10 0)), (1, .int x1), (2, va_rf (x2)), (3, .int x3), (4, .int x4)] [] w Q
def zL_X11_wake_p2 (E : zE) (L : Nat) (Q : kx_Rs → wS → Prop) (x1 : Int32) (w : wS) : Prop := kzE E L kt_M115 2 [(0, .ref (w_adr E.2.1 10 0)), (1, .int x1)] [] w Q
def zb_X11_wake_p120 (E : zE) (L : Nat) (Q : kx_Rs → wS → Prop) (x1 : Int32) (w : wS) : Prop := zL_X11_wake_p2 E L Q (x1 + 1) w
theorem zt_X11_wake_p120 {E : zE} {L : Nat} {Q : kx_Rs → wS → Prop} {x1 : Int32} {w : wS} (hL : 21 ≤ L) (h : zb_X11_wake_p120 E L Q x1 w) : kzE E L kt_M115 120 [(0, .ref (w_adr E.2.1 10 0)), (1, .int x1)] [] w Q := by
  unfold zb_X11_wake_p120 at h
  refine kz_inc (M := kt_M115) [(0, .ref (w_adr E.2.1 10 0))] kX11_wake_c7.2.2.2.2.2.2.1 rfl (Nat.le_of_ble_eq_true rfl) ⟨⟨rfl, rfl, .inr rfl⟩, trivial⟩ rfl ?_
  refine kz_goto (M := kt_M115) kX11_wake_c7.2.2.2.2.2.2.2.1 (t := 2) rfl ?_
  exact kz_weak [(0, .ref (w_adr E.2.1 10 0)), (1, .int (x1 + 1))] ⟨rfl, ⟨rfl, trivial⟩⟩ rfl h
def zb_X11_wake_p109 (E : zE) (L : Nat) (Q : kx_Rs → wS → Prop) (x1 : Int32) (x2 : Option Nat) (x3 : Int32) (w : wS) : Prop := (if x3 = 0 then zb_X11_wake_p120 E L Q x1 w else (∃ p1, x2 = some p1 ∧ w_l w E.2.1 17 p1 ∧ zb_X11_wake_p120 E L Q x1 (ws_p w 17 p1 9 (some (E.1.1 61)))))
theorem zt_X11_wake_p109 {E : zE} {L : Nat} {Q : kx_Rs → wS → Prop} {x1 : Int32} {x2 : Option Nat} {x3 : Int32} {w : wS} (hL : 21 ≤ L) (h : zb_X11_wake_p109 E L Q x1 x2 x3 w) : kzE E L kt_M115 109 [(0, .ref (w_adr E.2.1 10 0)), (1, .int x1), (2, va_rf (x2)), (3, .int x3)] [] w Q := by
  unfold zb_X11_wake_p109 at h
  refine kz_iload_n (M := kt_M115) kX11_wake_c7.2.1 rfl ?_
  refine kz_if_eq (M := kt_M115) kX11_wake_c7.2.2.1 (t := 120) rfl h (fun h => ?_) (fun h => ?_)
  · skip
    exact kz_weak [(0, .ref (w_adr E.2.1 10 0)), (1, .int x1)] ⟨rfl, ⟨rfl, trivial⟩⟩ rfl (zt_X11_wake_p120 hL  h)
  · skip
    refine kz_aload_nv (M := kt_M115) (x := x2) kX11_wake_c7.2.2.2.1 rfl ?_
    refine kz_getsE (M := kt_M115) (v := va_rf (some (E.1.1 61))) kX11_wake_c7.2.2.2.2.1 zs_X11_154 ?_
    obtain ⟨p1, hxp1, hlp1, h⟩ := h
    refine kz_nz1 (x := x2) hxp1 ?_
    refine kz_pfp (M := kt_M115) (n := some (E.1.1 61)) (c := 17) (o := p1) kX11_wake_c7.2.2.2.2.2.1 wq_X11_125 (.inr (by exact hlp1)) ?_
    exact kz_weak [(0, .ref (w_adr E.2.1 10 0)), (1, .int x1)] ⟨rfl, ⟨rfl, trivial⟩⟩ rfl (zt_X11_wake_p120 hL  h)
def zb_X11_wake_p102 (E : zE) (L : Nat) (Q : kx_Rs → wS → Prop) (x1 : Int32) (x2 : Option Nat) (x4 : Int32) (y0 : Int32) (w : wS) : Prop := zL_X11_wake_p47 E L Q x1 x2 y0 (x4 + 4) w
theorem zt_X11_wake_p102 {E : zE} {L : Nat} {Q : kx_Rs → wS → Prop} {x1 : Int32} {x2 : Option Nat} {x4 : Int32} {y0 : Int32} {w : wS} (hL : 21 ≤ L) (h : zb_X11_wake_p102 E L Q x1 x2 x4 y0 w) : kzE E L kt_M115 102 [(0, .ref (w_adr E.2.1 10 0)), (1, .int x1), (2, va_rf (x2)), (4, .int x4)] [.int y0] w Q := by
  unfold zb_X11_wake_p102 at h
  refine kz_sti_n (M := kt_M115) [(0, .ref (w_adr E.2.1 10 0)), (1, .int x1), (2, va_rf (x2)), (4, .int x4)] kX11_wake_c6.2.2.2.2.2.2.1 (Nat.le_of_ble_eq_true rfl) ⟨⟨rfl, rfl, .inl rfl⟩, ⟨⟨rfl, rfl, .inl rfl⟩, ⟨⟨rfl, rfl, .inr (w_cat (x2))⟩, ⟨⟨rfl, rfl, .inl rfl⟩, trivial⟩⟩⟩⟩ rfl ?_
  refine kz_inc (M := kt_M115) [(0, .ref (w_adr E.2.1 10 0)), (1, .int x1), (2, va_rf (x2)), (3, .int y0)] kX11_wake_c6.2.2.2.2.2.2.2.1 rfl (Nat.le_of_ble_eq_true rfl) ⟨⟨rfl, rfl, .inl rfl⟩, ⟨⟨rfl, rfl, .inl rfl⟩, ⟨⟨rfl, rfl, .inl rfl⟩, ⟨⟨rfl, rfl, .inr rfl⟩, trivial⟩⟩⟩⟩ rfl ?_
  refine kz_goto (M := kt_M115) kX11_wake_c7.1 (t := 47) rfl ?_
  exact kz_weak [(0, .ref (w_adr E.2.1 10 0)), (1, .int x1), (2, va_rf (x2)), (3, .int y0), (4, .int (x4 + 4))] ⟨rfl, ⟨rfl, ⟨rfl, ⟨rfl, ⟨rfl, trivial⟩⟩⟩⟩⟩ rfl h
def zb_X11_wake_p101 (E : zE) (L : Nat) (Q : kx_Rs → wS → Prop) (x1 : Int32) (x2 : Option Nat) (x4 : Int32) (w : wS) : Prop := zb_X11_wake_p102 E L Q x1 x2 x4 0 w
theorem zt_X11_wake_p101 {E : zE} {L : Nat} {Q : kx_Rs → wS → Prop} {x1 : Int32} {x2 : Option Nat} {x4 : Int32} {w : wS} (hL : 21 ≤ L) (h : zb_X11_wake_p101 E L Q x1 x2 x4 w) : kzE E L kt_M115 101 [(0, .ref (w_adr E.2.1 10 0)), (1, .int x1), (2, va_rf (x2)), (4, .int x4)] [] w Q := by
  unfold zb_X11_wake_p101 at h
  refine kz_ic (M := kt_M115) 0 kX11_wake_c6.2.2.2.2.2.1 rfl ?_
  exact kz_weak [(0, .ref (w_adr E.2.1 10 0)), (1, .int x1), (2, va_rf (x2)), (4, .int x4)] ⟨rfl, ⟨rfl, ⟨rfl, ⟨rfl, trivial⟩⟩⟩⟩ rfl (zt_X11_wake_p102 hL  h)
def zb_X11_wake_p47 (E : zE) (L : Nat) (Q : kx_Rs → wS → Prop) (x1 : Int32) (x2 : Option Nat) (x3 : Int32) (x4 : Int32) (w : wS) : Prop := (∃ p1, x2 = some p1 ∧ w_l w E.2.1 17 p1 ∧ (if ¬ w_p w 17 p1 9 = some (E.1.1 63) then zb_X11_wake_p109 E L Q x1 x2 x3 w else (if ¬ x3 = 0 then zb_X11_wake_p109 E L Q x1 x2 x3 w else (if w_i w 17 p1 16 ≤ x4 then zb_X11_wake_p109 E L Q x1 x2 x3 w else (kx_inb x4 (w_n w 17 p1 13) = true ∧ (if ¬ w_a w 17 p1 13 (x4).toNatClampNeg = 2 then zb_X11_wake_p101 E L Q x1 x2 x4 w else (kx_inb (x4 + 1) (w_n w 17 p1 13) = true ∧ zw E (L - 21) kt_M77 [.ref (w_adr E.2.1 10 0), .int (w_a w 17 p1 13 ((x4 + 1)).toNatClampNeg)] w (wk1 (fun v3 w2 => wle w w2 → (if v3 = 0 then zb_X11_wake_p101 E L Q x1 x2 x4 w2 else zb_X11_wake_p102 E L Q x1 x2 x4 1 w2)) (fun e w => Q (.inr e) w)))))))))
theorem zt_X11_wake_p47 {E : zE} {L : Nat} {Q : kx_Rs → wS → Prop} {x1 : Int32} {x2 : Option Nat} {x3 : Int32} {x4 : Int32} {w : wS} (hL : 21 ≤ L) (h : zb_X11_wake_p47 E L Q x1 x2 x3 x4 w) : kzE E L kt_M115 47 [(0, .ref (w_adr E.2.1 10 0)), (1, .int x1), (2, va_rf (x2)), (3, .int x3), (4, .int x4)] [] w Q := by
  unfold zb_X11_wake_p47 at h
  refine kz_aload_nv (M := kt_M115) (x := x2) kX11_wake_c3.2.2.1 rfl ?_
  obtain ⟨p1, hxp1, hlp1, h⟩ := h
  refine kz_nz0 (x := x2) hxp1 ?_
  refine kz_gfp (M := kt_M115) (c := 17) (o := p1) kX11_wake_c3.2.2.2.1 wf_X11_125 (.inr (by exact hlp1)) ?_
  refine kz_getsE (M := kt_M115) (v := va_rf (some (E.1.1 63))) kX11_wake_c3.2.2.2.2.1 zs_X11_231 ?_
  refine kz_acmp_ne (M := kt_M115) (x := w_p w 17 p1 9) (y := some (E.1.1 63)) kX11_wake_c3.2.2.2.2.2.1 (t := 109) rfl h (fun h => ?_) (fun h => ?_)
  · skip
    exact kz_weak [(0, .ref (w_adr E.2.1 10 0)), (1, .int x1), (2, va_rf (x2)), (3, .int x3)] ⟨rfl, ⟨rfl, ⟨rfl, ⟨rfl, trivial⟩⟩⟩⟩ rfl (zt_X11_wake_p109 hL  h)
  · skip
    refine kz_iload_n (M := kt_M115) kX11_wake_c3.2.2.2.2.2.2.1 rfl ?_
    refine kz_if_ne (M := kt_M115) kX11_wake_c3.2.2.2.2.2.2.2.1 (t := 109) rfl h (fun h => ?_) (fun h => ?_)
    · skip
      exact kz_weak [(0, .ref (w_adr E.2.1 10 0)), (1, .int x1), (2, va_rf (x2)), (3, .int x3)] ⟨rfl, ⟨rfl, ⟨rfl, ⟨rfl, trivial⟩⟩⟩⟩ rfl (zt_X11_wake_p109 hL  h)
    · skip
      refine kz_iload (M := kt_M115) kX11_wake_c4.1 rfl ?_
      refine kz_aload_nv (M := kt_M115) (x := x2) kX11_wake_c4.2.1 rfl ?_
      refine kz_nz0 (x := x2) hxp1 ?_
      refine kz_gfi (M := kt_M115) (c := 17) (o := p1) kX11_wake_c4.2.2.1 wf_X11_234 (.inr (by exact hlp1)) ?_
      refine kz_icmp_ge (M := kt_M115) kX11_wake_c4.2.2.2.1 (t := 109) rfl h (fun h => ?_) (fun h => ?_)
      · skip
        exact kz_weak [(0, .ref (w_adr E.2.1 10 0)), (1, .int x1), (2, va_rf (x2)), (3, .int x3)] ⟨rfl, ⟨rfl, ⟨rfl, ⟨rfl, trivial⟩⟩⟩⟩ rfl (zt_X11_wake_p109 hL  h)
      · skip
        refine kz_aload_nv (M := kt_M115) (x := x2) kX11_wake_c4.2.2.2.2.1 rfl ?_
        refine kz_nz0 (x := x2) hxp1 ?_
        refine kz_gfa (M := kt_M115) (c := 17) (o := p1) kX11_wake_c4.2.2.2.2.2.1 wf_X11_237 (.inr (by exact hlp1)) ?_
        refine kz_iload (M := kt_M115) kX11_wake_c4.2.2.2.2.2.2.1 rfl ?_
        refine kz_iald (M := kt_M115) (c := 17) (o := p1) (k := 13) (a := (w_d w 17 p1 13)) kX11_wake_c4.2.2.2.2.2.2.2.1 (.inr ⟨.inr (by exact hlp1), rfl, rfl⟩) rfl ot_0 h (fun h => ?_)
        refine kz_ic (M := kt_M115) 2 kX11_wake_c5.1 rfl ?_
        refine kz_icmp_ne (M := kt_M115) kX11_wake_c5.2.1 (t := 101) rfl h (fun h => ?_) (fun h => ?_)
        · skip
          exact kz_weak [(0, .ref (w_adr E.2.1 10 0)), (1, .int x1), (2, va_rf (x2)), (4, .int x4)] ⟨rfl, ⟨rfl, ⟨rfl, ⟨rfl, trivial⟩⟩⟩⟩ rfl (zt_X11_wake_p101 hL  h)
        · skip
          refine kz_aload_n (M := kt_M115) kX11_wake_c5.2.2.1 rfl ?_
          refine kz_aload_nv (M := kt_M115) (x := x2) kX11_wake_c5.2.2.2.1 rfl ?_
          refine kz_nz0 (x := x2) hxp1 ?_
          refine kz_gfa (M := kt_M115) (c := 17) (o := p1) kX11_wake_c5.2.2.2.2.1 wf_X11_237 (.inr (by exact hlp1)) ?_
          refine kz_iload (M := kt_M115) kX11_wake_c5.2.2.2.2.2.1 rfl ?_
          refine kz_ic (M := kt_M115) 1 kX11_wake_c5.2.2.2.2.2.2.1 rfl ?_
          refine kz_iadd (M := kt_M115) kX11_wake_c5.2.2.2.2.2.2.2.1 ?_
          refine kz_iald (M := kt_M115) (c := 17) (o := p1) (k := 13) (a := (w_d w 17 p1 13)) kX11_wake_c6.1 (.inr ⟨.inr (by exact hlp1), rfl, rfl⟩) rfl ot_0 h (fun h => ?_)
          refine kz_cv1 (M := kt_M115) (c := 10) (o := 0) (As := [.int (w_a w 17 p1 13 ((x4 + 1)).toNatClampNeg)]) (rest := []) kX11_wake_c6.2.1 wl_X11_242 wMv_77 rfl (.inl rfl) rfl (Nat.le_trans (Nat.le_of_ble_eq_true rfl) hL) (Nat.le_of_ble_eq_true rfl) (Nat.le_of_ble_eq_true rfl) h (fun v3 w2 hle h => ?_) (fun _ _ _ h => kzx_no rfl h)
          have h := h hle
          have hlp1 := w_l_le hlp1 hle
          refine kz_if_eq (M := kt_M115) kX11_wake_c6.2.2.1 (t := 101) rfl h (fun h => ?_) (fun h => ?_)
          · skip
            exact kz_weak [(0, .ref (w_adr E.2.1 10 0)), (1, .int x1), (2, va_rf (x2)), (4, .int x4)] ⟨rfl, ⟨rfl, ⟨rfl, ⟨rfl, trivial⟩⟩⟩⟩ rfl (zt_X11_wake_p101 hL  h)
          · skip
            refine kz_ic (M := kt_M115) 1 kX11_wake_c6.2.2.2.1 rfl ?_
            refine kz_goto (M := kt_M115) kX11_wake_c6.2.2.2.2.1 (t := 102) rfl ?_
            exact kz_weak [(0, .ref (w_adr E.2.1 10 0)), (1, .int x1), (2, va_rf (x2)), (4, .int x4)] ⟨rfl, ⟨rfl, ⟨rfl, ⟨rfl, trivial⟩⟩⟩⟩ rfl (zt_X11_wake_p102 hL  h)
def zb_X11_wake_p43 (E : zE) (L : Nat) (Q : kx_Rs → wS → Prop) (x1 : Int32) (x2 : Option Nat) (y0 : Int32) (w : wS) : Prop := zL_X11_wake_p47 E L Q x1 x2 y0 0 w
theorem zt_X11_wake_p43 {E : zE} {L : Nat} {Q : kx_Rs → wS → Prop} {x1 : Int32} {x2 : Option Nat} {y0 : Int32} {w : wS} (hL : 21 ≤ L) (h : zb_X11_wake_p43 E L Q x1 x2 y0 w) : kzE E L kt_M115 43 [(0, .ref (w_adr E.2.1 10 0)), (1, .int x1), (2, va_rf (x2))] [.int y0] w Q := by
  unfold zb_X11_wake_p43 at h
  refine kz_sti_n (M := kt_M115) [(0, .ref (w_adr E.2.1 10 0)), (1, .int x1), (2, va_rf (x2))] kX11_wake_c2.2.2.2.2.2.2.2.1 (Nat.le_of_ble_eq_true rfl) ⟨⟨rfl, rfl, .inl rfl⟩, ⟨⟨rfl, rfl, .inl rfl⟩, ⟨⟨rfl, rfl, .inr (w_cat (x2))⟩, trivial⟩⟩⟩ rfl ?_
  refine kz_ic (M := kt_M115) 0 kX11_wake_c3.1 rfl ?_
  refine kz_sti (M := kt_M115) [(0, .ref (w_adr E.2.1 10 0)), (1, .int x1), (2, va_rf (x2)), (3, .int y0)] kX11_wake_c3.2.1 (Nat.le_of_ble_eq_true rfl) ⟨⟨rfl, rfl, .inl rfl⟩, ⟨⟨rfl, rfl, .inl rfl⟩, ⟨⟨rfl, rfl, .inl rfl⟩, ⟨⟨rfl, rfl, .inr rfl⟩, trivial⟩⟩⟩⟩ rfl ?_
  exact kz_weak [(0, .ref (w_adr E.2.1 10 0)), (1, .int x1), (2, va_rf (x2)), (3, .int y0), (4, .int 0)] ⟨rfl, ⟨rfl, ⟨rfl, ⟨rfl, ⟨rfl, trivial⟩⟩⟩⟩⟩ rfl h
def zb_X11_wake_p42 (E : zE) (L : Nat) (Q : kx_Rs → wS → Prop) (x1 : Int32) (x2 : Option Nat) (w : wS) : Prop := zb_X11_wake_p43 E L Q x1 x2 0 w
theorem zt_X11_wake_p42 {E : zE} {L : Nat} {Q : kx_Rs → wS → Prop} {x1 : Int32} {x2 : Option Nat} {w : wS} (hL : 21 ≤ L) (h : zb_X11_wake_p42 E L Q x1 x2 w) : kzE E L kt_M115 42 [(0, .ref (w_adr E.2.1 10 0)), (1, .int x1), (2, va_rf (x2))] [] w Q := by
  unfold zb_X11_wake_p42 at h
  refine kz_ic (M := kt_M115) 0 kX11_wake_c2.2.2.2.2.2.2.1 rfl ?_
  exact kz_weak [(0, .ref (w_adr E.2.1 10 0)), (1, .int x1), (2, va_rf (x2))] ⟨rfl, ⟨rfl, ⟨rfl, trivial⟩⟩⟩ rfl (zt_X11_wake_p43 hL  h)
def zb_X11_wake_p2 (E : zE) (L : Nat) (Q : kx_Rs → wS → Prop) (x1 : Int32) (w : wS) : Prop := (if w_i w 10 0 4 ≤ x1 then Q (.inl none) w else (kx_inb x1 (w_n w 10 0 3) = true ∧ (∃ p1, w_r w 10 0 3 (x1).toNatClampNeg = some p1 ∧ w_l w E.2.1 17 p1 ∧ (if ¬ w_p w 17 p1 9 = some (E.1.1 62) then zb_X11_wake_p42 E L Q x1 (w_r w 10 0 3 (x1).toNatClampNeg) w else zw E (L - 21) kt_M77 [.ref (w_adr E.2.1 10 0), .int (w_i w 17 p1 7)] w (wk1 (fun v3 w2 => wle w w2 → (if v3 = 0 then zb_X11_wake_p42 E L Q x1 (w_r w 10 0 3 (x1).toNatClampNeg) w2 else zb_X11_wake_p43 E L Q x1 (w_r w 10 0 3 (x1).toNatClampNeg) 1 w2)) (fun e w => Q (.inr e) w))))))
theorem zt_X11_wake_p2 {E : zE} {L : Nat} {Q : kx_Rs → wS → Prop} {x1 : Int32} {w : wS} (hL : 21 ≤ L) (h : zb_X11_wake_p2 E L Q x1 w) : kzE E L kt_M115 2 [(0, .ref (w_adr E.2.1 10 0)), (1, .int x1)] [] w Q := by
  unfold zb_X11_wake_p2 at h
  refine kz_iload_n (M := kt_M115) kX11_wake_c0.2.2.1 rfl ?_
  refine kz_aload_n (M := kt_M115) kX11_wake_c0.2.2.2.1 rfl ?_
  refine kz_gfi (M := kt_M115) (c := 10) (o := 0) kX11_wake_c0.2.2.2.2.1 wf_X11_107 (.inl rfl) ?_
  refine kz_icmp_ge (M := kt_M115) kX11_wake_c0.2.2.2.2.2.1 (t := 126) rfl h (fun h => ?_) (fun h => ?_)
  · skip
    exact kz_ret (M := kt_M115) kX11_wake_c8.1 rfl h
  · skip
    refine kz_aload_n (M := kt_M115) kX11_wake_c0.2.2.2.2.2.2.1 rfl ?_
    refine kz_gfc (M := kt_M115) (x := 3563) (c := 10) (o := 0) kX11_wake_c0.2.2.2.2.2.2.2.1 wf_X11_20 (.inl rfl) ?_
    refine kz_iload_n (M := kt_M115) kX11_wake_c1.1 rfl ?_
    refine kz_aald (M := kt_M115) (τ := 4) (c := 10) (o := 0) (k := 3) (a := (E.2.1 3563)) kX11_wake_c1.2.1 ow_10_0_3 oa_10_0_3 ot_8 rfl h (fun h => ?_)
    refine kz_stv_n (M := kt_M115) (x := w_r w 10 0 3 (x1).toNatClampNeg) [(0, .ref (w_adr E.2.1 10 0)), (1, .int x1)] kX11_wake_c1.2.2.1 (Nat.le_of_ble_eq_true rfl) ⟨⟨rfl, rfl, .inl rfl⟩, ⟨⟨rfl, rfl, .inr rfl⟩, trivial⟩⟩ rfl ?_
    refine kz_aload_nv (M := kt_M115) (x := w_r w 10 0 3 (x1).toNatClampNeg) kX11_wake_c1.2.2.2.1 rfl ?_
    obtain ⟨p1, hxp1, hlp1, h⟩ := h
    refine kz_nz0 (x := w_r w 10 0 3 (x1).toNatClampNeg) hxp1 ?_
    refine kz_gfp (M := kt_M115) (c := 17) (o := p1) kX11_wake_c1.2.2.2.2.1 wf_X11_125 (.inr (by exact hlp1)) ?_
    refine kz_getsE (M := kt_M115) (v := va_rf (some (E.1.1 62))) kX11_wake_c1.2.2.2.2.2.1 zs_X11_221 ?_
    refine kz_acmp_ne (M := kt_M115) (x := w_p w 17 p1 9) (y := some (E.1.1 62)) kX11_wake_c1.2.2.2.2.2.2.1 (t := 42) rfl h (fun h => ?_) (fun h => ?_)
    · skip
      exact kz_weak [(0, .ref (w_adr E.2.1 10 0)), (1, .int x1), (2, va_rf (w_r w 10 0 3 (x1).toNatClampNeg))] ⟨rfl, ⟨rfl, ⟨rfl, trivial⟩⟩⟩ rfl (zt_X11_wake_p42 hL  h)
    · skip
      refine kz_aload_n (M := kt_M115) kX11_wake_c1.2.2.2.2.2.2.2.1 rfl ?_
      refine kz_aload_nv (M := kt_M115) (x := w_r w 10 0 3 (x1).toNatClampNeg) kX11_wake_c2.1 rfl ?_
      refine kz_nz0 (x := w_r w 10 0 3 (x1).toNatClampNeg) hxp1 ?_
      refine kz_gfi (M := kt_M115) (c := 17) (o := p1) kX11_wake_c2.2.1 wf_X11_224 (.inr (by exact hlp1)) ?_
      refine kz_cv1 (M := kt_M115) (c := 10) (o := 0) (As := [.int (w_i w 17 p1 7)]) (rest := []) kX11_wake_c2.2.2.1 wl_X11_242 wMv_77 rfl (.inl rfl) rfl (Nat.le_trans (Nat.le_of_ble_eq_true rfl) hL) (Nat.le_of_ble_eq_true rfl) (Nat.le_of_ble_eq_true rfl) h (fun v3 w2 hle h => ?_) (fun _ _ _ h => kzx_no rfl h)
      have h := h hle
      have hlp1 := w_l_le hlp1 hle
      refine kz_if_eq (M := kt_M115) kX11_wake_c2.2.2.2.1 (t := 42) rfl h (fun h => ?_) (fun h => ?_)
      · skip
        exact kz_weak [(0, .ref (w_adr E.2.1 10 0)), (1, .int x1), (2, va_rf (w_r w 10 0 3 (x1).toNatClampNeg))] ⟨rfl, ⟨rfl, ⟨rfl, trivial⟩⟩⟩ rfl (zt_X11_wake_p42 hL  h)
      · skip
        refine kz_ic (M := kt_M115) 1 kX11_wake_c2.2.2.2.2.1 rfl ?_
        refine kz_goto (M := kt_M115) kX11_wake_c2.2.2.2.2.2.1 (t := 43) rfl ?_
        exact kz_weak [(0, .ref (w_adr E.2.1 10 0)), (1, .int x1), (2, va_rf (w_r w 10 0 3 (x1).toNatClampNeg))] ⟨rfl, ⟨rfl, ⟨rfl, trivial⟩⟩⟩ rfl (zt_X11_wake_p43 hL  h)
def zb_X11_wake_p0 (E : zE) (L : Nat) (Q : kx_Rs → wS → Prop) (w : wS) : Prop := zL_X11_wake_p2 E L Q 0 w
theorem zt_X11_wake_p0 {E : zE} {L : Nat} {Q : kx_Rs → wS → Prop} {w : wS} (hL : 21 ≤ L) (h : zb_X11_wake_p0 E L Q  w) : kzE E L kt_M115 0 [(0, .ref (w_adr E.2.1 10 0))] [] w Q := by
  unfold zb_X11_wake_p0 at h
  refine kz_ic (M := kt_M115) 0 kX11_wake_c0.1 rfl ?_
  refine kz_sti_n (M := kt_M115) [(0, .ref (w_adr E.2.1 10 0))] kX11_wake_c0.2.1 (Nat.le_of_ble_eq_true rfl) ⟨⟨rfl, rfl, .inr rfl⟩, trivial⟩ rfl ?_
  exact kz_weak [(0, .ref (w_adr E.2.1 10 0)), (1, .int 0)] ⟨rfl, ⟨rfl, trivial⟩⟩ rfl h
