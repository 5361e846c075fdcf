/-! ===== TOKENS, part 13: MeetingHouse cuts a text ===== -/
theorem isB_10 : isB 10 = false := by decide
theorem nNL_10 : nNL 10 = false := by decide
section CX
variable {E : zE} {L : Nat} {w : wS} {T : Nat → Int} {n e p s m sm lm ln : Nat} {ns : List (List Int)} {K : List (Tk × Nat × Int)}
theorem c2_cutLine (hA : zA E) (hL : 600 ≤ L) (hJ : TKJ E w T n ns lm sm K) (hs : s ≤ e) (he : e ≤ n) (h10 : T e = 10) (hP : PB ns lm sm s) (hK : K.length ≤ 2 * s) : eW w (fun Q => zw E L kt_M239 [.ref (w_adr E.2.1 1 0), .int (i_ s), .int (i_ e), .int (i_ ln)] w Q) (LN2 E w T n e s (K ++ mark ln (nd isB T n s - s : Nat) (tkl T n e (n + 1) (nd isB T n s)))) := by
  have hI := hJ.1
  have hC := hI.1.1
  have hn := hC.1.1
  have hxr := hC.1.2.2
  have l0 := hC.2.1.1.1
  have hT := hC.2.2.2
  have h7 := hI.2.1.1
  have hble : nd isB T n s ≤ e := nd_le_e isB_10 h10 he rfl hs
  have hge : s ≤ nd isB T n s := nd_ge rfl
  have loop : ∀ d j, j + d = nd isB T n s → s ≤ j → eS (fun Q => zL_X2_cutLine_p9 E L Q (i_ s) (i_ e) (i_ ln) (i_ j) (i_ K.length) w) (LN2 E w T n e s (K ++ mark ln (nd isB T n s - s : Nat) (tkl T n e (n + 1) (nd isB T n s)))) := by
    intro d
    induction d with
    | zero =>
      intro j hj hsj
      have hr := hxr j
      refine eS_l (fun Q h => zt_X2_cutLine_p9 (by omega) h) ?_
      simp only [zb_X2_cutLine_p9, zb_X2_cutLine_p33]
      have fin : eS (fun Q => zL_X2_cutLine_p42 E L Q (i_ e) (i_ ln) (i_ j) (i_ K.length) (i_ j - i_ s) 1 w) (LN2 E w T n e s (K ++ mark ln (nd isB T n s - s : Nat) (tkl T n e (n + 1) (nd isB T n s)))) := by
        have h := c2_line_toks (E := E) (L := L) (K := K) (w0 := w) (ln := ln) (b := j - s) (B := s) hA (by omega) (by omega) he h10 (by omega) hn (n + 1) j [] w ns lm sm (by omega) (by omega) (by simp; omega) (by simpa [ann] using hJ) frm.rf (by obtain ⟨b1, b2, b3⟩ := hP; exact ⟨by omega, by omega, by omega⟩)
        rw [i_sub, show (j : Int) - (s : Int) = ((j - s : Nat) : Int) by omega]
        rw [show nd isB T n s = j by omega]
        exact h
      by_cases hje : e ≤ j
      · rw [if_pos_fun ((i_le (by omega) (by omega)).mpr (by omega))]
        exact fin
      rw [if_neg_fun (fun q => hje (by have := (i_le (by omega) (by omega)).mp q; omega))]
      refine eS_and (by rw [l0]; exact i_inb (by omega) (by omega)) ?_
      have hstop : isB (T j) = false := by
        have := nd_at (p := isB) (T := T) (n := n) (fun k hk => by rw [hC.1.2.1 k hk]; exact isB_10) (a := s) rfl
        rw [show nd isB T n s = j by omega] at this
        exact this
      have h32 : ¬ T j = 32 := by
        unfold isB at hstop
        simpa using hstop
      simp only [i_nat' (show j < 2147483648 by omega), hT j (by omega), show (32 : Int32) = i_ 32 from rfl, sbE (show (0 ≤ T j ∧ T j ≤ 255) ∧ 0 ≤ (32 : Int) ∧ (32 : Int) < 128 by omega)]
      rw [if_pos_fun h32]
      exact fin
    | succ d ih =>
      intro j hj hsj
      have hr := hxr j
      have hin := nd_in (p := isB) (T := T) (n := n) (a := s) rfl j hsj (by omega)
      have h32 : T j = 32 := by
        unfold isB at hin
        simpa using hin
      refine eS_l (fun Q h => zt_X2_cutLine_p9 (by omega) h) ?_
      simp only [zb_X2_cutLine_p9]
      rw [if_neg_fun (fun q => by have := (i_le (by omega) (by omega)).mp q; omega)]
      refine eS_and (by rw [l0]; exact i_inb (by omega) (by omega)) ?_
      simp only [i_nat' (show j < 2147483648 by omega), hT j (by omega), show (32 : Int32) = i_ 32 from rfl, sbE (show (0 ≤ T j ∧ T j ≤ 255) ∧ 0 ≤ (32 : Int) ∧ (32 : Int) < 128 by omega)]
      rw [if_neg_fun (fun q => q h32), i_1, i_add, cN1]
      exact ih (j + 1) (by omega) (by omega)
  refine eW_of (A := fun Q => zb_X2_cutLine_p0 E L Q (i_ s) (i_ e) (i_ ln) w) (fun Q h => zt_X2_cutLine_p0 (by omega) h) ?_
  simp only [zb_X2_cutLine_p0, h7]
  exact eS_mono (loop (nd isB T n s - s) s (by omega) (Nat.le_refl _)) (fun r w' h _ => h)
/-- the end of all -/
def CUT2 (E : zE) (w0 : wS) (T : Nat → Int) (n : Nat) (K : List (Tk × Nat × Int)) (r : kx_Rs) (w' : wS) : Prop := r = .inl none ∧ K.length ≤ 6000 ∧ ∃ ns' lm' sm', TKJ E w' T n ns' lm' sm' K ∧ frm (pk 1 KT) w0 w'
theorem c2_lines (hA : zA E) (hL : 700 ≤ L) {w0 : wS} (hn : n ≤ 1280) : ∀ (k s ln : Nat) (K : List (Tk × Nat × Int)) (w : wS) (ns : List (List Int)) (lm sm : Nat), n + 1 - s < k → s ≤ n + 1 → K.length ≤ 2 * s → TKJ E w T n ns lm sm K → frm (pk 1 KT) w0 w → PB ns lm sm s → eS (fun Q => zL_X2_cut_p45 E L Q (i_ s) (i_ ln) w) (CUT2 E w0 T n (K ++ tks T n k s ln)) := by
  intro k
  induction k with
  | zero => intro s ln K w ns lm sm h; omega
  | succ k ih =>
    intro s ln K w ns lm sm hk hs hK hJ hf hP
    have hI := hJ.1
    have hC := hI.1.1
    have hxr := hC.1.2.2
    have l0 := hC.2.1.1.1
    have hT := hC.2.2.2
    have hsz := hC.2.2.1
    have h7 := hI.2.1.1
    refine eS_l (fun Q h => zt_X2_cut_p45 (by omega) h) ?_
    simp only [zb_X2_cut_p45, hsz]
    by_cases hns : n ≤ s
    · rw [if_pos_fun ((i_le (by omega) (by omega)).mpr (by omega))]
      refine eS_c (fun Q hq => c2_tk hA (by omega) (show 8 < 9 by decide) hC.2.1 h7 (by omega) hq) ?_
      intro hle
      simp only [wk0, hle, forall_const]
      have hks : tks T n (k + 1) s ln = [(tFin, ln, -1)] := by
        unfold tks
        rw [if_pos hns]
      have hf3 : frm (pk 1 [2, 3, 4, 5, 6, 7]) w (tk_add w (E.1.1 8) K.length 0 0 (i_ ln)) := tka_f
      rw [hks]
      refine eS_ret ⟨rfl, by simp; omega, ns, lm, sm, ⟨hI.add (t := tFin) (by rfl) (CV_oth (by decide)), ?_, ?_⟩, hf.tr (hf3.sub (by decide))⟩
      · rw [hf3.i rfl, hJ.2.1, cntT_app]
        rfl
      · rw [hf3.i rfl, hJ.2.2, cntL_app]
        rfl
    rw [if_neg_fun (fun q => hns (by have := (i_le (by omega) (by omega)).mp q; omega))]
    have hele : nd nNL T n s ≤ n := nd_le rfl (by omega)
    have hsle : s ≤ nd nNL T n s := nd_ge rfl
    have h10 : T (nd nNL T n s) = 10 := by
      have := nd_at (p := nNL) (T := T) (n := n) (fun k hk => by rw [hC.1.2.1 k hk]; exact nNL_10) (a := s) rfl
      have h' : decide (T (nd nNL T n s) ≠ 10) = false := this
      simpa using h'
    have hks : tks T n (k + 1) s ln = mark ln (nd isB T n s - s : Nat) (tkl T n (nd nNL T n s) (n + 1) (nd isB T n s)) ++ tks T n k (nd nNL T n s + 1) (if n ≤ nd nNL T n s then ln else ln + 1) := by
      conv => lhs; unfold tks
      rw [if_neg hns]
    have fin : eS (fun Q => zb_X2_cut_p83 E L Q (i_ s) (i_ ln) (i_ (nd nNL T n s : Nat)) w) (CUT2 E w0 T n (K ++ tks T n (k + 1) s ln)) := by
      simp only [zb_X2_cut_p83, zb_X2_cut_p104]
      refine eS_ce (c2_cutLine hA (by omega) hJ hsle hele h10 hP hK) ?_
      intro r w2 hle ⟨hr, hlen, ns', lm', sm', hJ2, hP2, hf2⟩
      subst hr
      simp only [wk0, hle, forall_const, hJ2.1.1.1.2.2.1]
      have next : ∀ ln', ln' = (if n ≤ nd nNL T n s then ln else ln + 1) → eS (fun Q => zL_X2_cut_p45 E L Q (i_ (nd nNL T n s + 1 : Nat)) (i_ ln') w2) (CUT2 E w0 T n (K ++ tks T n (k + 1) s ln)) := by
        intro ln' e1
        subst e1
        rw [hks, ← List.append_assoc]
        refine ih (nd nNL T n s + 1) _ _ w2 ns' lm' sm' (by omega) (by omega) (by omega) hJ2 (hf.tr hf2) ?_
        obtain ⟨b1, b2, b3⟩ := hP2
        exact ⟨by omega, by omega, by omega⟩
      rw [i_1, i_add, i_add, cN1, cN1]
      by_cases hne : n ≤ nd nNL T n s
      · rw [if_pos_fun ((i_le (by omega) (by omega)).mpr (by omega))]
        exact next ln (by rw [if_pos hne])
      · rw [if_neg_fun (fun q => hne (by have := (i_le (by omega) (by omega)).mp q; omega))]
        exact next (ln + 1) (by rw [if_neg hne])
    have loop : ∀ d j, j + d = nd nNL T n s → s ≤ j → eS (fun Q => zL_X2_cut_p56 E L Q (i_ s) (i_ ln) (i_ j) w) (CUT2 E w0 T n (K ++ tks T n (k + 1) s ln)) := by
      intro d
      induction d with
      | zero =>
        intro j hj hsj
        have hjj : nd nNL T n s = j := by omega
        rw [hjj] at fin h10
        refine eS_l (fun Q h => zt_X2_cut_p56 (by omega) h) ?_
        simp only [zb_X2_cut_p56, hsz]
        by_cases hje : n ≤ j
        · rw [if_pos_fun ((i_le (by omega) (by omega)).mpr (by omega))]
          exact fin
        rw [if_neg_fun (fun q => hje (by have := (i_le (by omega) (by omega)).mp q; omega))]
        refine eS_and (by rw [l0]; exact i_inb (by omega) (by omega)) ?_
        rw [i_nat' (show j < 2147483648 by omega), hT j (by omega), h10, if_pos_fun (by decide)]
        exact fin
      | succ d ihd =>
        intro j hj hsj
        have hr := hxr j
        have hin := nd_in (p := nNL) (T := T) (n := n) (a := s) rfl j hsj (by omega)
        have hne : ¬ T j = 10 := by
          unfold nNL at hin
          simpa using hin
        refine eS_l (fun Q h => zt_X2_cut_p56 (by omega) h) ?_
        simp only [zb_X2_cut_p56, hsz]
        rw [if_neg_fun (fun q => by have := (i_le (by omega) (by omega)).mp q; omega)]
        refine eS_and (by rw [l0]; exact i_inb (by omega) (by omega)) ?_
        simp only [i_nat' (show j < 2147483648 by omega), hT j (by omega), show (10 : Int32) = i_ 10 from rfl, sbE (show (0 ≤ T j ∧ T j ≤ 255) ∧ 0 ≤ (10 : Int) ∧ (10 : Int) < 128 by omega)]
        rw [if_neg_fun hne, i_1, i_add, cN1]
        exact ihd (j + 1) (by omega) (by omega)
    exact loop (nd nNL T n s - s) s (by omega) (Nat.le_refl _)
theorem fits_sb0 : ∀ a : Nat, a < 256 → fits .byte (.int (i_ (sb a))) = true := by decide +kernel
theorem fits_sb {c : Int} (h : 0 ≤ c ∧ c ≤ 255) : fits .byte (.int (i_ (sb c))) = true := by
  obtain ⟨k, rfl⟩ := Int.eq_ofNat_of_zero_le h.1
  exact fits_sb0 k (by omega)
def KU : List Nat := 0 :: 1 :: KT
/-- the whole text -/
theorem c2_cut (hA : zA E) (hL : 800 ≤ L) {c o k a : Nat} (ho : w_own w wG E.2.1 1 c o k) (hoa : w_aa wG E.2.1 w c o k = a) (hx : tx T n) (hTL : TL2 w) (hlen : n ≤ w_n w c o k) (hT : ∀ j, j < n → w_a w c o k j = i_ (sb (T j))) (hc1 : c ≠ 1) : eW w (fun Q => zw E L kt_M238 [.ref (w_adr E.2.1 1 0), .ref a, .int (i_ n)] w Q) (fun r w' => r = .inl none ∧ (tks T n (n + 2) 0 1).length ≤ 6000 ∧ ∃ ns' lm' sm', TKJ E w' T n ns' lm' sm' (tks T n (n + 2) 0 1) ∧ frm (pk 1 KU) w w') := by
  subst hoa
  have hn := hx.1
  have hxr := hx.2.2
  refine eW_of (A := fun Q => zb_X2_cut_p0 E L Q c o k (i_ n) w) (fun Q h => zt_X2_cut_p0 (by omega) ho h) ?_
  simp only [zb_X2_cut_p0]
  have z0 : (0 : Int32).toNatClampNeg = 0 := rfl
  simp only [z0, i_nat' (show n < 2147483648 by omega), Nat.zero_add]
  refine eS_and ⟨⟨by decide, by decide, i_nn (by omega)⟩, hlen, by have := hTL.1.1; omega, fun i hi => by rw [hT i hi]; exact fits_sb (hxr i)⟩ ?_
  have hf0 : frm (pk 1 KU) w (ws_i (ws_A w 1 0 0 (va_cpy (w_a w c o k) (w_a w 1 0 0) 0 0 n)) 1 0 1 (i_ n)) := (frm_A rfl).tr (frm_i rfl)
  have hTL1 : TL2 (ws_i (ws_A w 1 0 0 (va_cpy (w_a w c o k) (w_a w 1 0 0) 0 0 n)) 1 0 1 (i_ n)) := by
    unfold TL2 at hTL ⊢
    simp only [hf0.n]
    exact hTL
  have hC1 : CT (ws_i (ws_A w 1 0 0 (va_cpy (w_a w c o k) (w_a w 1 0 0) 0 0 n)) 1 0 1 (i_ n)) T n := by
    refine ⟨hx, hTL1, by simp only [Rii, Rgi, Rpi, Rai, Rbi, Rri, Rni, Rdi, Roi, Rti, Rzi, RCi, RSi]; simp, fun j hj => ?_⟩
    simp only [Rii, Rgi, Rpi, Rai, Rbi, Rri, Rni, Rdi, Roi, Rti, Rzi, RCi, RSi, RiA, RgA, RpA, RaA, RbA, RrA, RnA, RdA, RoA, RtA, RzA, RCA, RSA]
    simp only [and_self, if_true]
    unfold va_cpy
    simp only [Nat.zero_le, Nat.zero_add, true_and, hj, if_true]
    exact hT j hj
  refine eS_ce (c2_known hA (by omega) hTL1) ?_
  intro r w2 hle ⟨hr, hN, hf2⟩
  subst hr
  simp only [wk0, hle, forall_const]
  have hf3 : frm (pk 1 [7, 8, 9, 11]) w2 (ws_i (ws_i (ws_i (ws_i w2 1 0 7 0) 1 0 8 0) 1 0 9 0) 1 0 11 0) := (((frm_i rfl).tr (frm_i rfl)).tr (frm_i rfl)).tr (frm_i rfl)
  have hJ : TKJ E (ws_i (ws_i (ws_i (ws_i w2 1 0 7 0) 1 0 8 0) 1 0 9 0) 1 0 11 0) T n wds (wtot 38) 0 [] := by
    refine ⟨⟨⟨(hC1.frm hf2 ⟨by rfl, by rfl⟩).frm hf3 ⟨by rfl, by rfl⟩, hN.frm hf3 (by decide), List.prefix_refl _⟩, ⟨?_, ?_⟩, fun k t hk => by simp at hk⟩, ?_, ?_⟩
    all_goals
      simp only [Rii, Rgi, Rpi, Rai, Rbi, Rri, Rni, Rdi, Roi, Rti, Rzi, RCi, RSi]
      rfl
  have h := c2_lines (w0 := ws_i (ws_i (ws_i (ws_i w2 1 0 7 0) 1 0 8 0) 1 0 9 0) 1 0 11 0) hA (L := L) (by omega) hn (n + 2) 0 1 [] _ wds (wtot 38) 0 (by omega) (by omega) (by simp) hJ frm.rf ⟨by rw [wds_len]; omega, by have := wtot_le 38 (by omega); omega, by omega⟩
  rw [List.nil_append] at h
  refine eS_mono h ?_
  rintro r w3 ⟨h1, h2, ns', lm', sm', h3, h4⟩ hle3
  exact ⟨h1, h2, ns', lm', sm', h3, (hf0.tr (hf2.sub (by decide))).tr ((hf3.sub (by decide)).tr (h4.sub (by decide)))⟩
end CX
