/-! ===== TOKENS, part 11: MeetingHouse reads one token ===== -/
def KT : List Nat := [2, 3, 4, 5, 6, 7, 8, 9, 10, 11, 12, 13, 14, 15, 16, 17, 18, 19]
theorem frm.sub {c : Nat} {K K' : List Nat} {w w' : wS} (h : frm (pk c K) w w') (hK : K.all (fun k => K'.any (Nat.beq k)) = true) : frm (pk c K') w w' := h.wk (fun c' k hp => by
  unfold pk at *
  cases hc : Nat.beq c' c with
  | false => rfl
  | true =>
    rw [hc, Bool.true_and] at hp
    rw [Bool.true_and]
    cases hk : K.any (Nat.beq k) with
    | false => rfl
    | true =>
      exfalso
      rw [List.any_eq_true] at hk
      obtain ⟨x, hx, hxe⟩ := hk
      have := List.all_eq_true.mp hK x hx
      rw [Nat.eq_of_beq_eq_true hxe] at hp
      rw [hp] at this
      cases this)
/-- room at a place of the text -/
def PB (ns : List (List Int)) (lm sm q : Nat) : Prop := ns.length ≤ 38 + q ∧ lm ≤ 300 + q ∧ sm ≤ q
theorem take36 : ∀ c, c < 36 → (wds.take 36).getD c [] = wds.getD c [] := by decide +kernel
theorem idxW {s : List Int} {c : Nat} (h : (wds.take 36).idxOf? s = some c) : c < 36 ∧ wds.getD c [] = s := by
  rw [List.idxOf?_eq_some_iff] at h
  obtain ⟨hc, he, -⟩ := h
  have h36 : c < 36 := by
    have : (wds.take 36).length = 36 := by simp [wds_len]
    omega
  refine ⟨h36, ?_⟩
  rw [← take36 c h36, List.getD_eq_getElem?_getD, List.getElem?_eq_getElem hc]
  simpa using he
theorem idxW_no {s : List Int} (h : (wds.take 36).idxOf? s = none) {c : Nat} (hc : c < 36) : wds.getD c [] ≠ s := by
  intro e
  rw [List.idxOf?_eq_none_iff] at h
  refine h ?_
  rw [← e, ← take36 c hc]
  exact getD_mem (by simp [wds_len]; omega)
theorem tkS_e {l : List Int} {q p : Nat} : tkS (l, some q) p = if l ≠ [] ∧ l.length ≤ 60 then ((3, 0, l), q + 1) else (tBad, p) := rfl
theorem tkC_e {T : Nat → Int} {v : Int} {q p : Nat} : tkC T (some (v, q)) p = if T q = 39 then ((4, v, []), q + 1) else (tBad, p) := rfl
theorem CV_wd {w : wS} {ns : List (List Int)} {sm k : Nat} {c : Int} (h : w_a w 1 0 3 k = i_ c ∧ 0 ≤ c ∧ c < 36) : CV w ns sm k (0, c, []) := h
theorem CV_nm {w : wS} {ns : List (List Int)} {sm k : Nat} {s : List Int} (h : ∃ c : Nat, 36 ≤ c ∧ c < ns.length ∧ ns.getD c [] = s ∧ w_a w 1 0 3 k = i_ c) : CV w ns sm k (1, 0, s) := h
theorem CV_num {w : wS} {ns : List (List Int)} {sm k : Nat} {c : Int} (h : w_a w 1 0 3 k = i_ c) : CV w ns sm k (2, c, []) := h
theorem CV_str {w : wS} {ns : List (List Int)} {sm k : Nat} {l : List Int} (h : ∃ a : Nat, a + l.length ≤ sm ∧ l.length ≤ 60 ∧ w_a w 1 0 3 k = i_ a ∧ w_a w 1 0 4 k = i_ l.length ∧ ∀ j, j < l.length → w_a w 1 0 10 (a + j) = i_ (l.getD j 0)) : CV w ns sm k (3, 0, l) := h
theorem CV_chr {w : wS} {ns : List (List Int)} {sm k : Nat} {c : Int} (h : w_a w 1 0 3 k = i_ c ∧ 0 ≤ c ∧ c < 128) : CV w ns sm k (4, c, []) := h
theorem CV_sgn {w : wS} {ns : List (List Int)} {sm k : Nat} {c : Int} (h : w_a w 1 0 3 k = i_ c ∧ 36 ≤ c ∧ c ≤ 63) : CV w ns sm k (5, c, []) := h
theorem CV_oth {w : wS} {ns : List (List Int)} {sm k i : Nat} (h : 6 ≤ i) : CV w ns sm k (i, 0, []) := by
  match i, h with
  | i + 6, _ => trivial
section TO
variable {E : zE} {L : Nat} {w : wS} {T : Nat → Int} {n e p m sm lm ln : Nat} {ns : List (List Int)} {K : List (Tk × Nat × Int)}
/-- what one token brings -/
def TO2 (E : zE) (w : wS) (T : Nat → Int) (n e p ln : Nat) (K : List (Tk × Nat × Int)) (r : kx_Rs) (w' : wS) : Prop := ∃ ns' lm' sm', TKI E w' T n ns' lm' sm' (K ++ [((tk1 T n p).1, ln, -1)]) ∧ frm (pk 1 KT) w w' ∧ w_i w' 1 0 8 = w_i w 1 0 8 ∧ w_i w' 1 0 9 = w_i w 1 0 9 ∧ (((tk1 T n p).1 = tBad ∧ r = .inl (some (.int (i_ (-1)))) ∧ PB ns' lm' sm' e) ∨ ((tk1 T n p).1 ≠ tBad ∧ r = .inl (some (.int (i_ (tk1 T n p).2))) ∧ PB ns' lm' sm' (tk1 T n p).2 ∧ p < (tk1 T n p).2 ∧ (tk1 T n p).2 ≤ e))
/-- the end of a token that is none -/
theorem TO2_bad (hA : zA E) {w0 : wS} (hI : TKI E w T n ns lm sm K) (hf : frm (pk 1 KT) w0 w) (h8 : w_i w 1 0 8 = w_i w0 1 0 8) (h9 : w_i w 1 0 9 = w_i w0 1 0 9) (hb : (tk1 T n p).1 = tBad) (hp : PB ns lm sm e) : TO2 E w0 T n e p ln K (.inl (some (.int (i_ (-1))))) (tk_add w (E.1.1 6) K.length 0 0 (i_ ln)) := by
  have hf2 : frm (pk 1 [2, 3, 4, 5, 6, 7]) w (tk_add w (E.1.1 6) K.length 0 0 (i_ ln)) := tka_f
  refine ⟨ns, lm, sm, ?_, hf.tr (hf2.sub (by decide)), by rw [hf2.i rfl, h8], by rw [hf2.i rfl, h9], .inl ⟨hb, rfl, hp⟩⟩
  rw [hb]
  exact hI.add (t := tBad) (by rfl) (CV_oth (by decide))
theorem c2_token (hA : zA E) (hL : 400 ≤ L) (hI : TKI E w T n ns lm sm K) (he : e ≤ n) (hp : p < e) (h10 : T e = 10) (hB : PB ns lm sm p) (hK : K.length < 12000) : eW w (fun Q => zw E L kt_M251 [.ref (w_adr E.2.1 1 0), .int (i_ p), .int (i_ e), .int (i_ ln)] w Q) (TO2 E w T n e p ln K) := by
  obtain ⟨⟨hC, hN, hpre⟩, ⟨h7, h11⟩, hrows⟩ := hI
  have hI : TKI E w T n ns lm sm K := ⟨⟨hC, hN, hpre⟩, ⟨h7, h11⟩, hrows⟩
  have hC2 := hC
  obtain ⟨⟨hn, hx10, hxr⟩, hTL, hsz, hT⟩ := hC
  have l0 := hTL.1.1
  have hr := hxr p
  obtain ⟨b1, b2, b3⟩ := hB
  have h38 : 38 ≤ ns.length := by
    obtain ⟨t, rfl⟩ := hpre
    simp [wds_len]
  have hTB : ∀ {w'}, frm (pk 1 KT) w w' → TL2 w' := fun hf => (hC2.frm hf ⟨by rfl, by rfl⟩).2.1
  -- ends
  have fbad : ∀ (Q : kx_Rs → wS → Prop) (w' : wS), frm (pk 1 KT) w w' → w_i w' 1 0 7 = i_ K.length → Q (.inl (some (.int (i_ (-1))))) (tk_add w' (E.1.1 6) K.length 0 0 (i_ ln)) → zb_X2_token_p106 E L Q (i_ ln) (i_ (-1)) w' := by
    intro Q w' hf hm hq
    simp only [zb_X2_token_p106, zb_X2_token_p124]
    rw [if_neg (fun q => q rfl)]
    exact c2_tk hA (by omega) (by decide) (hTB hf) hm (by omega) (fun _ => hq)
  have fok : ∀ (Q : kx_Rs → wS → Prop) (w' : wS) (q : Nat), q < 2147483648 → Q (.inl (some (.int (i_ q)))) w' → zb_X2_token_p106 E L Q (i_ ln) (i_ q) w' := by
    intro Q w' q hq2 hq
    simp only [zb_X2_token_p106, zb_X2_token_p124]
    rw [if_pos (fun e => by rw [i_m1] at e; have := (i_eq (by omega) (by omega)).mp e; omega)]
    exact hq
  -- where it goes
  have enter : ∀ Q : kx_Rs → wS → Prop, zb_X2_token_p0 E L Q (i_ p) (i_ e) (i_ ln) w → zw E L kt_M251 [.ref (w_adr E.2.1 1 0), .int (i_ p), .int (i_ e), .int (i_ ln)] w Q := fun Q h => zt_X2_token_p0 (by omega) h
  have e1 : ∀ Q : kx_Rs → wS → Prop, isL (T p) = true → zw E (L - 25) kt_M252 [.ref (w_adr E.2.1 1 0), .int (i_ p), .int (i_ e), .int (i_ ln)] w (wk1 (fun v16 w15 => wle w w15 → zb_X2_token_p106 E L Q (i_ ln) v16 w15) (fun e w => Q (.inr e) w)) → zw E L kt_M251 [.ref (w_adr E.2.1 1 0), .int (i_ p), .int (i_ e), .int (i_ ln)] w Q := by
    intro Q hs hz
    refine enter Q ?_
    simp only [zb_X2_token_p0]
    simp (disch := omega) only [E_lt, E_le, E_eq, E_nat, E_inb, i_add, i_sub, i_neg, cN1, cN2, cNn, Int.toNat_natCast, if_pos, if_neg, true_and, and_true, l0, hT p (by omega)]
    rw [sb_and' hr]
    refine c2_isLetter (by omega) ?_
    intro _
    rw [i_toInt (by omega), hs, if_neg (by decide)]
    exact hz
  have e2 : ∀ Q : kx_Rs → wS → Prop, isL (T p) = false → isD (T p) = true → zw E (L - 26) kt_M245 [.ref (w_adr E.2.1 1 0), .int (i_ p), .int (i_ e), .int (i_ ln)] w (wk1 (fun v16 w15 => wle w w15 → zb_X2_token_p106 E L Q (i_ ln) v16 w15) (fun e w => Q (.inr e) w)) → zw E L kt_M251 [.ref (w_adr E.2.1 1 0), .int (i_ p), .int (i_ e), .int (i_ ln)] w Q := by
    intro Q hs hd hz
    refine enter Q ?_
    simp only [zb_X2_token_p0]
    simp (disch := omega) only [E_lt, E_le, E_eq, E_nat, E_inb, i_add, i_sub, i_neg, cN1, cN2, cNn, Int.toNat_natCast, if_pos, if_neg, true_and, and_true, l0, hT p (by omega)]
    rw [sb_and' hr]
    refine c2_isLetter (by omega) ?_
    intro _
    rw [i_toInt (by omega), hs, if_pos (by decide)]
    refine c2_isDigit (by omega) ?_
    intro _
    rw [i_toInt (by omega), hd, if_neg (by decide)]
    exact hz
  have e3 : ∀ Q : kx_Rs → wS → Prop, isL (T p) = false → isD (T p) = false → (if T p = 35 then zw E (L - 25) kt_M249 [.ref (w_adr E.2.1 1 0), .int (i_ p), .int (i_ e), .int (i_ ln)] w (wk1 (fun v16 w15 => wle w w15 → zb_X2_token_p106 E L Q (i_ ln) v16 w15) (fun e w => Q (.inr e) w)) else if T p = 34 then zw E (L - 25) kt_M250 [.ref (w_adr E.2.1 1 0), .int (i_ p), .int (i_ e), .int (i_ ln)] w (wk1 (fun v16 w15 => wle w w15 → zb_X2_token_p106 E L Q (i_ ln) v16 w15) (fun e w => Q (.inr e) w)) else if T p = 39 then zw E (L - 25) kt_M237 [.ref (w_adr E.2.1 1 0), .int (i_ p), .int (i_ e), .int (i_ ln)] w (wk1 (fun v16 w15 => wle w w15 → zb_X2_token_p106 E L Q (i_ ln) v16 w15) (fun e w => Q (.inr e) w)) else zw E (L - 26) kt_M247 [.ref (w_adr E.2.1 1 0), .int (i_ p), .int (i_ e), .int (i_ ln)] w (wk1 (fun v16 w15 => wle w w15 → zb_X2_token_p106 E L Q (i_ ln) v16 w15) (fun e w => Q (.inr e) w))) → zw E L kt_M251 [.ref (w_adr E.2.1 1 0), .int (i_ p), .int (i_ e), .int (i_ ln)] w Q := by
    intro Q hs hd hz
    refine enter Q ?_
    simp only [zb_X2_token_p0]
    simp (disch := omega) only [E_lt, E_le, E_eq, E_nat, E_inb, i_add, i_sub, i_neg, cN1, cN2, cNn, Int.toNat_natCast, if_pos, if_neg, true_and, and_true, l0, hT p (by omega)]
    rw [sb_and' hr]
    refine c2_isLetter (by omega) ?_
    intro _
    rw [i_toInt (by omega), hs, if_pos (by decide)]
    refine c2_isDigit (by omega) ?_
    intro _
    rw [i_toInt (by omega), hd, if_pos (by decide)]
    simp (disch := omega) only [E_lt, E_le, E_eq, E_nat, E_inb, i_add, i_sub, i_neg, cN1, cN2, cNn, Int.toNat_natCast, if_pos, if_neg, true_and, and_true, show ((-1) : Int32) = i_ (-1) from rfl, show (0 : Int32) = i_ 0 from rfl, show (1 : Int32) = i_ 1 from rfl, show (6 : Int32) = i_ 6 from rfl, show (20 : Int32) = i_ 20 from rfl, show (24 : Int32) = i_ 24 from rfl, show (25 : Int32) = i_ 25 from rfl, show (26 : Int32) = i_ 26 from rfl, show (34 : Int32) = i_ 34 from rfl, show (35 : Int32) = i_ 35 from rfl, show (39 : Int32) = i_ 39 from rfl, ite_not]
    exact hz
  have hframe0 : frm (pk 1 KT) w w := frm.rf
  have hPBe : PB ns lm sm e := ⟨by omega, by omega, by omega⟩
  cases hl : isL (T p) with
  | true =>
    have hp1 : p < nd isN T n p := by
      have h1 : isN (T p) = true := by unfold isN; rw [hl]; rfl
      rw [nd_go (by omega) h1]
      have := nd_ge (p := isN) (T := T) (n := n) (a := p + 1) rfl
      omega
    have hble : nd isN T n p ≤ e := nd_le_e isN_10 h10 he rfl (by omega)
    by_cases h16 : 16 < nd isN T n p - p
    · have htk : (tk1 T n p).1 = tBad := by
        unfold tk1
        rw [if_pos hl, if_pos h16]
      exact eW_known (fun Q hq => e1 Q hl (c2_word hA (by omega) hC2 hN he (by omega) h10 h7 (by omega) ⟨by omega, by omega⟩ (fun _ => fun _ => fbad Q w hframe0 h7 hq) (fun c h => absurd h (by omega)) (fun h => absurd h (by omega)) (by omega))) (fun _ => TO2_bad hA hI hframe0 rfl rfl htk hPBe)
    · have htk : tk1 T n p = (tkW (seg T p (nd isN T n p)), nd isN T n p) := by
        unfold tk1
        rw [if_pos hl, if_neg h16]
      have hasc : asc (seg T p (nd isN T n p)) := by
        intro c hc
        unfold seg at hc
        obtain ⟨q, hq, rfl⟩ := List.mem_map.mp hc
        rw [List.mem_range] at hq
        exact isN_asc (nd_in (p := isN) (T := T) (n := n) (a := p) rfl (p + q) (by omega) (by omega))
      have hrow := CT_row hC2 (a := p) (b := nd isN T n p) (by omega) (fun q h1 h2 => isN_asc (nd_in rfl q h1 h2)) (by omega)
      have hslen : (seg T p (nd isN T n p)).length = nd isN T n p - p := seg_len
      by_cases hmem : seg T p (nd isN T n p) ∈ ns
      · obtain ⟨c, hc, hce⟩ := List.getElem_of_mem hmem
        have hce2 : ns.getD c [] = seg T p (nd isN T n p) := by
          rw [List.getD_eq_getElem?_getD, List.getElem?_eq_getElem hc]
          exact hce
        refine eW_known (r := .inl (some (.int (i_ (nd isN T n p))))) (w2 := tk_add w (E.1.1 (if c < 36 then 0 else 1)) K.length (i_ c) 0 (i_ ln)) (fun Q hq => e1 Q hl (c2_word hA (by omega) hC2 hN he (by omega) h10 h7 (by omega) ⟨by omega, by omega⟩ (fun h => absurd h h16) (fun c' h1 h2 h3 => fun _ => ?_) (fun _ h => absurd hmem h) (by omega))) (fun _ => ?_)
        · have : c' = c := getD_inj hN.2.2.2.2.2.2.1 h2 hc (h3.trans hce2.symm)
          subst this
          exact fok Q _ _ (by omega) hq
        · have hf2 : frm (pk 1 [2, 3, 4, 5, 6, 7]) w (tk_add w (E.1.1 (if c < 36 then 0 else 1)) K.length (i_ c) 0 (i_ ln)) := tka_f
          have hnb : (tk1 T n p).1 ≠ tBad := by
            rw [htk]
            unfold tkW tBad
            split <;> simp
          refine ⟨ns, lm, sm, ?_, hf2.sub (by decide), hf2.i rfl, hf2.i rfl, .inr ⟨hnb, by rw [htk], by rw [htk]; exact ⟨by omega, by omega, by omega⟩, by rw [htk]; exact hp1, by rw [htk]; exact hble⟩⟩
          rw [htk]
          simp only
          unfold tkW
          cases hidx : (wds.take 36).idxOf? (seg T p (nd isN T n p)) with
          | some c' =>
            have hc' := hidx
            obtain ⟨q1, q2⟩ := idxW hc'
            have hcc : c' = c := getD_inj hN.2.2.2.2.2.2.1 (by omega) hc (by
              have := (getD_pre hpre (c := c') (by rw [wds_len]; omega)).2
              rw [this, q2, hce2])
            subst hcc
            rw [if_pos q1]
            dsimp only
            exact hI.add (t := (0, (c' : Int), [])) (by rfl) (CV_wd ⟨by rw [tka_3, if_pos rfl], by omega, by omega⟩)
          | none =>
            have hno := hidx
            have hc36 : ¬ c < 36 := by
              intro q1
              refine idxW_no hno q1 ?_
              have := (getD_pre hpre (c := c) (by rw [wds_len]; omega)).2
              rw [← this, hce2]
            rw [if_neg hc36]
            dsimp only
            exact hI.add (t := (1, 0, seg T p (nd isN T n p))) (by rfl) (CV_nm ⟨c, by omega, hc, hce2, by rw [tka_3, if_pos rfl]⟩)
      · have hf1 : frm (pk 1 [12, 13, 14, 15, 16, 17, 18]) w (nm_add w 1 0 0 p ns.length lm (nd isN T n p - p) (hsh (seg T p (nd isN T n p))) (i_ (prv ns (hsh (seg T p (nd isN T n p))) ns.length))) := nmf
        have hf2 : frm (pk 1 [2, 3, 4, 5, 6, 7]) (nm_add w 1 0 0 p ns.length lm (nd isN T n p - p) (hsh (seg T p (nd isN T n p))) (i_ (prv ns (hsh (seg T p (nd isN T n p))) ns.length))) (tk_add (nm_add w 1 0 0 p ns.length lm (nd isN T n p - p) (hsh (seg T p (nd isN T n p))) (i_ (prv ns (hsh (seg T p (nd isN T n p))) ns.length))) (E.1.1 1) K.length (i_ ns.length) 0 (i_ ln)) := tka_f
        refine eW_known (r := .inl (some (.int (i_ (nd isN T n p))))) (fun Q hq => e1 Q hl (c2_word hA (by omega) hC2 hN he (by omega) h10 h7 (by omega) ⟨by omega, by omega⟩ (fun h => absurd h h16) (fun c' h1 h2 h3 => absurd (h3 ▸ getD_mem h2) hmem) (fun _ _ _ => fun _ => fok Q _ _ (by omega) hq) (by omega))) (fun _ => ?_)
        have hno : (wds.take 36).idxOf? (seg T p (nd isN T n p)) = none := by
          rw [List.idxOf?_eq_none_iff]
          intro hm2
          exact hmem (hpre.subset (List.mem_of_mem_take hm2))
        have htk2 : tkW (seg T p (nd isN T n p)) = (1, 0, seg T p (nd isN T n p)) := by
          unfold tkW
          rw [hno]
        have hnb : (tk1 T n p).1 ≠ tBad := by
          rw [htk, htk2]
          unfold tBad
          simp
        have hI2 := hI.nm hrow hasc (by omega) ⟨by omega, by omega⟩ hmem
        rw [hslen] at hI2
        refine ⟨ns ++ [seg T p (nd isN T n p)], lm + (nd isN T n p - p), sm, ?_, (hf1.sub (by decide)).tr (hf2.sub (by decide)), (hf2.i rfl).trans (hf1.i rfl), (hf2.i rfl).trans (hf1.i rfl), .inr ⟨hnb, by rw [htk], by rw [htk]; exact ⟨by simp; omega, by omega, by omega⟩, by rw [htk]; exact hp1, by rw [htk]; exact hble⟩⟩
        rw [htk, htk2]
        exact hI2.add (t := (1, 0, seg T p (nd isN T n p))) (by rfl) (CV_nm ⟨ns.length, by omega, by simp, by rw [List.getD_eq_getElem?_getD, List.getElem?_append_right (Nat.le_refl _)]; simp, by rw [tka_3, if_pos rfl]⟩)
  | false =>
    cases hd : isD (T p) with
    | true =>
      have hble : nd isD T n p ≤ e := nd_le_e isD_10 h10 he rfl (by omega)
      have hp1 : p < nd isD T n p := by
        rw [nd_go (by omega) hd]
        have := nd_ge (p := isD) (T := T) (n := n) (a := p + 1) rfl
        omega
      by_cases hbad : 10 < nd isD T n p - p ∨ 2147483647 < dvl T p (nd isD T n p - p) ∨ isN (T (nd isD T n p)) = true
      · have htk : (tk1 T n p).1 = tBad := by
          unfold tk1
          rw [if_neg (by rw [hl]; decide), if_pos hd, if_pos hbad]
        exact eW_known (fun Q hq => e2 Q hl hd (c2_number hA (by omega) hC2 he (by omega) h10 h7 (by omega) (fun _ => fun _ => fbad Q w hframe0 h7 hq) (fun h => absurd hbad h))) (fun _ => TO2_bad hA hI hframe0 rfl rfl htk hPBe)
      · have htk : tk1 T n p = ((2, dvl T p (nd isD T n p - p), []), nd isD T n p) := by
          unfold tk1
          rw [if_neg (by rw [hl]; decide), if_pos hd, if_neg hbad]
        have hnb : (tk1 T n p).1 ≠ tBad := by
          rw [htk]
          unfold tBad
          simp
        refine eW_known (r := .inl (some (.int (i_ (nd isD T n p))))) (w2 := tk_add w (E.1.1 2) K.length (i_ (dvl T p (nd isD T n p - p))) 0 (i_ ln)) (fun Q hq => e2 Q hl hd (c2_number hA (by omega) hC2 he (by omega) h10 h7 (by omega) (fun h => absurd h hbad) (fun _ => fun _ => fok Q _ _ (by omega) hq))) (fun _ => ?_)
        have hf2 : frm (pk 1 [2, 3, 4, 5, 6, 7]) w (tk_add w (E.1.1 2) K.length (i_ (dvl T p (nd isD T n p - p))) 0 (i_ ln)) := tka_f
        refine ⟨ns, lm, sm, ?_, hf2.sub (by decide), hf2.i rfl, hf2.i rfl, .inr ⟨hnb, by rw [htk], by rw [htk]; exact ⟨by omega, by omega, by omega⟩, by rw [htk]; exact hp1, by rw [htk]; exact hble⟩⟩
        rw [htk]
        exact hI.add (t := (2, dvl T p (nd isD T n p - p), [])) (by rfl) (CV_num (by rw [tka_3, if_pos rfl]))
    | false =>
      by_cases c35 : T p = 35
      · have hble : nd isH T n (p + 1) ≤ e := nd_le_e isH_10 h10 he rfl (by omega)
        have hp1 : p + 1 ≤ nd isH T n (p + 1) := nd_ge rfl
        have e4 : ∀ Q : kx_Rs → wS → Prop, _ := fun Q hz => e3 Q hl hd (by rw [if_pos c35]; exact hz)
        by_cases hbad : bad16 T n p
        · have hbad' := hbad
          unfold bad16 at hbad'
          have htk : (tk1 T n p).1 = tBad := by
            unfold tk1
            rw [if_neg (by rw [hl]; decide), if_neg (by rw [hd]; decide), if_pos c35, if_pos hbad']
          exact eW_known (fun Q hq => e4 Q (c2_sixteens hA (by omega) hC2 he (by omega) h10 h7 (by omega) (fun _ => fun _ => fbad Q w hframe0 h7 hq) (fun h => absurd hbad h))) (fun _ => TO2_bad hA hI hframe0 rfl rfl htk hPBe)
        · have hbad' := hbad
          unfold bad16 at hbad'
          have htk : tk1 T n p = ((2, (hvl T (p + 1) (nd isH T n (p + 1) - (p + 1))).toInt, []), nd isH T n (p + 1)) := by
            unfold tk1
            rw [if_neg (by rw [hl]; decide), if_neg (by rw [hd]; decide), if_pos c35, if_neg hbad']
          have hnb : (tk1 T n p).1 ≠ tBad := by
            rw [htk]
            unfold tBad
            simp
          refine eW_known (r := .inl (some (.int (i_ (nd isH T n (p + 1)))))) (w2 := tk_add w (E.1.1 2) K.length (hvl T (p + 1) (nd isH T n (p + 1) - (p + 1))) 0 (i_ ln)) (fun Q hq => e4 Q (c2_sixteens hA (by omega) hC2 he (by omega) h10 h7 (by omega) (fun h => absurd h hbad) (fun _ => fun _ => fok Q _ _ (by omega) hq))) (fun _ => ?_)
          have hf2 : frm (pk 1 [2, 3, 4, 5, 6, 7]) w (tk_add w (E.1.1 2) K.length (hvl T (p + 1) (nd isH T n (p + 1) - (p + 1))) 0 (i_ ln)) := tka_f
          refine ⟨ns, lm, sm, ?_, hf2.sub (by decide), hf2.i rfl, hf2.i rfl, .inr ⟨hnb, by rw [htk], by rw [htk]; exact ⟨by simp only; omega, by simp only; omega, by simp only; omega⟩, by rw [htk]; simp only; omega, by rw [htk]; exact hble⟩⟩
          rw [htk]
          exact hI.add (t := (2, (hvl T (p + 1) (nd isH T n (p + 1) - (p + 1))).toInt, [])) (by rfl) (CV_num (by rw [tka_3, if_pos rfl]; exact i_of _))
      by_cases c34 : T p = 34
      · have e4 : ∀ Q : kx_Rs → wS → Prop, _ := fun Q hz => e3 Q hl hd (by rw [if_neg c35, if_pos c34]; exact hz)
        have htk0 : tk1 T n p = tkS (strf T (n + 1) (p + 1)) p := by
          unfold tk1
          rw [if_neg (by rw [hl]; decide), if_neg (by rw [hd]; decide), if_neg c35, if_pos c34]
        by_cases hok : ∃ p2 l, strf T (n + 1) (p + 1) = (l, some p2) ∧ l ≠ [] ∧ l.length ≤ 60
        · obtain ⟨p2, l, h1, h2, h3⟩ := hok
          have htk : tk1 T n p = ((3, 0, l), p2 + 1) := by
            rw [htk0, h1]
            rw [tkS_e, if_pos ⟨h2, h3⟩]
          have hnb : (tk1 T n p).1 ≠ tBad := by
            rw [htk]
            unfold tBad
            simp
          by_cases hend : p2 < e ∧ p + 1 + l.length ≤ p2
          · refine eW_known (r := .inl (some (.int (i_ (p2 + 1 : Nat))))) (w2 := tk_add (sgs w sm l) (E.1.1 3) K.length (i_ sm) (i_ l.length) (i_ ln)) (fun Q hq => e4 Q (c2_string hA (by omega) hC2 he (by omega) h10 h7 (by omega) h11 (by omega) (fun h _ => absurd ⟨p2, l, h1, h2, h3⟩ h) (fun p' l' h1' _ _ _ _ => fun _ => ?_))) (fun _ => ?_)
            · rw [h1] at h1'
              cases h1'
              exact fok Q _ _ (by omega) hq
            · have hf1 : frm (pk 1 [10, 11]) w (sgs w sm l) := sgs_frm
              have hf2 : frm (pk 1 [2, 3, 4, 5, 6, 7]) (sgs w sm l) (tk_add (sgs w sm l) (E.1.1 3) K.length (i_ sm) (i_ l.length) (i_ ln)) := tka_f
              refine ⟨ns, lm, sm + l.length, ?_, (hf1.sub (by decide)).tr (hf2.sub (by decide)), (hf2.i rfl).trans (hf1.i rfl), (hf2.i rfl).trans (hf1.i rfl), .inr ⟨hnb, by rw [htk], by rw [htk]; exact ⟨by simp only; omega, by simp only; omega, by simp only; omega⟩, by rw [htk]; simp only; omega, by rw [htk]; simp only; omega⟩⟩
              rw [htk]
              exact (hI.strs (l := l)).add (t := (3, 0, l)) (by rfl) (by
                exact CV_str ⟨sm, Nat.le_refl _, h3, by rw [tka_3, if_pos rfl], by rw [tka_4, if_pos rfl], fun j hj => by rw [hf2.a rfl]; exact sgs_at hj⟩)
          · exact .inl (fun Q => e4 Q (c2_string hA (by omega) hC2 he (by omega) h10 h7 (by omega) h11 (by omega) (fun h _ => absurd ⟨p2, l, h1, h2, h3⟩ h) (fun p' l' h1' _ _ h4 h5 => by
              rw [h1] at h1'
              cases h1'
              exact absurd ⟨h4, h5⟩ hend)))
        · have htk : (tk1 T n p).1 = tBad := by
            rw [htk0]
            cases hs : strf T (n + 1) (p + 1) with
            | mk l o =>
              cases o with
              | none => rfl
              | some q =>
                rw [tkS_e, if_neg (fun h => hok ⟨q, l, hs, h.1, h.2⟩)]
          have hf1 : frm (pk 1 [10, 11]) w (sgs w sm (strf T (n + 1) (p + 1)).1) := sgs_frm
          by_cases hlen : (strf T (n + 1) (p + 1)).1.length ≤ e - (p + 1)
          · exact eW_known (fun Q hq => e4 Q (c2_string hA (by omega) hC2 he (by omega) h10 h7 (by omega) h11 (by omega) (fun _ _ => fun _ => fbad Q _ (hf1.sub (by decide)) (by rw [hf1.i rfl]; exact h7) hq) (fun p' l' h1 h2 h3 _ _ => absurd ⟨p', l', h1, h2, h3⟩ hok))) (fun _ => TO2_bad hA hI.strs (hf1.sub (by decide)) (hf1.i rfl) (hf1.i rfl) htk ⟨by omega, by omega, by omega⟩)
          · exact .inl (fun Q => e4 Q (c2_string hA (by omega) hC2 he (by omega) h10 h7 (by omega) h11 (by omega) (fun _ h => absurd h hlen) (fun p' l' h1 h2 h3 _ _ => absurd ⟨p', l', h1, h2, h3⟩ hok)))
      by_cases c39 : T p = 39
      · have e4 : ∀ Q : kx_Rs → wS → Prop, _ := fun Q hz => e3 Q hl hd (by rw [if_neg c35, if_neg c34, if_pos c39]; exact hz)
        have htk0 : tk1 T n p = tkC T (sg T (p + 1)) p := by
          unfold tk1
          rw [if_neg (by rw [hl]; decide), if_neg (by rw [hd]; decide), if_neg c35, if_neg c34, if_pos c39]
        cases hsg : sg T (p + 1) with
        | none =>
          have htk : (tk1 T n p).1 = tBad := by
            rw [htk0, hsg]
            rfl
          exact eW_known (fun Q hq => e4 Q (c2_character hA (by omega) hC2 he (by omega) h10 h7 (by omega) h11 (by omega) (fun _ => fun _ => fbad Q _ hframe0 h7 hq) (fun v p' h => by rw [hsg] at h; cases h) (fun v p' h => by rw [hsg] at h; cases h))) (fun _ => TO2_bad hA hI hframe0 rfl rfl htk hPBe)
        | some vq =>
          obtain ⟨v, q⟩ := vq
          obtain ⟨g1, g2, g3⟩ := sg_end h10 (show p + 1 ≤ e by omega) hsg
          have hf1 : frm (pk 1 [10, 11]) w (sg_add w sm v) := sg_frm
          have hIs : TKI E (sg_add w sm v) T n ns lm (sm + 1) K := hI.strs (l := [v])
          by_cases c39b : T q = 39
          · have htk : tk1 T n p = ((4, v, []), q + 1) := by
              rw [htk0, hsg]
              rw [tkC_e, if_pos c39b]
            have hnb : (tk1 T n p).1 ≠ tBad := by
              rw [htk]
              unfold tBad
              simp
            have hqe : q < e := by
              by_cases hqe : q = e
              · rw [hqe, h10] at c39b
                cases c39b
              · omega
            refine eW_known (r := .inl (some (.int (i_ (q + 1 : Nat))))) (w2 := tk_add (sg_add w sm v) (E.1.1 4) K.length (i_ v) 0 (i_ ln)) (fun Q hq => e4 Q (c2_character hA (by omega) hC2 he (by omega) h10 h7 (by omega) h11 (by omega) (fun h => by rw [hsg] at h; cases h) (fun v' p' h h2 => by rw [hsg] at h; cases h; exact absurd c39b h2) (fun v' p' h _ _ => by rw [hsg] at h; cases h; exact fun _ => fok Q _ _ (by omega) hq))) (fun _ => ?_)
            have hf2 : frm (pk 1 [2, 3, 4, 5, 6, 7]) (sg_add w sm v) (tk_add (sg_add w sm v) (E.1.1 4) K.length (i_ v) 0 (i_ ln)) := tka_f
            refine ⟨ns, lm, sm + 1, ?_, (hf1.sub (by decide)).tr (hf2.sub (by decide)), (hf2.i rfl).trans (hf1.i rfl), (hf2.i rfl).trans (hf1.i rfl), .inr ⟨hnb, by rw [htk], by rw [htk]; exact ⟨by simp only; omega, by simp only; omega, by simp only; omega⟩, by rw [htk]; simp only; omega, by rw [htk]; simp only; omega⟩⟩
            rw [htk]
            have := sg_v hsg
            exact hIs.add (t := (4, v, [])) (by rfl) (by
              exact CV_chr ⟨by rw [tka_3, if_pos rfl], this.1, this.2⟩)
          · have htk : (tk1 T n p).1 = tBad := by
              rw [htk0, hsg]
              rw [tkC_e, if_neg c39b]
            exact eW_known (fun Q hq => e4 Q (c2_character hA (by omega) hC2 he (by omega) h10 h7 (by omega) h11 (by omega) (fun h => by rw [hsg] at h; cases h) (fun v' p' h _ => by rw [hsg] at h; cases h; exact fun _ => fbad Q _ (hf1.sub (by decide)) (by rw [hf1.i rfl]; exact h7) hq) (fun v' p' h h2 _ => by rw [hsg] at h; cases h; exact absurd h2 c39b))) (fun _ => TO2_bad hA hIs (hf1.sub (by decide)) (hf1.i rfl) (hf1.i rfl) htk ⟨by omega, by omega, by omega⟩)
      · have e4 : ∀ Q : kx_Rs → wS → Prop, _ := fun Q hz => e3 Q hl hd (by rw [if_neg c35, if_neg c34, if_neg c39]; exact hz)
        by_cases hs1 : (sgk T p).1 = -1
        · have htk : (tk1 T n p).1 = tBad := by
            unfold tk1
            rw [if_neg (by rw [hl]; decide), if_neg (by rw [hd]; decide), if_neg c35, if_neg c34, if_neg c39, if_pos hs1]
          exact eW_known (fun Q hq => e4 Q (c2_sign hA (by omega) hC2 he (by omega) h10 h7 (by omega) (fun _ => fun _ => fbad Q _ hframe0 h7 hq) (fun h => absurd hs1 h))) (fun _ => TO2_bad hA hI hframe0 rfl rfl htk hPBe)
        · have htk : tk1 T n p = ((5, (sgk T p).1, []), (sgk T p).2) := by
            unfold tk1
            rw [if_neg (by rw [hl]; decide), if_neg (by rw [hd]; decide), if_neg c35, if_neg c34, if_neg c39, if_neg hs1]
          have hnb : (tk1 T n p).1 ≠ tBad := by
            rw [htk]
            unfold tBad
            simp
          have hv : 36 ≤ (sgk T p).1 ∧ (sgk T p).1 ≤ 63 := by
            have a1 := @sgn1_v (T p)
            have a2 := @sgn2_v (T p) (T (p + 1))
            unfold sgn_ok at a1
            unfold sgk at hs1 ⊢
            split at hs1 <;> rename_i hh
            · rw [if_pos hh]
              simp only at hs1 ⊢
              omega
            · rw [if_neg hh]
              simp only at hs1 ⊢
              omega
          have hq1 : p < (sgk T p).2 ∧ (sgk T p).2 ≤ p + 2 := by
            unfold sgk
            split <;> simp
          by_cases hqe : (sgk T p).2 ≤ e
          · refine eW_known (r := .inl (some (.int (i_ (sgk T p).2)))) (w2 := tk_add w (E.1.1 5) K.length (i_ (sgk T p).1) 0 (i_ ln)) (fun Q hq => e4 Q (c2_sign hA (by omega) hC2 he (by omega) h10 h7 (by omega) (fun h => absurd h hs1) (fun _ _ => fun _ => fok Q _ _ (by omega) hq))) (fun _ => ?_)
            have hf2 : frm (pk 1 [2, 3, 4, 5, 6, 7]) w (tk_add w (E.1.1 5) K.length (i_ (sgk T p).1) 0 (i_ ln)) := tka_f
            refine ⟨ns, lm, sm, ?_, hf2.sub (by decide), hf2.i rfl, hf2.i rfl, .inr ⟨hnb, by rw [htk], by rw [htk]; exact ⟨by simp only; omega, by simp only; omega, by simp only; omega⟩, by rw [htk]; simp only; omega, by rw [htk]; simp only; omega⟩⟩
            rw [htk]
            exact hI.add (t := (5, (sgk T p).1, [])) (by rfl) (by
              exact CV_sgn ⟨by rw [tka_3, if_pos rfl], hv.1, hv.2⟩)
          · exact .inl (fun Q => e4 Q (c2_sign hA (by omega) hC2 he (by omega) h10 h7 (by omega) (fun h => absurd h hs1) (fun _ h => absurd h hqe)))
end TO
