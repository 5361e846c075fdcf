/-! ===== PARSERS, part 8: nodes begin; the twin at a bad token ===== -/
theorem PW_of' {w t : wS} {E E' : zE} {L L' : Nat} {M M' : kx_M} {As As' : List Value} {A B : pQ} {Φ : kx_Rs → wS → kx_Rs → wS → Prop} (ha : ∀ Q, A Q → zw E L M As w Q) (hb : ∀ Q, B Q → zw E' L' M' As' t Q) (h : PS A B Φ) : PW w t (fun Q => zw E L M As w Q) (fun Q => zw E' L' M' As' t Q) Φ := PW_of ha hb (PS_mono h (fun _ _ _ _ h _ _ => h))
section PHS
variable {ex et : List Nat} {S0 : pS} {D : pD} {K : pK} {p q o o' m N n b : Nat} {w t : wS} {al : List Nat} {nu : pNz} {tn : Nat → Prop} {E E' : zE} {L L' : Nat} {gc gt : pQ} {Φ : kx_Rs → wS → kx_Rs → wS → Prop} {x1 : Option Nat}
theorem OWx.wl {cc : Bool} {S : pS} {fi : Nat → Int32} {fp : Nat → Option Nat} (h : OWx cc S b fi fp) (hs : SY D K S p q o o') : w_l S.1 D.1.2.1 14 b := (hs.2.2.1.2.2.2.2.1 b (List.mem_of_mem_take h.1.1.1)).1
theorem SY.ln {S : pS} (h : SY D K S p q o o') {k : Nat} (hk : k + 1 < K.length) (h74 : kk K k ≠ 74) : kln K (k + 1) = kln K k := h.krg.2 k hk h74
theorem c_nodeE (hL : 200 ≤ L) (hm : m < 11000) (hS : SY D K (w, t, al, m, N, nu, tn) p q o o') : eW w (fun Q => zw D.1 L kt_M196 [.ref (w_adr D.1.2.1 4 0), va_rf x1] w Q) (NO2 D.1 w al m x1 (i_ p) (i_ (kln K p))) := by
  have hpos : w_i w 4 0 3 = i_ p := hS.2.1.1.1
  refine eW_of (A := fun Q => zb_X5_node_p0 D.1 L Q x1 w) (fun Q h => zt_X5_node_p0 (by omega) h) ?_
  simp only [zb_X5_node_p0, hpos]
  refine eS_1 (w2 := w) (fun Q hq => c_line (by omega) hS.ca hq) ?_
  refine eS_ce (c_node (by omega) hS.2.2.1 hm) ?_
  rintro r w2 hle ⟨b, al', e, hr⟩
  subst e
  simp only [wkr, va_rf, hle, forall_const]
  exact eS_ret (fun _ => ⟨b, al', rfl, hr⟩)
/-- a node begins -/
theorem PS_cn {A : (kx_Rs → wS → Prop) → Option Nat → wS → Prop} {X : (kx_Rs → wS → Prop) → String → wS → Prop} (hL : 200 ≤ L) (hm : m < 11000) (hH : HY D K ex et S0 (w, t, al, m, N, nu, tn) p q o o') (k : ∀ b al' w2, HY D K ex et S0 (w2, t, al', m + 1, N, nu, tn) p q o o' → FR [] [] (w, t, al, m, N, nu, tn) (w2, t, al', m + 1, N, nu, tn) → OWc (w2, t, al', m + 1, N, nu, tn) b (ndI (i_ p) (i_ (kln K p))) (ndP x1) → b ∉ al.take m → b ∉ S0.2.2.1.take S0.2.2.2.1 → PS (fun Q => A Q (some b) w2) gt Φ) : PS (fun Q => zw D.1 L kt_M196 [.ref (w_adr D.1.2.1 4 0), va_rf x1] w (wkr (fun v w1 => wle w w1 → A Q v w1) (X Q))) gt Φ := by
  refine PS_lce (Kc := fun Q => wkr (fun v w1 => wle w w1 → A Q v w1) (X Q)) (c_nodeE hL hm hH.1) (fun r w2 hl hn => ?_)
  obtain ⟨b, al', e, h1, h2, h3, h4, h5, h6, h7, h8, h9⟩ := hH.cnd hn hl
  subst e
  exact PS_l (fun _ a => fun _ => a) (k b al' w2 h1 h2 (OWc.new h3 h5 h4 h9) h6 h7)
/-- the same, where the token is told -/
theorem PS_cn2 {A : (kx_Rs → wS → Prop) → Option Nat → wS → Prop} {X : (kx_Rs → wS → Prop) → String → wS → Prop} {x2 x3 : Int32} (hL : 200 ≤ L) (hm : m < 11000) (hH : HY D K ex et S0 (w, t, al, m, N, nu, tn) p q o o') (k : ∀ b al' w2, HY D K ex et S0 (w2, t, al', m + 1, N, nu, tn) p q o o' → FR [] [] (w, t, al, m, N, nu, tn) (w2, t, al', m + 1, N, nu, tn) → OWc (w2, t, al', m + 1, N, nu, tn) b (ndI x2 x3) (ndP x1) → b ∉ al.take m → b ∉ S0.2.2.1.take S0.2.2.2.1 → PS (fun Q => A Q (some b) w2) gt Φ) : PS (fun Q => zw D.1 L kt_M225 [.ref (w_adr D.1.2.1 3 0), va_rf x1, .int x2, .int x3] w (wkr (fun v w1 => wle w w1 → A Q v w1) (X Q))) gt Φ := by
  refine PS_lce (Kc := fun Q => wkr (fun v w1 => wle w w1 → A Q v w1) (X Q)) (c_node (by omega) hH.1.2.2.1 hm) (fun r w2 hl hn => ?_)
  obtain ⟨b, al', e, h1, h2, h3, h4, h5, h6, h7, h8, h9⟩ := hH.cnd hn hl
  subst e
  exact PS_l (fun _ a => fun _ => a) (k b al' w2 h1 h2 (OWc.new h3 h5 h4 h9) h6 h7)
/-- lengths of the twin's rows -/
theorem SY.tl {S : pS} (h : SY D K S p q o o') : w_n S.2.1 12 0 26 = 14000 ∧ w_n S.2.1 12 0 27 = 14000 ∧ w_n S.2.1 12 0 28 = 14000 ∧ w_n S.2.1 12 0 29 = 14000 ∧ w_n S.2.1 12 0 30 = 14000 ∧ w_n S.2.1 12 0 31 = 14000 ∧ w_n S.2.1 12 0 32 = 14000 ∧ w_n S.2.1 12 0 33 = 14000 ∧ w_n S.2.1 12 0 34 = 14000 ∧ w_n S.2.1 12 0 41 = 14000 ∧ w_n S.2.1 12 0 42 = 14000 ∧ w_n S.2.1 12 0 96 = 14000 := h.1.1.2.2.1
end PHS
section PBD
variable {D : pD} {K : pK} {q n N : Nat} {t : wS} {E : zE} {L : Nat} {Q : kx_Rs → wS → Prop} {ms SS : List (List Int)}
theorem DEAD.ta {k : Nat} {v : Int32} (h : DEAD D K t) (hk : kT3 k = true) : DEAD D K (ws_a t 12 0 k n v) := by
  obtain ⟨h1, h2, N, h3, h4⟩ := h
  have hk2 : (26 ≤ k ∧ k ≤ 34) ∨ k = 41 ∨ k = 42 := by
    unfold kT3 at hk
    simp only [Bool.or_eq_true, Bool.and_eq_true, Nat.ble_eq, Nat.beq_eq] at hk
    exact hk
  have hf : TX t (ws_a t 12 0 k n v) := frm_a (by
    have h43 : k < 43 := by omega
    have : ∀ k, k < 43 → ((26 ≤ k ∧ k ≤ 34) ∨ k = 41 ∨ k = 42) → pT3.any (Nat.beq k) = true := by decide
    exact this k h43 hk2)
  exact ⟨h1.tx hf rfl, h2, N, h3, h4⟩
theorem TX_ta {k : Nat} {v : Int32} (hk : kT3 k = true) : TX t (ws_a t 12 0 k n v) := frm_a (by
  have hk2 : (26 ≤ k ∧ k ≤ 34) ∨ k = 41 ∨ k = 42 := by
    unfold kT3 at hk
    simp only [Bool.or_eq_true, Bool.and_eq_true, Nat.ble_eq, Nat.beq_eq] at hk
    exact hk
  have h43 : k < 43 := by omega
  have : ∀ k, k < 43 → ((26 ≤ k ∧ k ≤ 34) ∨ k = 41 ∨ k = 42) → pT3.any (Nat.beq k) = true := by decide
  exact this k h43 hk2)
theorem DEAD.tl (h : DEAD D K t) : w_n t 12 0 26 = 14000 ∧ w_n t 12 0 27 = 14000 ∧ w_n t 12 0 28 = 14000 ∧ w_n t 12 0 29 = 14000 ∧ w_n t 12 0 30 = 14000 ∧ w_n t 12 0 31 = 14000 ∧ w_n t 12 0 32 = 14000 ∧ w_n t 12 0 33 = 14000 ∧ w_n t 12 0 34 = 14000 ∧ w_n t 12 0 41 = 14000 ∧ w_n t 12 0 42 = 14000 ∧ w_n t 12 0 96 = 14000 := h.1.1.1.2.1
theorem DEAD.op (h : DEAD D K t) {u : Int32} : DEAD D K (ws_i t 12 0 38 u) := by
  obtain ⟨h1, h2, N, h3, h4⟩ := h
  have hf : TX t (ws_i t 12 0 38 u) := frm_i rfl
  exact ⟨h1.tx hf (by rw [Rii, if_neg (by decide)]), h2, N, by rw [Rii, if_neg (by decide)]; exact h3, h4⟩
/-- the twin at a bad token: what needs a token stops -/
theorem t_operand_bad (hL : 100 ≤ L) (hT : TA t K ms SS q) (hK : KRG K) (h76 : kk K q = 76) (h : Q (.inr HT_) (fl3 t 1 (kln K q))) : zw E L kt_M498 [.ref (w_adr E.2.1 12 0)] t Q := by
  have hp := hT.lt
  have hrow := hT.row
  obtain ⟨l7, l8, l9, l10⟩ := hT.1.1.1
  have hpos := hT.2.1
  have hk := hT.kr hK
  refine zt_X13_operand_2_p0 (by omega) ?_
  simp only [zb_X13_operand_2_p0, zb_X13_operand_2_p328]
  refine t_look (by omega) hT ?_
  simp only [wk1, hpos, l9, i_nat' (show q < 2147483648 by omega)]
  intro _
  refine ⟨i_inb' (by omega) (by omega), ?_⟩
  rw [h76, if_pos (by decide), if_pos (by decide), if_pos (by decide)]
  refine t_isType (by omega) (by omega) ?_
  simp only [wk1]
  intro _
  rw [if_pos (by decide), if_neg (by decide), if_pos (by decide), if_pos (by decide), if_pos (by decide), if_pos (by decide), if_pos (by decide), if_pos (by decide), if_neg (by decide)]
  refine t_throw (no := 2) (e := "") (by omega) hT hk ?_
  rw [if_pos h76]
  exact h
theorem t_e_bad (hL : 200 ≤ L) (hT : TA t K ms SS q) (hK : KRG K) (h76 : kk K q = 76) (h : Q (.inr HT_) (fl3 t 1 (kln K q))) : zw E L kt_M393 [.ref (w_adr E.2.1 12 0)] t Q := by
  refine zt_X13_e_p0 (by omega) ?_
  simp only [zb_X13_e_p0]
  refine t_look (by omega) hT ?_
  simp only [wk1]
  intro _
  rw [h76, if_neg (by decide), if_neg (by decide), if_neg (by decide), if_neg (by decide), if_pos (by decide)]
  refine t_operand_bad (by omega) hT hK h76 ?_
  simp only [wk1]
  exact h
theorem t_elem_bad (hL : 200 ≤ L) (hT : TA t K ms SS q) (hK : KRG K) (h76 : kk K q = 76) (h : Q (.inr HT_) (fl3 t 1 (kln K q))) : zw E L kt_M396 [.ref (w_adr E.2.1 12 0)] t Q := by
  have hp := hT.lt
  obtain ⟨l7, l8, l9, l10⟩ := hT.1.1.1
  refine zt_X13_elem_p0 (by omega) ?_
  simp only [zb_X13_elem_p0, hT.2.1, l9, i_nat' (show q < 2147483648 by omega)]
  refine ⟨i_inb' (by omega) (by omega), ?_⟩
  refine t_wantName (by omega) hT hK (fun e => by omega) (fun _ => ?_)
  simp only [wk1]
  rw [if_pos h76]
  exact h
theorem t_list_bad (hL : 300 ≤ L) (hT : TA t K ms SS q) (hK : KRG K) (h76 : kk K q = 76) (h : Q (.inr HT_) (fl3 t 1 (kln K q))) : zw E L kt_M459 [.ref (w_adr E.2.1 12 0)] t Q := by
  refine zt_X13_list_p0 (by omega) ?_
  simp only [zb_X13_list_p0]
  refine t_e_bad (by omega) hT hK h76 ?_
  simp only [wk1]
  exact h
theorem t_elements_bad (hL : 300 ≤ L) (hT : TA t K ms SS q) (hK : KRG K) (h76 : kk K q = 76) (h : Q (.inr HT_) (fl3 t 1 (kln K q))) : zw E L kt_M398 [.ref (w_adr E.2.1 12 0)] t Q := by
  refine zt_X13_elements_p0 (by omega) ?_
  simp only [zb_X13_elements_p0]
  refine t_elem_bad (by omega) hT hK h76 ?_
  simp only [wk1]
  exact h
theorem t_process_bad {d : Nat} (hL : 400 ≤ L) (hT : TA t K ms SS q) (hK : KRG K) (hd : d ≤ 1000) (h76 : kk K q = 76) (h : Q (.inr HT_) (fl3 t 1 (kln K q))) : zw E L kt_M514 [.ref (w_adr E.2.1 12 0), .int (i_ d)] t Q := by
  refine zt_X13_process_p0 (by omega) ?_
  simp only [zb_X13_process_p0]
  have hb : bBe 0 (kk K q) = false := by rw [h76]; rfl
  refine t_lineAt (how := 0) (by omega) hT hK hd rfl (by omega) (fun _ => ?_) (fun e => ?_) (fun e => ?_)
  · simp only [wk0]
    rw [if_pos h76]
    exact h
  · rw [hb] at e
    simp at e
  · rw [hb] at e
    simp at e
end PBD
