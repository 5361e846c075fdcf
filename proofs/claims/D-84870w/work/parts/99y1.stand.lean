/-! ===== PARSERS, part 25: lines that begin ===== -/
section STN
variable {ex et : List Nat} {S S' S0 SA : pS} {D : pD} {K : pK} {p p0 q o o' oA dl m N n n2 b b2 lo hi lo2 hi2 r d d2 dd g pA pB : Nat} {w t w' : wS} {al : List Nat} {nu : pNz} {tn : Nat → Prop} {E E' : zE} {L L' : Nat} {ol : pOL} {f : Option Nat} {fT : Int32} {Q : kx_Rs → wS → Prop} {ns : List (List Int)} {sm : Nat} {br : Bool} {lo1 : Int} {Φ : kx_Rs → wS → kx_Rs → wS → Prop} {gt : pQ}
theorem c_stF {b : Bool} (hL : 200 ≤ L) (hC : CA E w K ns sm p) (hd : d ≤ 1000) (hl : p = 0 ∨ kk K (p - 1) = 74) (hb : bAt K p d = false) (h0 : Q (.inr AE_) (fl2 w 2 (kln K p))) : zw E L kt_M211 [.ref (w_adr E.2.1 4 0), .int (i_ d), .int (bI b)] w Q := by
  refine zt_X5_stands_p0 (by omega) ?_
  simp only [zb_X5_stands_p0, zb_X5_stands_p13, zb_X5_stands_p31]
  refine c_stands2 (by omega) hC hd hl (fun h => ?_) (fun h => ?_)
  · simp only [wk0]
    exact h0
  · rw [hb] at h; cases h
theorem c_stT (hL : 200 ≤ L) (hC : CA E w K ns sm p) (hd : d ≤ 1000) (hl : p = 0 ∨ kk K (p - 1) = 74) (hb : bAt K p d = true) (h0 : Q (.inr AE_) (fl2 (ws_i w 4 0 4 0) 2 (kln K p))) : zw E L kt_M211 [.ref (w_adr E.2.1 4 0), .int (i_ d), .int (bI false)] w Q := by
  refine zt_X5_stands_p0 (by omega) ?_
  simp only [zb_X5_stands_p0, zb_X5_stands_p13, zb_X5_stands_p31]
  refine c_stands2 (by omega) hC hd hl (fun h => ?_) (fun h => ?_)
  · rw [hb] at h; cases h
  simp only [wk0]
  intro _
  have hC' : CA E (ws_i w 4 0 4 0) K ns sm p := hC.fx (FX_i rfl) (by rw [Rii, if_neg (by decide)])
  simp only [bI_0]
  rw [if_neg (by decide)]
  refine c_unfit (by omega) hC' ?_
  simp only [wk0]
  exact h0
/-- a line that both want to stand here and to begin so -/
theorem PSg_stand {b : Bool} {x : Int32} {how : Int} (hΦ : STP D K S0 br lo1 Φ) {A B : (kx_Rs → wS → Prop) → wS → Prop} (hL : 400 ≤ L) (hL' : 400 ≤ L') (H : HY D K ex et S0 (w, t, al, m, N, nu, tn) p p o o') (hd : d ≤ 1000) (hl : p = 0 ∨ kk K (p - 1) = 74) (hx : x = i_ how) (hh : 0 ≤ how ∧ how ≤ 9) (hb : b = bBe how (kk K p))
    (k : bAt K p d = true → b = true → d ≤ 20 → HY D K ex et S0 (ws_i w 4 0 4 0, t, al, m, N, nu, tn) p p 0 o' → PS (fun Q => A Q (ws_i w 4 0 4 0)) (fun Q => B Q t) Φ) :
    PS (fun Q => zw D.1 L kt_M211 [.ref (w_adr D.1.2.1 4 0), .int (i_ d), .int (bI b)] w (wk0 (fun w1 => wle w w1 → A Q w1) (fun e w => Q (.inr e) w))) (fun Q => zw E' L' kt_M458 [.ref (w_adr E'.2.1 12 0), .int (i_ d), .int x] t (wk0 (fun w1 => wle t w1 → B Q w1) (fun e w => Q (.inr e) w))) Φ := by
  have hca := H.1.ca
  have hta := H.1.ta
  have hal := H.alive
  have hf : FX w (ws_i w 4 0 4 0) := FX_i rfl
  cases hA : bAt K p d with
  | false =>
    refine PS_lx0 (fun Q hq => c_stF (by omega) hca hd hl hA hq) (PSg_stop hΦ ?_)
    exact eS_x0 (fun Q hq => t_lineAt (by omega) hta H.1.krg hd hx hh (fun _ => hq) (fun e => by rw [hA] at e; simp at e) (fun e => by rw [hA] at e; simp at e)) (TLP_two H FX.rf frm.rf hal)
  | true =>
    cases hB : b with
    | false =>
      refine PS_lx0 (fun Q hq => c_stT (by omega) hca hd hl hA hq) (PSg_stop hΦ ?_)
      rw [hB] at hb
      exact eS_x0 (fun Q hq => t_lineAt (by omega) hta H.1.krg hd hx hh (fun _ => hq) (fun e => by rw [← hb] at e; simp at e) (fun e => by rw [← hb] at e; simp at e)) (TLP_two H hf frm.rf hal)
    | true =>
      rw [hB] at hb
      by_cases hd20 : d ≤ 20
      · refine PS_l0 (fun Q hq => c_stands (by omega) hca hd hl (fun w' _ h => by rw [hA] at h; simp at h) (fun _ h => by omega) (fun _ _ => hq)) ?_
        refine PS_r0 (fun Q hq => t_lineAt (by omega) hta H.1.krg hd hx hh (fun e => by rw [hA, ← hb] at e; simp at e) (fun _ h => by omega) (fun _ _ => hq)) ?_
        exact k hA hB hd20 (H.co (u := 0) (by omega))
      · refine PS_lx0 (fun Q hq => c_stands (by omega) hca hd hl (fun w' _ h => by rw [hA] at h; simp at h) (fun _ _ => hq) (fun _ h => by omega)) (PSg_stop hΦ ?_)
        exact eS_x0 (fun Q hq => t_lineAt (by omega) hta H.1.krg hd hx hh (fun e => by rw [hA, ← hb] at e; simp at e) (fun _ _ => hq) (fun _ h => by omega)) (TLP_two H hf frm.rf hal)
theorem SY.wl {S : pS} (h : SY D K S p q o o') {a : Nat} (ha : a ∈ S.2.2.1.take S.2.2.2.1) : w_l S.1 D.1.2.1 14 a := (h.2.2.1.2.2.2.2.1 a (List.mem_of_mem_take ha)).1
/-- MeetingHouse's last one tells of it: it is linked -/
theorem OWx.bh {cc : Bool} {bl : Option Nat} {v : Option Nat} {fi : Nat → Int32} {fp : Nat → Option Nat} (h : OWx cc (w, t, al, m, N, nu, tn) b fi fp) (hw : w' = w ∨ ∃ a, bl = some a ∧ w' = ws_p w 14 a 7 v) (hbb : bl ≠ some b) : OWl (w', t, al, m, N, nu, tn) b fi fp := by
  rcases hw with e | ⟨a, e, e'⟩
  · rw [e]; exact h.wk
  · rw [e']
    exact h.wk.op (fun e2 => hbb (by rw [e, e2]))
theorem OWx.bho {cc : Bool} {bl : Option Nat} {v : Option Nat} {fi : Nat → Int32} {fp : Nat → Option Nat} (h : OWx cc (w, t, al, m, N, nu, tn) b fi fp) (hw : w' = w ∨ ∃ a, bl = some a ∧ w' = ws_p w 14 a 7 v) (hbb : bl ≠ some b) (hv : v ≠ some b) : OWx cc (w', t, al, m, N, nu, tn) b fi fp := by
  rcases hw with e | ⟨a, e, e'⟩
  · rw [e]; exact h
  · rw [e']
    exact h.op (fun e2 => hbb (by rw [e, e2])) (.inr (.inr hv))
end STN
