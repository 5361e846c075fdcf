/-! ===== PARSERS, part 17a: lines that no one takes (printed by tools/gen_late.py out of 99g, 99i) ===== -/
/-- MeetingHouse has stopped at a line that none of those at depths up to dl takes; the twin stands there -/
def LATE (D : pD) (K : pK) (dl : Nat) (w' t : wS) : Prop := ∃ p, (w_i w' 2 0 1 = i_ 2 ∧ w_i w' 2 0 2 = i_ (kln K p)) ∧ TA t K D.2.2.1 D.2.2.2.1 p ∧ (kk K p ≠ 76 ∧ kk K p ≠ 75 ∧ 0 < p ∧ kk K (p - 1) = 74) ∧ (∀ e, e ≤ dl → bAt K p e = false) ∧ ∃ N : Nat, w_i t 12 0 25 = i_ N ∧ N ≤ 11000
def LTs (D : pD) (K : pK) (dl : Nat) (S0 : pS) (w' t : wS) : Prop := (FY S0.1 w' ∧ KRG K) ∧ TX S0.2.1 t ∧ LATE D K dl w' t
def TLPd (D : pD) (K : pK) (dl : Nat) (w0 t0 : wS) (b : Bool) (lo : Int) (w' : wS) (r' : kx_Rs) (t' : wS) : Prop := TLP D K w0 t0 b lo w' r' t' ∨ ((∃ v : Int, lo ≤ v ∧ v < 14000 ∧ r' = rr_ b (i_ v)) ∧ FY w0 w' ∧ TX t0 t' ∧ LATE D K dl w' t')
/-- with the count of names that are declared -/
abbrev pGd := Nat → pG
def PRd (D : pD) (K : pK) (dl : Nat) (ex et : List Nat) (S0 : pS) (p0 o : Nat) (bl br : Bool) (lo : Int) (G : pGd) (r : kx_Rs) (w' : wS) (r' : kx_Rs) (t' : wS) : Prop := (r = .inr AE_ ∧ TLPd D K dl S0.1 S0.2.1 br lo w' r' t') ∨ ∃ x v al m N nu tn p c, r = rl_ bl x ∧ r' = rr_ br v ∧ HY D K ex et (cb S0 c) (w', t', al, m, N, nu, tn) p p o o ∧ (p0 < p ∧ m + 4 * p0 ≤ S0.2.2.2.1 + 4 * p ∧ N + 4 * p0 ≤ S0.2.2.2.2.1 + 4 * p) ∧ G c x v (w', t', al, m, N, nu, tn) p
section PRDS
variable {ex et ex' et' : List Nat} {S0 : pS} {D : pD} {K : pK} {p p0 q o o' oA m N dl dl1 : Nat} {w t : wS} {al : List Nat} {nu : pNz} {tn : Nat → Prop} {bl br : Bool} {lo lo1 : Int} {G : pGd} {G1 : pG} {G2 : pGd} {E E' : zE} {L L' : Nat} {M M' : kx_M} {As As' : List Value} {gt gc : pQ}
theorem LATE.dn {w' : wS} {d1 : Nat} (h : LATE D K d1 w' t) (hd : dl ≤ d1) : LATE D K dl w' t := by
  obtain ⟨p, h1, h2, h3, h4, h5⟩ := h
  exact ⟨p, h1, h2, h3, fun e he => h4 e (by omega), h5⟩
theorem LTs.dn {w' : wS} {d1 : Nat} (h : LTs D K d1 S0 w' t) (hd : dl ≤ d1) : LTs D K dl S0 w' t := ⟨h.1, h.2.1, h.2.2.dn hd⟩
theorem LATE.ta {w' : wS} {k n : Nat} {v : Int32} (h : LATE D K dl w' t) (hk : kT3 k = true) : LATE D K dl w' (ws_a t 12 0 k n v) := by
  obtain ⟨p, h1, h2, h3, h4, N, h5, h6⟩ := h
  exact ⟨p, h1, h2.tx (TX_ta hk) rfl, h3, h4, N, h5, h6⟩
theorem LTs.ta {w' : wS} {k n : Nat} {v : Int32} (h : LTs D K dl S0 w' t) (hk : kT3 k = true) : LTs D K dl S0 w' (ws_a t 12 0 k n v) := ⟨h.1, h.2.1.tr (TX_ta hk), h.2.2.ta hk⟩
theorem LATE.k74 {w' : wS} (h : LATE D K dl w' t) (hK : KRG K) : ∃ p, (w_i w' 2 0 1 = i_ 2 ∧ w_i w' 2 0 2 = i_ (kln K p)) ∧ TA t K D.2.2.1 D.2.2.2.1 p ∧ (kk K p ≠ 76 ∧ kk K p ≠ 75 ∧ 0 < p ∧ kk K (p - 1) = 74) ∧ kk K p ≠ 74 := by
  obtain ⟨p, h1, h2, h3, h4, h5⟩ := h
  refine ⟨p, h1, h2, h3, fun e => ?_⟩
  have h6 := (hK.1 p h2.2.2).2.2 e
  have h7 := h2.1.2.2.2.2.1 p h2.2.2 (.inr h3.2.2.2)
  rcases h7 with h7 | h7
  · exact h3.2.1 h7
  · omega
theorem LTs.tl {w' : wS} (h : LTs D K dl S0 w' t) : w_n t 12 0 26 = 14000 ∧ w_n t 12 0 27 = 14000 ∧ w_n t 12 0 28 = 14000 ∧ w_n t 12 0 29 = 14000 ∧ w_n t 12 0 30 = 14000 ∧ w_n t 12 0 31 = 14000 ∧ w_n t 12 0 32 = 14000 ∧ w_n t 12 0 33 = 14000 ∧ w_n t 12 0 34 = 14000 ∧ w_n t 12 0 41 = 14000 ∧ w_n t 12 0 42 = 14000 ∧ w_n t 12 0 96 = 14000 := by
  obtain ⟨p, h1, h2, h3⟩ := h.2.2
  exact h2.1.1.2.1
/-- the twin returns there -/
theorem LTs.ret {w' : wS} (h : LTs D K dl S0 w' t) {v : Int} {r : kx_Rs} (hr : r = rr_ br (i_ v)) (hv : lo ≤ v ∧ v < 14000) : eS (fun Q => Q r t) (fun r' t' => TLPd D K dl S0.1 S0.2.1 br lo w' r' t') := eS_ret (.inr ⟨⟨v, hv.1, hv.2, hr⟩, h.1.1, h.2.1, h.2.2⟩)
/-- the twin throws there -/
theorem LTs.thr {w' : wS} {p : Nat} (h : (FY S0.1 w' ∧ KRG K) ∧ TX S0.2.1 t) (h1 : w_i w' 2 0 1 = i_ 2 ∧ w_i w' 2 0 2 = i_ (kln K p)) : eS (fun Q => Q (.inr HT_) (fl3 t 2 (kln K p))) (fun r' t' => TLP D K S0.1 S0.2.1 br lo w' r' t') := TLP_thr h.1.1 (h.2.tr TX_fl3) (by rw [fl3_k]; exact h1.1) (by rw [fl3_l]; exact h1.2)
/-- the twin looks whether the line stands at a depth: it does not -/
theorem LTs.isAt {w' : wS} {d : Nat} (h : LTs D K dl S0 w' t) (hd : d ≤ dl) (hd2 : d ≤ 1000) (hL : 400 ≤ L) {Q : kx_Rs → wS → Prop} (hq : Q (.inl (some (.int 0))) t) : zw E L kt_M438 [.ref (w_adr E.2.1 12 0), .int (i_ d)] t Q := by
  obtain ⟨p, h1, h2, h3, h4, h5⟩ := h.2.2
  refine t_isAt (by omega) h2 h.1.2 hd2 ?_
  rw [h4 d hd]
  exact hq
theorem LTs.lineAt {w' : wS} {d : Nat} {x : Int32} {how : Int} {A : (kx_Rs → wS → Prop) → wS → Prop} (h : LTs D K dl S0 w' t) (hd : d ≤ dl) (hd2 : d ≤ 1000) (hL : 400 ≤ L) (hx : x = i_ how) (hh : 0 ≤ how ∧ how ≤ 9) : eS (fun Q => zw E L kt_M458 [.ref (w_adr E.2.1 12 0), .int (i_ d), .int x] t (wk0 (A Q) (fun e w => Q (.inr e) w))) (fun r' t' => TLP D K S0.1 S0.2.1 br lo w' r' t') := by
  obtain ⟨p, h1, h2, h3, h4, h5⟩ := h.2.2
  have hb : (bAt K p d && bBe how (kk K p)) = false := by rw [h4 d hd]; rfl
  exact eS_x0 (fun Q hq => t_lineAt (by omega) h2 h.1.2 hd2 hx hh (fun _ => by rw [if_neg h3.1]; exact hq) (fun e => by rw [hb] at e; simp at e) (fun e => by rw [hb] at e; simp at e)) (LTs.thr ⟨h.1, h.2.1⟩ h1)
/-- the twin wants the line's end there -/
theorem LTs.endOfLine {w' : wS} {A : (kx_Rs → wS → Prop) → wS → Prop} (h : LTs D K dl S0 w' t) (hL : 400 ≤ L) : eS (fun Q => zw E L kt_M400 [.ref (w_adr E.2.1 12 0)] t (wk0 (A Q) (fun e w => Q (.inr e) w))) (fun r' t' => TLP D K S0.1 S0.2.1 br lo w' r' t') := by
  obtain ⟨p, h1, h2, h3, h4⟩ := h.2.2.k74 h.1.2
  exact eS_x0 (fun Q hq => t_endOfLine (by omega) h2 h.1.2 (fun e => absurd e h4) (fun _ => by rw [if_neg h3.1]; exact hq)) (LTs.thr ⟨h.1, h.2.1⟩ h1)
theorem LTs.process {w' : wS} {d : Nat} {A : (kx_Rs → wS → Prop) → Int32 → wS → Prop} (h : LTs D K dl S0 w' t) (hd : d ≤ dl) (hd2 : d ≤ 1000) (hL : 500 ≤ L) : eS (fun Q => zw E L kt_M514 [.ref (w_adr E.2.1 12 0), .int (i_ d)] t (wk1 (A Q) (fun e w => Q (.inr e) w))) (fun r' t' => TLP D K S0.1 S0.2.1 br lo w' r' t') := by
  obtain ⟨p, h1, h2, h3, h4, h5⟩ := h.2.2
  have hb : (bAt K p d && bBe 0 (kk K p)) = false := by rw [h4 d hd]; rfl
  refine eS_x1 (fun Q hq => ?_) (LTs.thr (p := p) ⟨h.1, h.2.1⟩ h1)
  refine zt_X13_process_p0 (by omega) ?_
  simp only [zb_X13_process_p0]
  refine t_lineAt (how := 0) (by omega) h2 h.1.2 hd2 rfl (by omega) (fun _ => ?_) (fun e => by rw [hb] at e; simp at e) (fun e => by rw [hb] at e; simp at e)
  simp only [wk0]
  rw [if_neg h3.1]
  exact hq
theorem PRd_of {r r' : kx_Rs} {w' t' : wS} (h : PR D K ex et S0 p0 oA bl br lo G1 r w' r' t') : PRd D K dl ex et S0 p0 oA bl br lo (fun c x v S p => c = 0 ∧ G1 x v S p) r w' r' t' := h.elim (fun h => .inl ⟨h.1, .inl h.2⟩) (fun ⟨x, v, al, m, N, nu, tn, p, h1, h2, h3, h4, h5⟩ => .inr ⟨x, v, al, m, N, nu, tn, p, 0, h1, h2, by rw [cb_0]; exact h3, h4, rfl, h5⟩)
/-- MeetingHouse stops -/
theorem PRd_stop {w' : wS} (h : eS gt (fun r' t' => TLP D K S0.1 S0.2.1 br lo w' r' t')) : PS (fun Q => Q (.inr AE_) w') gt (PRd D K dl ex et S0 p0 o bl br lo G) := PS_el (eS_mono h (fun r' t' h => .inl ⟨rfl, .inl h⟩))
theorem PRd_stopd {w' : wS} (h : eS gt (fun r' t' => TLPd D K dl S0.1 S0.2.1 br lo w' r' t')) : PS (fun Q => Q (.inr AE_) w') gt (PRd D K dl ex et S0 p0 o bl br lo G) := PS_el (eS_mono h (fun r' t' h => .inl ⟨rfl, h⟩))
theorem PRd_cG (hK : KRG K) {Kc Kt : (kx_Rs → wS → Prop) → kx_Rs → wS → Prop} {A : (kx_Rs → wS → Prop) → Option Nat → wS → Prop} {B : (kx_Rs → wS → Prop) → Int32 → wS → Prop} {bl1 br1 : Bool} (hF : FR ex et S0 (w, t, al, m, N, nu, tn)) (h : PW w t (fun Q => zw E L M As w Q) (fun Q => zw E' L' M' As' t Q) (PR D K ex' et' (w, t, al, m, N, nu, tn) p o bl1 br1 lo1 G1)) (hx : ∀ a ∈ ex', a ∈ S0.2.2.1.take S0.2.2.2.1 → a ∈ ex) (ht : ∀ n ∈ et', n < S0.2.2.2.2.1 → n ∈ et)
    (kc : ∀ Q x w2, A Q x w2 → Kc Q (rl_ bl1 x) w2) (kt : ∀ Q v t2, B Q v t2 → Kt Q (rr_ br1 v) t2) (kcx : ∀ (Q : kx_Rs → wS → Prop) e w2, Q (.inr e) w2 → Kc Q (.inr e) w2) (ktx : ∀ (Q : kx_Rs → wS → Prop) e t2, Q (.inr e) t2 → Kt Q (.inr e) t2)
    (k1 : ∀ x v w2 t2 al2 m2 N2 nu2 tn2 p2, wle w w2 → HY D K ex et S0 (w2, t2, al2, m2, N2, nu2, tn2) p2 p2 o o → HY D K ex' et' (w, t, al, m, N, nu, tn) (w2, t2, al2, m2, N2, nu2, tn2) p2 p2 o o → (p < p2 ∧ m2 + 4 * p ≤ m + 4 * p2 ∧ N2 + 4 * p ≤ N + 4 * p2) → G1 x v (w2, t2, al2, m2, N2, nu2, tn2) p2 → PS (fun Q => A Q x w2) (fun Q => B Q v t2) (PRd D K dl ex et S0 p0 oA bl br lo G))
    (k2 : ∀ (v : Int) w2 t2, lo1 ≤ v → v < 14000 → DDs D K S0 w2 t2 → eS (fun Q => B Q (i_ v) t2) (fun r' t' => TLP D K S0.1 S0.2.1 br lo w2 r' t')) :
    PS (fun Q => zw E L M As w (Kc Q)) (fun Q => zw E' L' M' As' t (Kt Q)) (PRd D K dl ex et S0 p0 oA bl br lo G) := by
  refine PS_c (Kc := Kc) (Kt := Kt) h (fun r w2 r' t2 hl1 hl2 hr => ?_)
  rcases hr with ⟨e, f1, f2, hr⟩ | ⟨x, v, al2, m2, N2, nu2, tn2, p2, e1, e2, h1, h2, h3⟩
  · subst e
    refine PS_l (fun Q a => kcx Q _ _ a) (PRd_stop ?_)
    rcases hr with ⟨e, e1, e2⟩ | ⟨⟨v, e0, e0b, e⟩, e1, e2, hd⟩
    · subst e
      exact eS_l (fun Q a => ktx Q _ _ a) (TLP_thr (hF.1.1.ty f1) (hF.1.2.tr f2) e1 e2)
    · subst e
      exact eS_l (fun Q a => kt Q _ _ a) (k2 v w2 t2 e0 e0b ⟨⟨⟨hF.1.1.ty f1, e1, e2⟩, hK⟩, hF.1.2.tr f2, hd⟩)
  · subst e1 e2
    exact PS_l (fun Q a => kc Q _ _ a) (PS_r (fun Q a => kt Q _ _ a) (k1 x v w2 t2 al2 m2 N2 nu2 tn2 p2 hl1 ⟨h1.1, hF.tr h1.2 hx ht⟩ h1 h2 h3))
theorem PRe_cG (hK : KRG K) {Kc Kt : (kx_Rs → wS → Prop) → kx_Rs → wS → Prop} {A : (kx_Rs → wS → Prop) → Option Nat → wS → Prop} {B : (kx_Rs → wS → Prop) → Int32 → wS → Prop} {bl1 br1 : Bool} (hF : FR ex et S0 (w, t, al, m, N, nu, tn)) (h : PW w t (fun Q => zw E L M As w Q) (fun Q => zw E' L' M' As' t Q) (PRd D K dl1 ex' et' (w, t, al, m, N, nu, tn) p o bl1 br1 lo1 G2)) (hx : ∀ a ∈ ex', a ∈ S0.2.2.1.take S0.2.2.2.1 → a ∈ ex) (ht : ∀ n ∈ et', n < S0.2.2.2.2.1 → n ∈ et)
    (kc : ∀ Q x w2, A Q x w2 → Kc Q (rl_ bl1 x) w2) (kt : ∀ Q v t2, B Q v t2 → Kt Q (rr_ br1 v) t2) (kcx : ∀ (Q : kx_Rs → wS → Prop) e w2, Q (.inr e) w2 → Kc Q (.inr e) w2) (ktx : ∀ (Q : kx_Rs → wS → Prop) e t2, Q (.inr e) t2 → Kt Q (.inr e) t2)
    (k1 : ∀ x v w2 t2 al2 m2 N2 nu2 tn2 p2 c, wle w w2 → HY D K ex et (cb S0 c) (w2, t2, al2, m2, N2, nu2, tn2) p2 p2 o o → HY D K ex' et' (cb (w, t, al, m, N, nu, tn) c) (w2, t2, al2, m2, N2, nu2, tn2) p2 p2 o o → (p < p2 ∧ m2 + 4 * p ≤ m + 4 * p2 ∧ N2 + 4 * p ≤ N + 4 * p2) → G2 c x v (w2, t2, al2, m2, N2, nu2, tn2) p2 → PS (fun Q => A Q x w2) (fun Q => B Q v t2) (PRd D K dl ex et S0 p0 oA bl br lo G))
    (k2 : ∀ (v : Int) w2 t2, lo1 ≤ v → v < 14000 → DDs D K S0 w2 t2 → eS (fun Q => B Q (i_ v) t2) (fun r' t' => TLP D K S0.1 S0.2.1 br lo w2 r' t'))
    (k3 : ∀ (v : Int) w2 t2, lo1 ≤ v → v < 14000 → LTs D K dl1 S0 w2 t2 → eS (fun Q => B Q (i_ v) t2) (fun r' t' => TLPd D K dl S0.1 S0.2.1 br lo w2 r' t')) :
    PS (fun Q => zw E L M As w (Kc Q)) (fun Q => zw E' L' M' As' t (Kt Q)) (PRd D K dl ex et S0 p0 oA bl br lo G) := by
  refine PS_c (Kc := Kc) (Kt := Kt) h (fun r w2 r' t2 hl1 hl2 hr => ?_)
  rcases hr with ⟨e, ⟨f1, f2, hr⟩ | ⟨⟨v, e0, e0b, e1⟩, f1, f2, hlt⟩⟩ | ⟨x, v, al2, m2, N2, nu2, tn2, p2, c, e1, e2, h1, h2, h3⟩
  · subst e
    refine PS_l (fun Q a => kcx Q _ _ a) (PRd_stop ?_)
    rcases hr with ⟨e, e1, e2⟩ | ⟨⟨v, e0, e0b, e⟩, e1, e2, hd⟩
    · subst e
      exact eS_l (fun Q a => ktx Q _ _ a) (TLP_thr (hF.1.1.ty f1) (hF.1.2.tr f2) e1 e2)
    · subst e
      exact eS_l (fun Q a => kt Q _ _ a) (k2 v w2 t2 e0 e0b ⟨⟨⟨hF.1.1.ty f1, e1, e2⟩, hK⟩, hF.1.2.tr f2, hd⟩)
  · subst e e1
    refine PS_l (fun Q a => kcx Q _ _ a) (PRd_stopd ?_)
    exact eS_l (fun Q a => kt Q _ _ a) (k3 v w2 t2 e0 e0b ⟨⟨hF.1.1.ty f1, hK⟩, hF.1.2.tr f2, hlt⟩)
  · subst e1 e2
    exact PS_l (fun Q a => kc Q _ _ a) (PS_r (fun Q a => kt Q _ _ a) (k1 x v w2 t2 al2 m2 N2 nu2 tn2 p2 c hl1 ⟨h1.1, hF.trc h1.2 hx ht⟩ h1 h2 h3))
theorem PRd_c11 {B : (kx_Rs → wS → Prop) → Int32 → wS → Prop} (hK : KRG K) {A : (kx_Rs → wS → Prop) → Option Nat → wS → Prop} (hF : FR ex et S0 (w, t, al, m, N, nu, tn)) (h : PW w t (fun Q => zw E L M As w Q) (fun Q => zw E' L' M' As' t Q) (PR D K ex' et' (w, t, al, m, N, nu, tn) p o true true lo1 G1)) (hx : ∀ a ∈ ex', a ∈ S0.2.2.1.take S0.2.2.2.1 → a ∈ ex) (ht : ∀ n ∈ et', n < S0.2.2.2.2.1 → n ∈ et)
    (k1 : ∀ x v w2 t2 al2 m2 N2 nu2 tn2 p2, wle w w2 → HY D K ex et S0 (w2, t2, al2, m2, N2, nu2, tn2) p2 p2 o o → HY D K ex' et' (w, t, al, m, N, nu, tn) (w2, t2, al2, m2, N2, nu2, tn2) p2 p2 o o → (p < p2 ∧ m2 + 4 * p ≤ m + 4 * p2 ∧ N2 + 4 * p ≤ N + 4 * p2) → G1 x v (w2, t2, al2, m2, N2, nu2, tn2) p2 → PS (fun Q => A Q x w2) (fun Q => B Q v t2) (PRd D K dl ex et S0 p0 oA bl br lo G))
        (k2 : ∀ (v : Int) w2 t2, lo1 ≤ v → v < 14000 → DDs D K S0 w2 t2 → eS (fun Q => B Q (i_ v) t2) (fun r' t' => TLP D K S0.1 S0.2.1 br lo w2 r' t')) :
    PS (fun Q => zw E L M As w (wkr (fun v w1 => wle w w1 → A Q v w1) (fun e w => Q (.inr e) w))) (fun Q => zw E' L' M' As' t (wk1 (fun v w1 => wle t w1 → B Q v w1) (fun e w => Q (.inr e) w))) (PRd D K dl ex et S0 p0 oA bl br lo G) :=
  PRd_cG (A := A) (B := B) hK hF h hx ht (fun _ _ _ a => wkr_k a) (fun _ _ _ a => fun _ => a) (fun _ _ _ a => a) (fun _ _ _ a => a) k1 k2
theorem PRe_c11 {B : (kx_Rs → wS → Prop) → Int32 → wS → Prop} (hK : KRG K) {A : (kx_Rs → wS → Prop) → Option Nat → wS → Prop} (hF : FR ex et S0 (w, t, al, m, N, nu, tn)) (h : PW w t (fun Q => zw E L M As w Q) (fun Q => zw E' L' M' As' t Q) (PRd D K dl1 ex' et' (w, t, al, m, N, nu, tn) p o true true lo1 G2)) (hx : ∀ a ∈ ex', a ∈ S0.2.2.1.take S0.2.2.2.1 → a ∈ ex) (ht : ∀ n ∈ et', n < S0.2.2.2.2.1 → n ∈ et)
    (k1 : ∀ x v w2 t2 al2 m2 N2 nu2 tn2 p2 c, wle w w2 → HY D K ex et (cb S0 c) (w2, t2, al2, m2, N2, nu2, tn2) p2 p2 o o → HY D K ex' et' (cb (w, t, al, m, N, nu, tn) c) (w2, t2, al2, m2, N2, nu2, tn2) p2 p2 o o → (p < p2 ∧ m2 + 4 * p ≤ m + 4 * p2 ∧ N2 + 4 * p ≤ N + 4 * p2) → G2 c x v (w2, t2, al2, m2, N2, nu2, tn2) p2 → PS (fun Q => A Q x w2) (fun Q => B Q v t2) (PRd D K dl ex et S0 p0 oA bl br lo G))
        (k2 : ∀ (v : Int) w2 t2, lo1 ≤ v → v < 14000 → DDs D K S0 w2 t2 → eS (fun Q => B Q (i_ v) t2) (fun r' t' => TLP D K S0.1 S0.2.1 br lo w2 r' t'))
        (k3 : ∀ (v : Int) w2 t2, lo1 ≤ v → v < 14000 → LTs D K dl1 S0 w2 t2 → eS (fun Q => B Q (i_ v) t2) (fun r' t' => TLPd D K dl S0.1 S0.2.1 br lo w2 r' t')) :
    PS (fun Q => zw E L M As w (wkr (fun v w1 => wle w w1 → A Q v w1) (fun e w => Q (.inr e) w))) (fun Q => zw E' L' M' As' t (wk1 (fun v w1 => wle t w1 → B Q v w1) (fun e w => Q (.inr e) w))) (PRd D K dl ex et S0 p0 oA bl br lo G) :=
  PRe_cG (A := A) (B := B) hK hF h hx ht (fun _ _ _ a => wkr_k a) (fun _ _ _ a => fun _ => a) (fun _ _ _ a => a) (fun _ _ _ a => a) k1 k2 k3
theorem PRd_c1t (hK : KRG K) {A : (kx_Rs → wS → Prop) → Option Nat → wS → Prop} (hF : FR ex et S0 (w, t, al, m, N, nu, tn)) (h : PW w t (fun Q => zw E L M As w Q) (fun Q => zw E' L' M' As' t Q) (PR D K ex' et' (w, t, al, m, N, nu, tn) p o true true lo1 G1)) (hx : ∀ a ∈ ex', a ∈ S0.2.2.1.take S0.2.2.2.1 → a ∈ ex) (ht : ∀ n ∈ et', n < S0.2.2.2.2.1 → n ∈ et)
    (k1 : ∀ x v w2 t2 al2 m2 N2 nu2 tn2 p2, wle w w2 → HY D K ex et S0 (w2, t2, al2, m2, N2, nu2, tn2) p2 p2 o o → HY D K ex' et' (w, t, al, m, N, nu, tn) (w2, t2, al2, m2, N2, nu2, tn2) p2 p2 o o → (p < p2 ∧ m2 + 4 * p ≤ m + 4 * p2 ∧ N2 + 4 * p ≤ N + 4 * p2) → G1 x v (w2, t2, al2, m2, N2, nu2, tn2) p2 → PS (fun Q => A Q x w2) (fun Q => Q (.inl (some (.int v))) t2) (PRd D K dl ex et S0 p0 oA bl br lo G))
        (k2 : ∀ (v : Int) w2 t2, lo1 ≤ v → v < 14000 → DDs D K S0 w2 t2 → eS (fun Q => Q (.inl (some (.int (i_ v)))) t2) (fun r' t' => TLP D K S0.1 S0.2.1 br lo w2 r' t')) :
    PS (fun Q => zw E L M As w (wkr (fun v w1 => wle w w1 → A Q v w1) (fun e w => Q (.inr e) w))) (fun Q => zw E' L' M' As' t Q) (PRd D K dl ex et S0 p0 oA bl br lo G) :=
  PRd_cG (Kt := fun Q => Q) (A := A) (B := fun Q v t2 => Q (.inl (some (.int v))) t2) hK hF h hx ht (fun _ _ _ a => wkr_k a) (fun _ _ _ a => a) (fun _ _ _ a => a) (fun _ _ _ a => a) k1 k2
theorem PRe_c1t (hK : KRG K) {A : (kx_Rs → wS → Prop) → Option Nat → wS → Prop} (hF : FR ex et S0 (w, t, al, m, N, nu, tn)) (h : PW w t (fun Q => zw E L M As w Q) (fun Q => zw E' L' M' As' t Q) (PRd D K dl1 ex' et' (w, t, al, m, N, nu, tn) p o true true lo1 G2)) (hx : ∀ a ∈ ex', a ∈ S0.2.2.1.take S0.2.2.2.1 → a ∈ ex) (ht : ∀ n ∈ et', n < S0.2.2.2.2.1 → n ∈ et)
    (k1 : ∀ x v w2 t2 al2 m2 N2 nu2 tn2 p2 c, wle w w2 → HY D K ex et (cb S0 c) (w2, t2, al2, m2, N2, nu2, tn2) p2 p2 o o → HY D K ex' et' (cb (w, t, al, m, N, nu, tn) c) (w2, t2, al2, m2, N2, nu2, tn2) p2 p2 o o → (p < p2 ∧ m2 + 4 * p ≤ m + 4 * p2 ∧ N2 + 4 * p ≤ N + 4 * p2) → G2 c x v (w2, t2, al2, m2, N2, nu2, tn2) p2 → PS (fun Q => A Q x w2) (fun Q => Q (.inl (some (.int v))) t2) (PRd D K dl ex et S0 p0 oA bl br lo G))
        (k2 : ∀ (v : Int) w2 t2, lo1 ≤ v → v < 14000 → DDs D K S0 w2 t2 → eS (fun Q => Q (.inl (some (.int (i_ v)))) t2) (fun r' t' => TLP D K S0.1 S0.2.1 br lo w2 r' t'))
        (k3 : ∀ (v : Int) w2 t2, lo1 ≤ v → v < 14000 → LTs D K dl1 S0 w2 t2 → eS (fun Q => Q (.inl (some (.int (i_ v)))) t2) (fun r' t' => TLPd D K dl S0.1 S0.2.1 br lo w2 r' t')) :
    PS (fun Q => zw E L M As w (wkr (fun v w1 => wle w w1 → A Q v w1) (fun e w => Q (.inr e) w))) (fun Q => zw E' L' M' As' t Q) (PRd D K dl ex et S0 p0 oA bl br lo G) :=
  PRe_cG (Kt := fun Q => Q) (A := A) (B := fun Q v t2 => Q (.inl (some (.int v))) t2) hK hF h hx ht (fun _ _ _ a => wkr_k a) (fun _ _ _ a => a) (fun _ _ _ a => a) (fun _ _ _ a => a) k1 k2 k3
end PRDS
section BSTD
variable {ex et : List Nat} {S0 : pS} {D : pD} {K : pK} {p p0 q o o' oA m N n dl : Nat} {w t w' : wS} {al : List Nat} {nu : pNz} {tn : Nat → Prop} {bl br : Bool} {lo : Int} {G : pGd} {E' : zE} {L L' : Nat} {gt : pQ}
theorem PSd_exw {A B : (kx_Rs → wS → Prop) → wS → Prop} {x x' : Int32} {c v : Int} (hL : 400 ≤ L) (hL' : 400 ≤ L') (hN : N ≤ 11000) (hH : HY D K ex et S0 (w, t, al, m, N, nu, tn) p p o o') (hx : x = i_ c) (hc : wcd c v) (hx' : x' = i_ v)
    (k : kk K p = v → HY D K ex et S0 (nx w p, nx3 t p, al, m, N, nu, tn) (p + 1) (p + 1) o o' → PS (fun Q => A Q (nx w p)) (fun Q => B Q (nx3 t p)) (PRd D K dl ex et S0 p0 oA bl br lo G))
    (kd : ∀ w', DDs D K S0 w' (nx3 t p) → eS (fun Q => B Q (nx3 t p)) (fun r' t' => TLP D K S0.1 S0.2.1 br lo w' r' t')) :
    PS (fun Q => zw D.1 L kt_M176 [.ref (w_adr D.1.2.1 4 0), .int x] w (wk0 (fun w1 => wle w w1 → A Q w1) (fun e w => Q (.inr e) w))) (fun Q => zw E' L' kt_M600 [.ref (w_adr E'.2.1 12 0), .int x'] t (wk0 (fun w1 => wle t w1 → B Q w1) (fun e w => Q (.inr e) w))) (PRd D K dl ex et S0 p0 oA bl br lo G) := by
  have hca := hH.1.ca
  have hta := hH.1.ta
  have hal := hH.1.2.1.1.2.2.1
  have hvr : 0 ≤ v ∧ v ≤ 67 := by unfold wcd at hc; omega
  by_cases e : kk K p = v
  · have hp1 := hH.p1 (by omega)
    by_cases e2 : kk K (p + 1) = 76
    · refine PS_lx0 (fun Q hq => c_expect (by omega) hca hx hc (fun h => absurd e h) (fun _ h => absurd e2 h) (fun _ _ => hq)) (PRd_stop ?_)
      refine eS_0 (fun Q hq => t_want (by omega) hta hH.1.krg hx' (by omega) (fun _ => hq) (fun h => absurd e h)) ?_
      exact kd _ (hH.dd (hH.ddx hp1 e2 FX_nx) hN (by omega) hal e2)
    · refine PS_l0 (fun Q hq => c_expect (by omega) hca hx hc (fun h => absurd e h) (fun _ _ => hq) (fun _ h => absurd h e2)) ?_
      refine PS_r0 (fun Q hq => t_want (by omega) hta hH.1.krg hx' (by omega) (fun _ => hq) (fun h => absurd e h)) ?_
      exact k e ((hH.cn (by omega) e2).tnx (by omega) hal)
  · refine PS_lx0 (fun Q hq => c_expect (by omega) hca hx hc (fun _ => hq) (fun h => absurd h e) (fun h => absurd h e)) (PRd_stop ?_)
    exact eS_x0 (fun Q hq => t_want (by omega) hta hH.1.krg hx' (by omega) (fun h => absurd h e) (fun _ => hq)) (TLP_two hH FX.rf frm.rf hal)
theorem PSd_lvw {A B : (kx_Rs → wS → Prop) → wS → Prop} {x x' : Int32} {c v : Int} (hL : 400 ≤ L) (hL' : 400 ≤ L') (hN : N ≤ 11000) (hH : HY D K ex et S0 (w, t, al, m, N, nu, tn) p p (o + 1) o') (hx : x = i_ c) (hc : wcd c v) (hx' : x' = i_ v)
    (k : kk K p = v → HY D K ex et S0 (ws_i (nx w p) 4 0 4 (i_ o), nx3 t p, al, m, N, nu, tn) (p + 1) (p + 1) o o' → PS (fun Q => A Q (ws_i (nx w p) 4 0 4 (i_ o))) (fun Q => B Q (nx3 t p)) (PRd D K dl ex et S0 p0 oA bl br lo G))
    (kd : ∀ w', DDs D K S0 w' (nx3 t p) → eS (fun Q => B Q (nx3 t p)) (fun r' t' => TLP D K S0.1 S0.2.1 br lo w' r' t')) :
    PS (fun Q => zw D.1 L kt_M188 [.ref (w_adr D.1.2.1 4 0), .int x] w (wk0 (fun w1 => wle w w1 → A Q w1) (fun e w => Q (.inr e) w))) (fun Q => zw E' L' kt_M600 [.ref (w_adr E'.2.1 12 0), .int x'] t (wk0 (fun w1 => wle t w1 → B Q w1) (fun e w => Q (.inr e) w))) (PRd D K dl ex et S0 p0 oA bl br lo G) := by
  have hca := hH.1.ca
  have hta := hH.1.ta
  have hal := hH.1.2.1.1.2.2.1
  have ho := hH.1.2.1.1.2.2.2
  have hvr : 0 ≤ v ∧ v ≤ 67 := by unfold wcd at hc; omega
  by_cases e : kk K p = v
  · have hp1 := hH.p1 (by omega)
    by_cases e2 : kk K (p + 1) = 76
    · refine PS_lx0 (fun Q hq => c_leave (o := o) (by omega) hca ho.1 hx hc (fun h => absurd e h) (fun _ h => absurd e2 h) (fun _ _ => hq)) (PRd_stop ?_)
      refine eS_0 (fun Q hq => t_want (by omega) hta hH.1.krg hx' (by omega) (fun _ => hq) (fun h => absurd e h)) ?_
      exact kd _ (hH.dd (hH.ddx hp1 e2 FX_nx) hN (by omega) hal e2)
    · refine PS_l0 (fun Q hq => c_leave (o := o) (by omega) hca ho.1 hx hc (fun h => absurd e h) (fun _ _ => hq) (fun _ h => absurd h e2)) ?_
      refine PS_r0 (fun Q hq => t_want (by omega) hta hH.1.krg hx' (by omega) (fun _ => hq) (fun h => absurd e h)) ?_
      exact k e (((hH.cn (by omega) e2).tnx (by omega) hal).co (by omega))
  · refine PS_lx0 (fun Q hq => c_leave (o := o) (by omega) hca ho.1 hx hc (fun _ => hq) (fun h => absurd h e) (fun h => absurd h e)) (PRd_stop ?_)
    exact eS_x0 (fun Q hq => t_want (by omega) hta hH.1.krg hx' (by omega) (fun h => absurd h e) (fun _ => hq)) (TLP_two hH FX.rf frm.rf hal)
theorem PSd_elw {A B : (kx_Rs → wS → Prop) → wS → Prop} (hL : 400 ≤ L) (hL' : 400 ≤ L') (hN : N ≤ 11000) (hH : HY D K ex et S0 (w, t, al, m, N, nu, tn) p p o o')
    (k : kk K p = 74 → HY D K ex et S0 (nx w p, nx3 t p, al, m, N, nu, tn) (p + 1) (p + 1) o o' → PS (fun Q => A Q (nx w p)) (fun Q => B Q (nx3 t p)) (PRd D K dl ex et S0 p0 oA bl br lo G))
    (kd : ∀ w', DDs D K S0 w' (nx3 t p) → eS (fun Q => B Q (nx3 t p)) (fun r' t' => TLP D K S0.1 S0.2.1 br lo w' r' t')) :
    PS (fun Q => zw D.1 L kt_M174 [.ref (w_adr D.1.2.1 4 0)] w (wk0 (fun w1 => wle w w1 → A Q w1) (fun e w => Q (.inr e) w))) (fun Q => zw E' L' kt_M400 [.ref (w_adr E'.2.1 12 0)] t (wk0 (fun w1 => wle t w1 → B Q w1) (fun e w => Q (.inr e) w))) (PRd D K dl ex et S0 p0 oA bl br lo G) := by
  have hca := hH.1.ca
  have hta := hH.1.ta
  have hal := hH.1.2.1.1.2.2.1
  by_cases e : kk K p = 74
  · have hp1 := hH.p1 (by omega)
    by_cases e2 : kk K (p + 1) = 76
    · refine PS_lx0 (fun Q hq => c_endLine (by omega) hca (fun h => absurd e h) (fun _ h => absurd e2 h) (fun _ _ => hq)) (PRd_stop ?_)
      refine eS_0 (fun Q hq => t_endOfLine (by omega) hta hH.1.krg (fun _ => hq) (fun h => absurd e h)) ?_
      exact kd _ (hH.dd (hH.ddx hp1 e2 FX_nx) hN (by omega) hal e2)
    · refine PS_l0 (fun Q hq => c_endLine (by omega) hca (fun h => absurd e h) (fun _ _ => hq) (fun _ h => absurd h e2)) ?_
      refine PS_r0 (fun Q hq => t_endOfLine (by omega) hta hH.1.krg (fun _ => hq) (fun h => absurd e h)) ?_
      exact k e ((hH.cn (by omega) e2).tnx (by omega) hal)
  · refine PS_lx0 (fun Q hq => c_endLine (by omega) hca (fun _ => hq) (fun h => absurd h e) (fun h => absurd h e)) (PRd_stop ?_)
    exact eS_x0 (fun Q hq => t_endOfLine (by omega) hta hH.1.krg (fun h => absurd h e) (fun _ => hq)) (TLP_two hH FX.rf frm.rf hal)
theorem PSd_nmw {A B : (kx_Rs → wS → Prop) → Int32 → wS → Prop} (hL : 400 ≤ L) (hL' : 400 ≤ L') (hN : N ≤ 11000) (hH : HY D K ex et S0 (w, t, al, m, N, nu, tn) p p o o')
    (k : kk K p = 70 → HY D K ex et S0 (nx w p, nx3 t p, al, m, N, nu, tn) (p + 1) (p + 1) o o' → nmr D (w_a w 1 0 3 p) (w_a t 12 0 8 p) → PS (fun Q => A Q (w_a w 1 0 3 p) (nx w p)) (fun Q => B Q (w_a t 12 0 8 p) (nx3 t p)) (PRd D K dl ex et S0 p0 oA bl br lo G))
    (kd : ∀ w', DDs D K S0 w' (nx3 t p) → eS (fun Q => B Q (w_a t 12 0 8 p) (nx3 t p)) (fun r' t' => TLP D K S0.1 S0.2.1 br lo w' r' t')) :
    PS (fun Q => zw D.1 L kt_M193 [.ref (w_adr D.1.2.1 4 0)] w (wk1 (fun v w1 => wle w w1 → A Q v w1) (fun e w => Q (.inr e) w))) (fun Q => zw E' L' kt_M601 [.ref (w_adr E'.2.1 12 0)] t (wk1 (fun v w1 => wle t w1 → B Q v w1) (fun e w => Q (.inr e) w))) (PRd D K dl ex et S0 p0 oA bl br lo G) := by
  have hca := hH.1.ca
  have hta := hH.1.ta
  have hal := hH.1.2.1.1.2.2.1
  by_cases e : kk K p = 70
  · have hp1 := hH.p1 (by omega)
    by_cases e2 : kk K (p + 1) = 76
    · refine PS_lx1 (fun Q hq => c_name (by omega) hca (fun h => absurd e h) (fun _ h => absurd e2 h) (fun _ _ => hq)) (PRd_stop ?_)
      refine eS_1 (fun Q hq => t_wantName (by omega) hta hH.1.krg (fun _ => hq) (fun h => absurd e h)) ?_
      exact kd _ (hH.dd (hH.ddx hp1 e2 FX_nx) hN (by omega) hal e2)
    · refine PS_l1 (fun Q hq => c_name (by omega) hca (fun h => absurd e h) (fun _ _ => hq) (fun _ h => absurd h e2)) ?_
      refine PS_r1 (fun Q hq => t_wantName (by omega) hta hH.1.krg (fun _ => hq) (fun h => absurd e h)) ?_
      exact k e ((hH.cn (by omega) e2).tnx (by omega) hal) (hH.1.nm e)
  · refine PS_lx1 (fun Q hq => c_name (by omega) hca (fun _ => hq) (fun h => absurd h e) (fun h => absurd h e)) (PRd_stop ?_)
    exact eS_x1 (fun Q hq => t_wantName (by omega) hta hH.1.krg (fun h => absurd h e) (fun _ => hq)) (TLP_two hH FX.rf frm.rf hal)
theorem PSd_enw {A B : (kx_Rs → wS → Prop) → wS → Prop} (hL : 400 ≤ L) (hL' : 400 ≤ L') (hN : N ≤ 11000) (hH : HY D K ex et S0 (w, t, al, m, N, nu, tn) p p o o) (h5 : kk K p ≠ 75)
    (k : o < 20 → HY D K ex et S0 (nx (ws_i w 4 0 4 (i_ (o + 1 : Nat))) p, nx3 (ws_i t 12 0 38 (i_ (o + 1 : Nat))) p, al, m, N, nu, tn) (p + 1) (p + 1) (o + 1) (o + 1) → PS (fun Q => A Q (nx (ws_i w 4 0 4 (i_ (o + 1 : Nat))) p)) (fun Q => B Q (nx3 (ws_i t 12 0 38 (i_ (o + 1 : Nat))) p)) (PRd D K dl ex et S0 p0 oA bl br lo G))
    (kd : ∀ w', DDs D K S0 w' (nx3 (ws_i t 12 0 38 (i_ (o + 1 : Nat))) p) → eS (fun Q => B Q (nx3 (ws_i t 12 0 38 (i_ (o + 1 : Nat))) p)) (fun r' t' => TLP D K S0.1 S0.2.1 br lo w' r' t')) :
    PS (fun Q => zw D.1 L kt_M175 [.ref (w_adr D.1.2.1 4 0)] w (wk0 (fun w1 => wle w w1 → A Q w1) (fun e w => Q (.inr e) w))) (fun Q => zw E' L' kt_M497 [.ref (w_adr E'.2.1 12 0)] t (wk0 (fun w1 => wle t w1 → B Q w1) (fun e w => Q (.inr e) w))) (PRd D K dl ex et S0 p0 oA bl br lo G) := by
  have hca := hH.1.ca
  have hta := hH.1.ta
  have hal := hH.1.2.1.1.2.2.1
  have ho := hH.1.2.1.1.2.2.2
  have ho' := hH.1.2.1.2.2.2
  have hp1 := hH.p1 h5
  by_cases e : o = 20
  · refine PS_lx0 (fun Q hq => c_enter (o := o) (by omega) hca ho.1 ho.2 h5 hal (fun _ => hq) (fun h => by omega) (fun h => by omega)) (PRd_stop ?_)
    exact eS_x0 (fun Q hq => t_opens (o := o) (by omega) hta hH.1.krg ho'.1 ho'.2 (fun h => by omega) (fun _ => hq)) (TLP_two hH FX.rf frm.rf hal)
  · have ho20 : o < 20 := by omega
    have hH1 : HY D K ex et S0 (ws_i w 4 0 4 (i_ (o + 1 : Nat)), ws_i t 12 0 38 (i_ (o + 1 : Nat)), al, m, N, nu, tn) p p (o + 1) (o + 1) := (hH.co (by omega)).to (by omega)
    by_cases e2 : kk K (p + 1) = 76
    · refine PS_lx0 (fun Q hq => c_enter (o := o) (by omega) hca ho.1 ho.2 h5 hal (fun h => by omega) (fun _ h => absurd e2 h) (fun _ _ => hq)) (PRd_stop ?_)
      refine eS_0 (fun Q hq => t_opens (o := o) (by omega) hta hH.1.krg ho'.1 ho'.2 (fun _ => hq) (fun h => by omega)) ?_
      exact kd _ (hH1.dd (hH1.ddx hp1 e2 FX_nx) hN h5 hal e2)
    · refine PS_l0 (fun Q hq => c_enter (o := o) (by omega) hca ho.1 ho.2 h5 hal (fun h => by omega) (fun _ _ => hq) (fun _ h => absurd h e2)) ?_
      refine PS_r0 (fun Q hq => t_opens (o := o) (by omega) hta hH.1.krg ho'.1 ho'.2 (fun _ => hq) (fun h => by omega)) ?_
      exact k ho20 ((hH1.cn h5 e2).tnx h5 hal)
theorem PSd_nxl {A : (kx_Rs → wS → Prop) → wS → Prop} (hL : 400 ≤ L) (hH : HY D K ex et S0 (w, t, al, m, N, nu, tn) p q o o') (h5 : kk K p ≠ 75)
    (k : HY D K ex et S0 (nx w p, t, al, m, N, nu, tn) (p + 1) q o o' → PS (fun Q => A Q (nx w p)) gt (PRd D K dl ex et S0 p0 oA bl br lo G))
    (kd : ∀ w', DDx K S0 w' → kk K (p + 1) = 76 → eS gt (fun r' t' => TLP D K S0.1 S0.2.1 br lo w' r' t')) :
    PS (fun Q => zw D.1 L kt_M195 [.ref (w_adr D.1.2.1 4 0)] w (wk0 (fun w1 => wle w w1 → A Q w1) (fun e w => Q (.inr e) w))) gt (PRd D K dl ex et S0 p0 oA bl br lo G) := by
  have hca := hH.1.ca
  have hal := hH.1.2.1.1.2.2.1
  have hp1 := hH.p1 h5
  by_cases e2 : kk K (p + 1) = 76
  · refine PS_lx0 (fun Q hq => c_next (by omega) hca h5 hal (fun h => absurd e2 h) (fun _ => hq)) (PRd_stop ?_)
    exact kd _ (hH.ddx hp1 e2 FX_nx) e2
  · refine PS_l0 (fun Q hq => c_next (by omega) hca h5 hal (fun _ => hq) (fun h => absurd h e2)) ?_
    exact k (hH.cn h5 e2)
theorem PSd_two {X : (kx_Rs → wS → Prop) → wS → Prop} (hL : 400 ≤ L) (hH : HY D K ex et S0 (w, t, al, m, N, nu, tn) p q o o') (kd : ∀ w', w' = fl2 w 2 (kln K p) → eS gt (fun r' t' => TLP D K S0.1 S0.2.1 br lo w' r' t')) : PS (fun Q => zw D.1 L kt_M213 [.ref (w_adr D.1.2.1 4 0)] w (wk0 (X Q) (fun e w => Q (.inr e) w))) gt (PRd D K dl ex et S0 p0 oA bl br lo G) := PS_lx0 (fun Q hq => c_unfit (by omega) hH.1.ca hq) (PRd_stop (kd _ rfl))
theorem PSd_nml {A : (kx_Rs → wS → Prop) → Int32 → wS → Prop} {gt : pQ} {bl br : Bool} {lo : Int} {G : pGd} (hL : 400 ≤ L) (hH : HY D K ex et S0 (w, t, al, m, N, nu, tn) p q o o') (h70 : kk K p = 70)
    (k : HY D K ex et S0 (nx w p, t, al, m, N, nu, tn) (p + 1) q o o' → PS (fun Q => A Q (w_a w 1 0 3 p) (nx w p)) gt (PRd D K dl ex et S0 p0 oA bl br lo G))
    (kd : ∀ w', DDx K S0 w' → kk K (p + 1) = 76 → eS gt (fun r' t' => TLP D K S0.1 S0.2.1 br lo w' r' t')) :
    PS (fun Q => zw D.1 L kt_M193 [.ref (w_adr D.1.2.1 4 0)] w (wk1 (fun v w1 => wle w w1 → A Q v w1) (fun e w => Q (.inr e) w))) gt (PRd D K dl ex et S0 p0 oA bl br lo G) := by
  have hca := hH.1.ca
  have hp1 := hH.p1 (by omega)
  by_cases e2 : kk K (p + 1) = 76
  · refine PS_lx1 (fun Q hq => c_name (by omega) hca (fun h => absurd h70 h) (fun _ h => absurd e2 h) (fun _ _ => hq)) (PRd_stop ?_)
    exact kd _ (hH.ddx hp1 e2 FX_nx) e2
  · refine PS_l1 (fun Q hq => c_name (by omega) hca (fun h => absurd h70 h) (fun _ _ => hq) (fun _ h => absurd h e2)) ?_
    exact k (hH.cn (by omega) e2)
theorem PSd_rtail {gc : pQ} {E : zE} {L : Nat} {M : kx_M} {As : List Value} {bl : Bool} {lo : Int} {G : pGd} (h : PS gc (fun Q => zw E L M As t Q) (PRd D K dl ex et S0 p0 oA bl true lo G)) : PS gc (fun Q => zw E L M As t (wk1 (fun v w1 => wle t w1 → Q (.inl (some (.int v))) w1) (fun e w => Q (.inr e) w))) (PRd D K dl ex et S0 p0 oA bl true lo G) := by
  rcases h with h | h | ⟨r, w2, r', t2, a, b, c⟩
  · exact .inl h
  · exact .inr (.inl (fun Q => h _))
  · refine .inr (.inr ⟨r, w2, r', t2, a, fun Q hq => b _ ?_, c⟩)
    rcases c with ⟨-, ⟨-, -, ⟨e, -⟩ | ⟨⟨v, -, -, e⟩, -⟩⟩ | ⟨⟨v, -, -, e⟩, -⟩⟩ | ⟨x, v, al, m, N, nu, tn, p, c', -, e, -⟩
    · subst e
      exact hq
    · subst e
      exact fun _ => hq
    · subst e
      exact fun _ => hq
    · subst e
      exact fun _ => hq
theorem PSd_ltail {gt : pQ} {E : zE} {L : Nat} {M : kx_M} {As : List Value} {br : Bool} {lo : Int} {G : pGd} (h : PS (fun Q => zw E L M As w Q) gt (PRd D K dl ex et S0 p0 oA true br lo G)) : PS (fun Q => zw E L M As w (wkr (fun v w1 => wle w w1 → Q (.inl (some (va_rf v))) w1) (fun e w => Q (.inr e) w))) gt (PRd D K dl ex et S0 p0 oA true br lo G) := by
  rcases h with h | h | ⟨r, w2, r', t2, a, b, c⟩
  · exact .inl (fun Q => h _)
  · exact .inr (.inl h)
  · refine .inr (.inr ⟨r, w2, r', t2, fun Q hq => a _ ?_, b, c⟩)
    rcases c with ⟨e, -⟩ | ⟨x, v, al, m, N, nu, tn, p, c', e, -⟩
    · subst e
      exact hq
    · subst e
      exact wkr_k hq
end BSTD
def STP (D : pD) (K : pK) (S0 : pS) (br : Bool) (lo : Int) (Φ : kx_Rs → wS → kx_Rs → wS → Prop) : Prop := ∀ w' r' t', TLP D K S0.1 S0.2.1 br lo w' r' t' → Φ (.inr AE_) w' r' t'
def STL (D : pD) (K : pK) (dl : Nat) (S0 : pS) (br : Bool) (lo : Int) (Φ : kx_Rs → wS → kx_Rs → wS → Prop) : Prop := ∀ w' r' t', TLPd D K dl S0.1 S0.2.1 br lo w' r' t' → Φ (.inr AE_) w' r' t'
section PSGS
variable {ex et ex' et' : List Nat} {S0 S1z : pS} {D : pD} {K : pK} {p p0 q o o' oA m N n dl dl1 : Nat} {w t w' : wS} {al : List Nat} {nu : pNz} {tn : Nat → Prop} {bl br : Bool} {lo lo1 : Int} {G : pGd} {G1 : pG} {G2 : pGd} {E E' : zE} {L L' : Nat} {M M' : kx_M} {As As' : List Value} {gt gc gc1 gt1 : pQ} {Φ : kx_Rs → wS → kx_Rs → wS → Prop}
theorem STL.stp (h : STL D K dl S0 br lo Φ) : STP D K S0 br lo Φ := fun w' r' t' x => h w' r' t' (.inl x)
theorem TLP.up {r' : kx_Rs} {t' : wS} (hF : FR ex et S0 S1z) (h : TLP D K S1z.1 S1z.2.1 br lo w' r' t') : TLP D K S0.1 S0.2.1 br lo w' r' t' := ⟨hF.1.1.ty h.1, hF.1.2.tr h.2.1, h.2.2⟩
theorem STL.up (h : STL D K dl S0 br lo Φ) (hF : FR ex et S0 S1z) : STL D K dl S1z br lo Φ := fun w' r' t' x => h w' r' t' (x.elim (fun x => .inl (x.up hF)) (fun x => .inr ⟨x.1, hF.1.1.ty x.2.1, hF.1.2.tr x.2.2.1, x.2.2.2⟩))
theorem TLP.cb {c : Nat} {r' : kx_Rs} {t' : wS} (h : TLP D K (cb S0 c).1 (cb S0 c).2.1 br lo w' r' t') : TLP D K S0.1 S0.2.1 br lo w' r' t' := ⟨FY_5.tr h.1, h.2⟩
theorem STL.cb {c : Nat} (h : STL D K dl S0 br lo Φ) : STL D K dl (cb S0 c) br lo Φ := fun w' r' t' x => h w' r' t' (x.elim (fun x => .inl x.cb) (fun x => .inr ⟨x.1, FY_5.tr x.2.1, x.2.2⟩))
theorem STP.cb {c : Nat} (h : STP D K S0 br lo Φ) : STP D K (cb S0 c) br lo Φ := fun w' r' t' x => h w' r' t' x.cb
theorem STL.of {ex et : List Nat} : STL D K dl S0 br lo (PRd D K dl ex et S0 p0 o bl br lo G) := fun _ _ _ x => .inl ⟨rfl, x⟩
theorem STL.dn {d : Nat} (h : STL D K dl S0 br lo Φ) (hd : dl ≤ d) : STL D K d S0 br lo Φ := fun w' r' t' x => h w' r' t' (x.elim .inl (fun x => .inr ⟨x.1, x.2.1, x.2.2.1, x.2.2.2.dn hd⟩))
theorem PSg_stop {w' : wS} (hΦ : STP D K S0 br lo Φ) (h : eS gt (fun r' t' => TLP D K S0.1 S0.2.1 br lo w' r' t')) : PS (fun Q => Q (.inr AE_) w') gt Φ := PS_el (eS_mono h (fun r' t' h => hΦ _ _ _ h))
theorem PSg_stopd {w' : wS} (hΦ : STL D K dl S0 br lo Φ) (h : eS gt (fun r' t' => TLPd D K dl S0.1 S0.2.1 br lo w' r' t')) : PS (fun Q => Q (.inr AE_) w') gt Φ := PS_el (eS_mono h (fun r' t' h => hΦ _ _ _ h))
theorem PSg_exw (hΦ : STP D K S0 br lo Φ) {A B : (kx_Rs → wS → Prop) → wS → Prop} {x x' : Int32} {c v : Int} (hL : 400 ≤ L) (hL' : 400 ≤ L') (hN : N ≤ 11000) (hH : HY D K ex et S0 (w, t, al, m, N, nu, tn) p p o o') (hx : x = i_ c) (hc : wcd c v) (hx' : x' = i_ v)
    (k : kk K p = v → HY D K ex et S0 (nx w p, nx3 t p, al, m, N, nu, tn) (p + 1) (p + 1) o o' → PS (fun Q => A Q (nx w p)) (fun Q => B Q (nx3 t p)) Φ)
    (kd : ∀ w', DDs D K S0 w' (nx3 t p) → eS (fun Q => B Q (nx3 t p)) (fun r' t' => TLP D K S0.1 S0.2.1 br lo w' r' t')) :
    PS (fun Q => zw D.1 L kt_M176 [.ref (w_adr D.1.2.1 4 0), .int x] w (wk0 (fun w1 => wle w w1 → A Q w1) (fun e w => Q (.inr e) w))) (fun Q => zw E' L' kt_M600 [.ref (w_adr E'.2.1 12 0), .int x'] t (wk0 (fun w1 => wle t w1 → B Q w1) (fun e w => Q (.inr e) w))) Φ := by
  have hca := hH.1.ca
  have hta := hH.1.ta
  have hal := hH.1.2.1.1.2.2.1
  have hvr : 0 ≤ v ∧ v ≤ 67 := by unfold wcd at hc; omega
  by_cases e : kk K p = v
  · have hp1 := hH.p1 (by omega)
    by_cases e2 : kk K (p + 1) = 76
    · refine PS_lx0 (fun Q hq => c_expect (by omega) hca hx hc (fun h => absurd e h) (fun _ h => absurd e2 h) (fun _ _ => hq)) (PSg_stop hΦ ?_)
      refine eS_0 (fun Q hq => t_want (by omega) hta hH.1.krg hx' (by omega) (fun _ => hq) (fun h => absurd e h)) ?_
      exact kd _ (hH.dd (hH.ddx hp1 e2 FX_nx) hN (by omega) hal e2)
    · refine PS_l0 (fun Q hq => c_expect (by omega) hca hx hc (fun h => absurd e h) (fun _ _ => hq) (fun _ h => absurd h e2)) ?_
      refine PS_r0 (fun Q hq => t_want (by omega) hta hH.1.krg hx' (by omega) (fun _ => hq) (fun h => absurd e h)) ?_
      exact k e ((hH.cn (by omega) e2).tnx (by omega) hal)
  · refine PS_lx0 (fun Q hq => c_expect (by omega) hca hx hc (fun _ => hq) (fun h => absurd h e) (fun h => absurd h e)) (PSg_stop hΦ ?_)
    exact eS_x0 (fun Q hq => t_want (by omega) hta hH.1.krg hx' (by omega) (fun h => absurd h e) (fun _ => hq)) (TLP_two hH FX.rf frm.rf hal)
theorem PSg_lvw (hΦ : STP D K S0 br lo Φ) {A B : (kx_Rs → wS → Prop) → wS → Prop} {x x' : Int32} {c v : Int} (hL : 400 ≤ L) (hL' : 400 ≤ L') (hN : N ≤ 11000) (hH : HY D K ex et S0 (w, t, al, m, N, nu, tn) p p (o + 1) o') (hx : x = i_ c) (hc : wcd c v) (hx' : x' = i_ v)
    (k : kk K p = v → HY D K ex et S0 (ws_i (nx w p) 4 0 4 (i_ o), nx3 t p, al, m, N, nu, tn) (p + 1) (p + 1) o o' → PS (fun Q => A Q (ws_i (nx w p) 4 0 4 (i_ o))) (fun Q => B Q (nx3 t p)) Φ)
    (kd : ∀ w', DDs D K S0 w' (nx3 t p) → eS (fun Q => B Q (nx3 t p)) (fun r' t' => TLP D K S0.1 S0.2.1 br lo w' r' t')) :
    PS (fun Q => zw D.1 L kt_M188 [.ref (w_adr D.1.2.1 4 0), .int x] w (wk0 (fun w1 => wle w w1 → A Q w1) (fun e w => Q (.inr e) w))) (fun Q => zw E' L' kt_M600 [.ref (w_adr E'.2.1 12 0), .int x'] t (wk0 (fun w1 => wle t w1 → B Q w1) (fun e w => Q (.inr e) w))) Φ := by
  have hca := hH.1.ca
  have hta := hH.1.ta
  have hal := hH.1.2.1.1.2.2.1
  have ho := hH.1.2.1.1.2.2.2
  have hvr : 0 ≤ v ∧ v ≤ 67 := by unfold wcd at hc; omega
  by_cases e : kk K p = v
  · have hp1 := hH.p1 (by omega)
    by_cases e2 : kk K (p + 1) = 76
    · refine PS_lx0 (fun Q hq => c_leave (o := o) (by omega) hca ho.1 hx hc (fun h => absurd e h) (fun _ h => absurd e2 h) (fun _ _ => hq)) (PSg_stop hΦ ?_)
      refine eS_0 (fun Q hq => t_want (by omega) hta hH.1.krg hx' (by omega) (fun _ => hq) (fun h => absurd e h)) ?_
      exact kd _ (hH.dd (hH.ddx hp1 e2 FX_nx) hN (by omega) hal e2)
    · refine PS_l0 (fun Q hq => c_leave (o := o) (by omega) hca ho.1 hx hc (fun h => absurd e h) (fun _ _ => hq) (fun _ h => absurd h e2)) ?_
      refine PS_r0 (fun Q hq => t_want (by omega) hta hH.1.krg hx' (by omega) (fun _ => hq) (fun h => absurd e h)) ?_
      exact k e (((hH.cn (by omega) e2).tnx (by omega) hal).co (by omega))
  · refine PS_lx0 (fun Q hq => c_leave (o := o) (by omega) hca ho.1 hx hc (fun _ => hq) (fun h => absurd h e) (fun h => absurd h e)) (PSg_stop hΦ ?_)
    exact eS_x0 (fun Q hq => t_want (by omega) hta hH.1.krg hx' (by omega) (fun h => absurd h e) (fun _ => hq)) (TLP_two hH FX.rf frm.rf hal)
theorem PSg_elw (hΦ : STP D K S0 br lo Φ) {A B : (kx_Rs → wS → Prop) → wS → Prop} (hL : 400 ≤ L) (hL' : 400 ≤ L') (hN : N ≤ 11000) (hH : HY D K ex et S0 (w, t, al, m, N, nu, tn) p p o o')
    (k : kk K p = 74 → HY D K ex et S0 (nx w p, nx3 t p, al, m, N, nu, tn) (p + 1) (p + 1) o o' → PS (fun Q => A Q (nx w p)) (fun Q => B Q (nx3 t p)) Φ)
    (kd : ∀ w', DDs D K S0 w' (nx3 t p) → eS (fun Q => B Q (nx3 t p)) (fun r' t' => TLP D K S0.1 S0.2.1 br lo w' r' t')) :
    PS (fun Q => zw D.1 L kt_M174 [.ref (w_adr D.1.2.1 4 0)] w (wk0 (fun w1 => wle w w1 → A Q w1) (fun e w => Q (.inr e) w))) (fun Q => zw E' L' kt_M400 [.ref (w_adr E'.2.1 12 0)] t (wk0 (fun w1 => wle t w1 → B Q w1) (fun e w => Q (.inr e) w))) Φ := by
  have hca := hH.1.ca
  have hta := hH.1.ta
  have hal := hH.1.2.1.1.2.2.1
  by_cases e : kk K p = 74
  · have hp1 := hH.p1 (by omega)
    by_cases e2 : kk K (p + 1) = 76
    · refine PS_lx0 (fun Q hq => c_endLine (by omega) hca (fun h => absurd e h) (fun _ h => absurd e2 h) (fun _ _ => hq)) (PSg_stop hΦ ?_)
      refine eS_0 (fun Q hq => t_endOfLine (by omega) hta hH.1.krg (fun _ => hq) (fun h => absurd e h)) ?_
      exact kd _ (hH.dd (hH.ddx hp1 e2 FX_nx) hN (by omega) hal e2)
    · refine PS_l0 (fun Q hq => c_endLine (by omega) hca (fun h => absurd e h) (fun _ _ => hq) (fun _ h => absurd h e2)) ?_
      refine PS_r0 (fun Q hq => t_endOfLine (by omega) hta hH.1.krg (fun _ => hq) (fun h => absurd e h)) ?_
      exact k e ((hH.cn (by omega) e2).tnx (by omega) hal)
  · refine PS_lx0 (fun Q hq => c_endLine (by omega) hca (fun _ => hq) (fun h => absurd h e) (fun h => absurd h e)) (PSg_stop hΦ ?_)
    exact eS_x0 (fun Q hq => t_endOfLine (by omega) hta hH.1.krg (fun h => absurd h e) (fun _ => hq)) (TLP_two hH FX.rf frm.rf hal)
theorem PSg_nmw (hΦ : STP D K S0 br lo Φ) {A B : (kx_Rs → wS → Prop) → Int32 → wS → Prop} (hL : 400 ≤ L) (hL' : 400 ≤ L') (hN : N ≤ 11000) (hH : HY D K ex et S0 (w, t, al, m, N, nu, tn) p p o o')
    (k : kk K p = 70 → HY D K ex et S0 (nx w p, nx3 t p, al, m, N, nu, tn) (p + 1) (p + 1) o o' → nmr D (w_a w 1 0 3 p) (w_a t 12 0 8 p) → PS (fun Q => A Q (w_a w 1 0 3 p) (nx w p)) (fun Q => B Q (w_a t 12 0 8 p) (nx3 t p)) Φ)
    (kd : ∀ w', DDs D K S0 w' (nx3 t p) → eS (fun Q => B Q (w_a t 12 0 8 p) (nx3 t p)) (fun r' t' => TLP D K S0.1 S0.2.1 br lo w' r' t')) :
    PS (fun Q => zw D.1 L kt_M193 [.ref (w_adr D.1.2.1 4 0)] w (wk1 (fun v w1 => wle w w1 → A Q v w1) (fun e w => Q (.inr e) w))) (fun Q => zw E' L' kt_M601 [.ref (w_adr E'.2.1 12 0)] t (wk1 (fun v w1 => wle t w1 → B Q v w1) (fun e w => Q (.inr e) w))) Φ := by
  have hca := hH.1.ca
  have hta := hH.1.ta
  have hal := hH.1.2.1.1.2.2.1
  by_cases e : kk K p = 70
  · have hp1 := hH.p1 (by omega)
    by_cases e2 : kk K (p + 1) = 76
    · refine PS_lx1 (fun Q hq => c_name (by omega) hca (fun h => absurd e h) (fun _ h => absurd e2 h) (fun _ _ => hq)) (PSg_stop hΦ ?_)
      refine eS_1 (fun Q hq => t_wantName (by omega) hta hH.1.krg (fun _ => hq) (fun h => absurd e h)) ?_
      exact kd _ (hH.dd (hH.ddx hp1 e2 FX_nx) hN (by omega) hal e2)
    · refine PS_l1 (fun Q hq => c_name (by omega) hca (fun h => absurd e h) (fun _ _ => hq) (fun _ h => absurd h e2)) ?_
      refine PS_r1 (fun Q hq => t_wantName (by omega) hta hH.1.krg (fun _ => hq) (fun h => absurd e h)) ?_
      exact k e ((hH.cn (by omega) e2).tnx (by omega) hal) (hH.1.nm e)
  · refine PS_lx1 (fun Q hq => c_name (by omega) hca (fun _ => hq) (fun h => absurd h e) (fun h => absurd h e)) (PSg_stop hΦ ?_)
    exact eS_x1 (fun Q hq => t_wantName (by omega) hta hH.1.krg (fun h => absurd h e) (fun _ => hq)) (TLP_two hH FX.rf frm.rf hal)
theorem PSg_enw (hΦ : STP D K S0 br lo Φ) {A B : (kx_Rs → wS → Prop) → wS → Prop} (hL : 400 ≤ L) (hL' : 400 ≤ L') (hN : N ≤ 11000) (hH : HY D K ex et S0 (w, t, al, m, N, nu, tn) p p o o) (h5 : kk K p ≠ 75)
    (k : o < 20 → HY D K ex et S0 (nx (ws_i w 4 0 4 (i_ (o + 1 : Nat))) p, nx3 (ws_i t 12 0 38 (i_ (o + 1 : Nat))) p, al, m, N, nu, tn) (p + 1) (p + 1) (o + 1) (o + 1) → PS (fun Q => A Q (nx (ws_i w 4 0 4 (i_ (o + 1 : Nat))) p)) (fun Q => B Q (nx3 (ws_i t 12 0 38 (i_ (o + 1 : Nat))) p)) Φ)
    (kd : ∀ w', DDs D K S0 w' (nx3 (ws_i t 12 0 38 (i_ (o + 1 : Nat))) p) → eS (fun Q => B Q (nx3 (ws_i t 12 0 38 (i_ (o + 1 : Nat))) p)) (fun r' t' => TLP D K S0.1 S0.2.1 br lo w' r' t')) :
    PS (fun Q => zw D.1 L kt_M175 [.ref (w_adr D.1.2.1 4 0)] w (wk0 (fun w1 => wle w w1 → A Q w1) (fun e w => Q (.inr e) w))) (fun Q => zw E' L' kt_M497 [.ref (w_adr E'.2.1 12 0)] t (wk0 (fun w1 => wle t w1 → B Q w1) (fun e w => Q (.inr e) w))) Φ := by
  have hca := hH.1.ca
  have hta := hH.1.ta
  have hal := hH.1.2.1.1.2.2.1
  have ho := hH.1.2.1.1.2.2.2
  have ho' := hH.1.2.1.2.2.2
  have hp1 := hH.p1 h5
  by_cases e : o = 20
  · refine PS_lx0 (fun Q hq => c_enter (o := o) (by omega) hca ho.1 ho.2 h5 hal (fun _ => hq) (fun h => by omega) (fun h => by omega)) (PSg_stop hΦ ?_)
    exact eS_x0 (fun Q hq => t_opens (o := o) (by omega) hta hH.1.krg ho'.1 ho'.2 (fun h => by omega) (fun _ => hq)) (TLP_two hH FX.rf frm.rf hal)
  · have ho20 : o < 20 := by omega
    have hH1 : HY D K ex et S0 (ws_i w 4 0 4 (i_ (o + 1 : Nat)), ws_i t 12 0 38 (i_ (o + 1 : Nat)), al, m, N, nu, tn) p p (o + 1) (o + 1) := (hH.co (by omega)).to (by omega)
    by_cases e2 : kk K (p + 1) = 76
    · refine PS_lx0 (fun Q hq => c_enter (o := o) (by omega) hca ho.1 ho.2 h5 hal (fun h => by omega) (fun _ h => absurd e2 h) (fun _ _ => hq)) (PSg_stop hΦ ?_)
      refine eS_0 (fun Q hq => t_opens (o := o) (by omega) hta hH.1.krg ho'.1 ho'.2 (fun _ => hq) (fun h => by omega)) ?_
      exact kd _ (hH1.dd (hH1.ddx hp1 e2 FX_nx) hN h5 hal e2)
    · refine PS_l0 (fun Q hq => c_enter (o := o) (by omega) hca ho.1 ho.2 h5 hal (fun h => by omega) (fun _ _ => hq) (fun _ h => absurd h e2)) ?_
      refine PS_r0 (fun Q hq => t_opens (o := o) (by omega) hta hH.1.krg ho'.1 ho'.2 (fun _ => hq) (fun h => by omega)) ?_
      exact k ho20 ((hH1.cn h5 e2).tnx h5 hal)
theorem PSg_nxl (hΦ : STP D K S0 br lo Φ) {A : (kx_Rs → wS → Prop) → wS → Prop} (hL : 400 ≤ L) (hH : HY D K ex et S0 (w, t, al, m, N, nu, tn) p q o o') (h5 : kk K p ≠ 75)
    (k : HY D K ex et S0 (nx w p, t, al, m, N, nu, tn) (p + 1) q o o' → PS (fun Q => A Q (nx w p)) gt Φ)
    (kd : ∀ w', DDx K S0 w' → kk K (p + 1) = 76 → eS gt (fun r' t' => TLP D K S0.1 S0.2.1 br lo w' r' t')) :
    PS (fun Q => zw D.1 L kt_M195 [.ref (w_adr D.1.2.1 4 0)] w (wk0 (fun w1 => wle w w1 → A Q w1) (fun e w => Q (.inr e) w))) gt Φ := by
  have hca := hH.1.ca
  have hal := hH.1.2.1.1.2.2.1
  have hp1 := hH.p1 h5
  by_cases e2 : kk K (p + 1) = 76
  · refine PS_lx0 (fun Q hq => c_next (by omega) hca h5 hal (fun h => absurd e2 h) (fun _ => hq)) (PSg_stop hΦ ?_)
    exact kd _ (hH.ddx hp1 e2 FX_nx) e2
  · refine PS_l0 (fun Q hq => c_next (by omega) hca h5 hal (fun _ => hq) (fun h => absurd h e2)) ?_
    exact k (hH.cn h5 e2)
theorem PSg_two (hΦ : STP D K S0 br lo Φ) {X : (kx_Rs → wS → Prop) → wS → Prop} (hL : 400 ≤ L) (hH : HY D K ex et S0 (w, t, al, m, N, nu, tn) p q o o') (kd : ∀ w', w' = fl2 w 2 (kln K p) → eS gt (fun r' t' => TLP D K S0.1 S0.2.1 br lo w' r' t')) : PS (fun Q => zw D.1 L kt_M213 [.ref (w_adr D.1.2.1 4 0)] w (wk0 (X Q) (fun e w => Q (.inr e) w))) gt Φ := PS_lx0 (fun Q hq => c_unfit (by omega) hH.1.ca hq) (PSg_stop hΦ (kd _ rfl))
theorem PSg_nml (hΦ : STP D K S0 br lo Φ) {A : (kx_Rs → wS → Prop) → Int32 → wS → Prop} {gt : pQ} (hL : 400 ≤ L) (hH : HY D K ex et S0 (w, t, al, m, N, nu, tn) p q o o') (h70 : kk K p = 70)
    (k : HY D K ex et S0 (nx w p, t, al, m, N, nu, tn) (p + 1) q o o' → PS (fun Q => A Q (w_a w 1 0 3 p) (nx w p)) gt Φ)
    (kd : ∀ w', DDx K S0 w' → kk K (p + 1) = 76 → eS gt (fun r' t' => TLP D K S0.1 S0.2.1 br lo w' r' t')) :
    PS (fun Q => zw D.1 L kt_M193 [.ref (w_adr D.1.2.1 4 0)] w (wk1 (fun v w1 => wle w w1 → A Q v w1) (fun e w => Q (.inr e) w))) gt Φ := by
  have hca := hH.1.ca
  have hp1 := hH.p1 (by omega)
  by_cases e2 : kk K (p + 1) = 76
  · refine PS_lx1 (fun Q hq => c_name (by omega) hca (fun h => absurd h70 h) (fun _ h => absurd e2 h) (fun _ _ => hq)) (PSg_stop hΦ ?_)
    exact kd _ (hH.ddx hp1 e2 FX_nx) e2
  · refine PS_l1 (fun Q hq => c_name (by omega) hca (fun h => absurd h70 h) (fun _ _ => hq) (fun _ h => absurd h e2)) ?_
    exact k (hH.cn (by omega) e2)
theorem PS_bind {Kc Kt : (kx_Rs → wS → Prop) → kx_Rs → wS → Prop} {Φ1 : kx_Rs → wS → kx_Rs → wS → Prop} (h : PS gc1 gt1 Φ1) (k : ∀ r w2 r' t2, Φ1 r w2 r' t2 → PS (fun Q => Kc Q r w2) (fun Q => Kt Q r' t2) Φ) : PS (fun Q => gc1 (Kc Q)) (fun Q => gt1 (Kt Q)) Φ := by
  rcases h with h | h | ⟨r, w2, r', t2, a, b, c⟩
  · exact .inl (fun Q => h _)
  · exact .inr (.inl (fun Q => h _))
  · exact PS_l (fun Q q => a _ q) (PS_r (fun Q q => b _ q) (k r w2 r' t2 c))
theorem PW_ps {Φ1 : kx_Rs → wS → kx_Rs → wS → Prop} (h : PW w t gc1 gt1 Φ1) : PS gc1 gt1 Φ1 := h.elim .inl (fun h => h.elim (fun h => .inr (.inl h)) (fun ⟨r, w2, r', t2, _, _, a, b, c⟩ => .inr (.inr ⟨r, w2, r', t2, a, b, c⟩)))
theorem PSg_cG (hΦ : STP D K S0 br lo Φ) (hK : KRG K) {Kc Kt : (kx_Rs → wS → Prop) → kx_Rs → wS → Prop} {A : (kx_Rs → wS → Prop) → Option Nat → wS → Prop} {B : (kx_Rs → wS → Prop) → Int32 → wS → Prop} {bl1 br1 : Bool} (hF : FR ex et S0 (w, t, al, m, N, nu, tn)) (h : PS gc1 gt1 (PR D K ex' et' (w, t, al, m, N, nu, tn) p o bl1 br1 lo1 G1)) (hx : ∀ a ∈ ex', a ∈ S0.2.2.1.take S0.2.2.2.1 → a ∈ ex) (ht : ∀ n ∈ et', n < S0.2.2.2.2.1 → n ∈ et)
    (kc : ∀ Q x w2, A Q x w2 → Kc Q (rl_ bl1 x) w2) (kt : ∀ Q v t2, B Q v t2 → Kt Q (rr_ br1 v) t2) (kcx : ∀ (Q : kx_Rs → wS → Prop) e w2, Q (.inr e) w2 → Kc Q (.inr e) w2) (ktx : ∀ (Q : kx_Rs → wS → Prop) e t2, Q (.inr e) t2 → Kt Q (.inr e) t2)
    (k1 : ∀ x v w2 t2 al2 m2 N2 nu2 tn2 p2, HY D K ex et S0 (w2, t2, al2, m2, N2, nu2, tn2) p2 p2 o o → HY D K ex' et' (w, t, al, m, N, nu, tn) (w2, t2, al2, m2, N2, nu2, tn2) p2 p2 o o → (p < p2 ∧ m2 + 4 * p ≤ m + 4 * p2 ∧ N2 + 4 * p ≤ N + 4 * p2) → G1 x v (w2, t2, al2, m2, N2, nu2, tn2) p2 → PS (fun Q => A Q x w2) (fun Q => B Q v t2) Φ)
    (k2 : ∀ (v : Int) w2 t2, lo1 ≤ v → v < 14000 → DDs D K S0 w2 t2 → eS (fun Q => B Q (i_ v) t2) (fun r' t' => TLP D K S0.1 S0.2.1 br lo w2 r' t')) :
    PS (fun Q => gc1 (Kc Q)) (fun Q => gt1 (Kt Q)) Φ := by
  refine PS_bind (Kc := Kc) (Kt := Kt) h (fun r w2 r' t2 hr => ?_)
  rcases hr with ⟨e, f1, f2, hr⟩ | ⟨x, v, al2, m2, N2, nu2, tn2, p2, e1, e2, h1, h2, h3⟩
  · subst e
    refine PS_l (fun Q a => kcx Q _ _ a) (PSg_stop hΦ ?_)
    rcases hr with ⟨e, e1, e2⟩ | ⟨⟨v, e0, e0b, e⟩, e1, e2, hd⟩
    · subst e
      exact eS_l (fun Q a => ktx Q _ _ a) (TLP_thr (hF.1.1.ty f1) (hF.1.2.tr f2) e1 e2)
    · subst e
      exact eS_l (fun Q a => kt Q _ _ a) (k2 v w2 t2 e0 e0b ⟨⟨⟨hF.1.1.ty f1, e1, e2⟩, hK⟩, hF.1.2.tr f2, hd⟩)
  · subst e1 e2
    exact PS_l (fun Q a => kc Q _ _ a) (PS_r (fun Q a => kt Q _ _ a) (k1 x v w2 t2 al2 m2 N2 nu2 tn2 p2 ⟨h1.1, hF.tr h1.2 hx ht⟩ h1 h2 h3))
theorem PSh_cG (hΦ : STL D K dl S0 br lo Φ) (hK : KRG K) {Kc Kt : (kx_Rs → wS → Prop) → kx_Rs → wS → Prop} {A : (kx_Rs → wS → Prop) → Option Nat → wS → Prop} {B : (kx_Rs → wS → Prop) → Int32 → wS → Prop} {bl1 br1 : Bool} (hF : FR ex et S0 (w, t, al, m, N, nu, tn)) (h : PS gc1 gt1 (PRd D K dl1 ex' et' (w, t, al, m, N, nu, tn) p o bl1 br1 lo1 G2)) (hx : ∀ a ∈ ex', a ∈ S0.2.2.1.take S0.2.2.2.1 → a ∈ ex) (ht : ∀ n ∈ et', n < S0.2.2.2.2.1 → n ∈ et)
    (kc : ∀ Q x w2, A Q x w2 → Kc Q (rl_ bl1 x) w2) (kt : ∀ Q v t2, B Q v t2 → Kt Q (rr_ br1 v) t2) (kcx : ∀ (Q : kx_Rs → wS → Prop) e w2, Q (.inr e) w2 → Kc Q (.inr e) w2) (ktx : ∀ (Q : kx_Rs → wS → Prop) e t2, Q (.inr e) t2 → Kt Q (.inr e) t2)
    (k1 : ∀ x v w2 t2 al2 m2 N2 nu2 tn2 p2 c, HY D K ex et (cb S0 c) (w2, t2, al2, m2, N2, nu2, tn2) p2 p2 o o → HY D K ex' et' (cb (w, t, al, m, N, nu, tn) c) (w2, t2, al2, m2, N2, nu2, tn2) p2 p2 o o → (p < p2 ∧ m2 + 4 * p ≤ m + 4 * p2 ∧ N2 + 4 * p ≤ N + 4 * p2) → G2 c x v (w2, t2, al2, m2, N2, nu2, tn2) p2 → PS (fun Q => A Q x w2) (fun Q => B Q v t2) Φ)
    (k2 : ∀ (v : Int) w2 t2, lo1 ≤ v → v < 14000 → DDs D K S0 w2 t2 → eS (fun Q => B Q (i_ v) t2) (fun r' t' => TLP D K S0.1 S0.2.1 br lo w2 r' t'))
    (k3 : ∀ (v : Int) w2 t2, lo1 ≤ v → v < 14000 → LTs D K dl1 S0 w2 t2 → eS (fun Q => B Q (i_ v) t2) (fun r' t' => TLPd D K dl S0.1 S0.2.1 br lo w2 r' t')) :
    PS (fun Q => gc1 (Kc Q)) (fun Q => gt1 (Kt Q)) Φ := by
  refine PS_bind (Kc := Kc) (Kt := Kt) h (fun r w2 r' t2 hr => ?_)
  rcases hr with ⟨e, ⟨f1, f2, hr⟩ | ⟨⟨v, e0, e0b, e1⟩, f1, f2, hlt⟩⟩ | ⟨x, v, al2, m2, N2, nu2, tn2, p2, c, e1, e2, h1, h2, h3⟩
  · subst e
    refine PS_l (fun Q a => kcx Q _ _ a) (PSg_stop hΦ.stp ?_)
    rcases hr with ⟨e, e1, e2⟩ | ⟨⟨v, e0, e0b, e⟩, e1, e2, hd⟩
    · subst e
      exact eS_l (fun Q a => ktx Q _ _ a) (TLP_thr (hF.1.1.ty f1) (hF.1.2.tr f2) e1 e2)
    · subst e
      exact eS_l (fun Q a => kt Q _ _ a) (k2 v w2 t2 e0 e0b ⟨⟨⟨hF.1.1.ty f1, e1, e2⟩, hK⟩, hF.1.2.tr f2, hd⟩)
  · subst e e1
    refine PS_l (fun Q a => kcx Q _ _ a) (PSg_stopd hΦ ?_)
    exact eS_l (fun Q a => kt Q _ _ a) (k3 v w2 t2 e0 e0b ⟨⟨hF.1.1.ty f1, hK⟩, hF.1.2.tr f2, hlt⟩)
  · subst e1 e2
    exact PS_l (fun Q a => kc Q _ _ a) (PS_r (fun Q a => kt Q _ _ a) (k1 x v w2 t2 al2 m2 N2 nu2 tn2 p2 c ⟨h1.1, hF.trc h1.2 hx ht⟩ h1 h2 h3))
end PSGS
section CBT
variable {ex et : List Nat} {S0 S : pS} {D : pD} {K : pK} {p q o o' a b : Nat}
theorem HY.c0 (h : HY D K ex et S0 S p q o o') : HY D K ex et (cb S0 0) S p q o o' := by
  rw [cb_0]
  exact h
theorem HY.cc (h : HY D K ex et (cb (cb S0 a) b) S p q o o') : HY D K ex et (cb S0 (a + b)) S p q o o' := by
  rw [← cb_cb]
  exact h
end CBT
section STN0
variable {ex et : List Nat} {S0 : pS} {D : pD} {K : pK} {p o m N dl : Nat} {w t : wS} {al : List Nat} {nu : pNz} {tn : Nat → Prop} {br : Bool} {lo1 : Int} {E E' : zE} {Φ : kx_Rs → wS → kx_Rs → wS → Prop}
theorem PSg_c11 {ex' et' : List Nat} {G1 : pG} {L1 L2 : Nat} {M M' : kx_M} {As As' : List Value} {lo2 : Int} {A : (kx_Rs → wS → Prop) → Option Nat → wS → Prop} {B : (kx_Rs → wS → Prop) → Int32 → wS → Prop} (hΦ : STP D K S0 br lo1 Φ) (hF : FR ex et S0 (w, t, al, m, N, nu, tn)) (hK : KRG K) (h : PW w t (fun Q => zw E L1 M As w Q) (fun Q => zw E' L2 M' As' t Q) (PR D K ex' et' (w, t, al, m, N, nu, tn) p o true true lo2 G1)) (hx : ∀ a ∈ ex', a ∈ S0.2.2.1.take S0.2.2.2.1 → a ∈ ex) (ht : ∀ n ∈ et', n < S0.2.2.2.2.1 → n ∈ et)
    (k1 : ∀ x v w2 t2 al2 m2 N2 nu2 tn2 p2, HY D K ex et S0 (w2, t2, al2, m2, N2, nu2, tn2) p2 p2 o o → HY D K ex' et' (w, t, al, m, N, nu, tn) (w2, t2, al2, m2, N2, nu2, tn2) p2 p2 o o → (p < p2 ∧ m2 + 4 * p ≤ m + 4 * p2 ∧ N2 + 4 * p ≤ N + 4 * p2) → G1 x v (w2, t2, al2, m2, N2, nu2, tn2) p2 → PS (fun Q => A Q x w2) (fun Q => B Q v t2) Φ)
    (k2 : ∀ (v : Int) w2 t2, lo2 ≤ v → v < 14000 → DDs D K S0 w2 t2 → eS (fun Q => B Q (i_ v) t2) (fun r' t' => TLP D K S0.1 S0.2.1 br lo1 w2 r' t')) :
    PS (fun Q => zw E L1 M As w (wkr (fun v w1 => wle w w1 → A Q v w1) (fun e w => Q (.inr e) w))) (fun Q => zw E' L2 M' As' t (wk1 (fun v w1 => wle t w1 → B Q v w1) (fun e w => Q (.inr e) w))) Φ :=
  PSg_cG (gc1 := fun Q => zw E L1 M As w Q) (gt1 := fun Q => zw E' L2 M' As' t Q) (Kc := fun Q => wkr (fun v w1 => wle w w1 → A Q v w1) (fun e w => Q (.inr e) w)) (Kt := fun Q => wk1 (fun v w1 => wle t w1 → B Q v w1) (fun e w => Q (.inr e) w)) (A := A) (B := B) hΦ hK hF (PW_ps h) hx ht (fun _ _ _ a => wkr_k a) (fun _ _ _ a => fun _ => a) (fun _ _ _ a => a) (fun _ _ _ a => a) k1 k2
theorem PSh_c11 {ex' et' : List Nat} {G1 : pGd} {dl1 L1 L2 : Nat} {M M' : kx_M} {As As' : List Value} {lo2 : Int} {A : (kx_Rs → wS → Prop) → Option Nat → wS → Prop} {B : (kx_Rs → wS → Prop) → Int32 → wS → Prop} (hΦ : STL D K dl S0 br lo1 Φ) (hF : FR ex et S0 (w, t, al, m, N, nu, tn)) (hK : KRG K) (h : PW w t (fun Q => zw E L1 M As w Q) (fun Q => zw E' L2 M' As' t Q) (PRd D K dl1 ex' et' (w, t, al, m, N, nu, tn) p o true true lo2 G1)) (hx : ∀ a ∈ ex', a ∈ S0.2.2.1.take S0.2.2.2.1 → a ∈ ex) (ht : ∀ n ∈ et', n < S0.2.2.2.2.1 → n ∈ et)
    (k1 : ∀ x v w2 t2 al2 m2 N2 nu2 tn2 p2 c, HY D K ex et (cb S0 c) (w2, t2, al2, m2, N2, nu2, tn2) p2 p2 o o → HY D K ex' et' (cb (w, t, al, m, N, nu, tn) c) (w2, t2, al2, m2, N2, nu2, tn2) p2 p2 o o → (p < p2 ∧ m2 + 4 * p ≤ m + 4 * p2 ∧ N2 + 4 * p ≤ N + 4 * p2) → G1 c x v (w2, t2, al2, m2, N2, nu2, tn2) p2 → PS (fun Q => A Q x w2) (fun Q => B Q v t2) Φ)
    (k2 : ∀ (v : Int) w2 t2, lo2 ≤ v → v < 14000 → DDs D K S0 w2 t2 → eS (fun Q => B Q (i_ v) t2) (fun r' t' => TLP D K S0.1 S0.2.1 br lo1 w2 r' t'))
    (k3 : ∀ (v : Int) w2 t2, lo2 ≤ v → v < 14000 → LTs D K dl1 S0 w2 t2 → eS (fun Q => B Q (i_ v) t2) (fun r' t' => TLPd D K dl S0.1 S0.2.1 br lo1 w2 r' t')) :
    PS (fun Q => zw E L1 M As w (wkr (fun v w1 => wle w w1 → A Q v w1) (fun e w => Q (.inr e) w))) (fun Q => zw E' L2 M' As' t (wk1 (fun v w1 => wle t w1 → B Q v w1) (fun e w => Q (.inr e) w))) Φ :=
  PSh_cG (gc1 := fun Q => zw E L1 M As w Q) (gt1 := fun Q => zw E' L2 M' As' t Q) (Kc := fun Q => wkr (fun v w1 => wle w w1 → A Q v w1) (fun e w => Q (.inr e) w)) (Kt := fun Q => wk1 (fun v w1 => wle t w1 → B Q v w1) (fun e w => Q (.inr e) w)) (A := A) (B := B) hΦ hK hF (PW_ps h) hx ht (fun _ _ _ a => wkr_k a) (fun _ _ _ a => fun _ => a) (fun _ _ _ a => a) (fun _ _ _ a => a) k1 k2 k3
end STN0
