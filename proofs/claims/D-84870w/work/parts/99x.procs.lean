/-! ===== PARSERS, part 24: processes; SEQ, PAR ===== -/
abbrev anyk : Int32 → Prop := fun _ => True
/-- processes that are read -/
def GPS (D : pD) (K : pK) (S : pS) (p : Nat) (one : Bool) : pGd := fun cz x v S2 p2 => (∃ k l, LSz (vw S2.1 S2.2.1) S2.2.2.2.2.2.2 S2.2.2.2.2.2.1 k (oN K 1 p p2) l x v ∧ (one = true → l.length = 1) ∧ (dsum l + p ≤ p2 ∧ dsum l = cz)) ∧ kk K (p2 - 1) = 74 ∧ (S2.2.2.2.1 + 4 * p ≤ S.2.2.2.1 + 4 * p2 ∧ S2.2.2.2.2.1 + 4 * p ≤ S.2.2.2.2.1 + 4 * p2) ∧ HDN S S2 x
section ST9
variable {ex et : List Nat} {S S' S0 SA : pS} {D : pD} {K : pK} {p p0 q o o' oA dl m N n n2 b b2 lo hi lo2 hi2 r d d2 dd g pA pB : Nat} {w t w' : wS} {al : List Nat} {nu : pNz} {tn : Nat → Prop} {E E' : zE} {L L' : Nat} {ol : pOL} {f : Option Nat} {fT : Int32} {Q : kx_Rs → wS → Prop} {fi : Nat → Int32} {fp : Nat → Option Nat} {ft : Nat → Int32}
theorem i_ne1 {a : Nat} (h : a < 2147483648) : ¬ i_ a = -1 := fun e => by
  rw [i_m1] at e
  have := (i_eq (by omega) (by omega)).mp e
  omega
/-- what a list's last one is for the twin -/
theorem LQ.nl {S : pS} {Pk : Int32 → Prop} {bl fwd : Option Nat} {nl : Int32} (h : LQ Pk D S lo hi ol f fT bl nl fwd dd) : nl = -1 ∨ ∃ n : Nat, nl = i_ n ∧ n < 14000 := by
  rcases h with h | ⟨b, n, d1, d2, ⟨e1, e2, e3, e4⟩, h2, h3, -⟩
  · exact .inl h.2.1.2
  · exact .inr ⟨n, e2, h3.lt.2.2.2.1⟩
theorem LQ.ftv {S : pS} {Pk : Int32 → Prop} {bl fwd : Option Nat} {nl : Int32} (h : LQ Pk D S lo hi ol f fT bl nl fwd dd) (hs : SY D K S p q o o') : fT = -1 ∨ ∃ n : Nat, fT = i_ n ∧ n < S.2.2.2.2.1 := by
  rcases h.nlb hs with ⟨-, -, -, e, -⟩ | ⟨b, n, -, -, -, -, n0, e, h⟩
  · exact .inl e
  · exact .inr ⟨n0, e, h⟩
theorem DDs.ch {v : Int32} {t' : wS} (h : DDs D K S0 w' t) (ht : t' = t ∨ ∃ n, t' = ws_a t 12 0 32 n v) : DDs D K S0 w' t' := by
  rcases ht with e | ⟨n, e⟩ <;> subst e
  · exact h
  · exact h.ta rfl
theorem LTs.ch {v : Int32} {t' : wS} (h : LTs D K dl S0 w' t) (ht : t' = t ∨ ∃ n, t' = ws_a t 12 0 32 n v) : LTs D K dl S0 w' t' := by
  rcases ht with e | ⟨n, e⟩ <;> subst e
  · exact h
  · exact h.ta rfl
/-- a last link of the twin -/
theorem eS_chain {A : (kx_Rs → wS → Prop) → Int32 → wS → Prop} {X : (kx_Rs → wS → Prop) → String → wS → Prop} {P : kx_Rs → wS → Prop} {nl v : Int32} (hL : 60 ≤ L) (hl : w_n t 12 0 32 = 14000) (hn : nl = -1 ∨ ∃ n : Nat, nl = i_ n ∧ n < 14000) (k : ∀ t', (t' = t ∨ ∃ n, t' = ws_a t 12 0 32 n v) → eS (fun Q => A Q v t') P) : eS (fun Q => zw E L kt_M368 [.ref (w_adr E.2.1 12 0), .int nl, .int v] t (wk1 (fun v w1 => wle t w1 → A Q v w1) (X Q))) P := by
  rcases hn with e | ⟨n, e, hn⟩
  · subst e
    exact eS_1 (fun Q hq => t_chain0 (by omega) hq) (k _ (.inl rfl))
  · subst e
    exact eS_1 (fun Q hq => t_chain (by omega) hn hl hq) (k _ (.inr ⟨n, rfl⟩))
theorem eS_ifb {c : Prop} [Decidable c] {P : kx_Rs → wS → Prop} {A B : pQ} (h1 : eS A P) (h2 : eS B P) : eS (fun Q => if c then A Q else B Q) P := eS_if (fun _ => h1) (fun _ => h2)
/-- the twin looks whether a line stands at a depth, where it is at a bad token -/
theorem dd_isAt {A : (kx_Rs → wS → Prop) → Int32 → wS → Prop} {X : (kx_Rs → wS → Prop) → String → wS → Prop} {P : kx_Rs → wS → Prop} (h : DDs D K S0 w' t) (hd : d ≤ 1000) (hL : 400 ≤ L) (k : ∀ b : Bool, eS (fun Q => A Q (bI b) t) P) : eS (fun Q => zw E L kt_M438 [.ref (w_adr E.2.1 12 0), .int (i_ d)] t (wk1 (fun v w1 => wle t w1 → A Q v w1) (X Q))) P := eS_1 (fun Q hq => t_isAt (by omega) h.2.2.1 h.1.2 hd hq) (k _)
theorem dd_procs_loop {fT nl : Int32} (hd : d ≤ 900) (hL : 1000 ≤ L') (h : DDs D K S0 w' t) (hf : ∃ v : Int, -1 ≤ v ∧ v < 14000 ∧ fT = i_ v) : eS (fun Q => zL_X13_processes_p15 E' L' Q (i_ d) fT nl t) (fun r' t' => TLP D K S0.1 S0.2.1 true (-1) w' r' t') := by
  refine eS_l (fun Q h => zt_X13_processes_p15 (by omega) h) ?_
  simp only [zb_X13_processes_p15, zb_X13_processes_p48]
  refine dd_isAt h (by omega) (by omega) (fun b => ?_)
  obtain ⟨v, h1, h2, h3⟩ := hf
  cases b with
  | false => exact eS_p rfl (h.ret (by rw [h3]; rfl) ⟨h1, h2⟩)
  | true => exact eS_n (by decide) (dd_process h (by omega) (by omega))
theorem lt_procs_loop {fT nl : Int32} (hd : d ≤ 900) (hL : 1000 ≤ L') (h : LTs D K d S0 w' t) (hf : ∃ v : Int, -1 ≤ v ∧ v < 14000 ∧ fT = i_ v) : eS (fun Q => zL_X13_processes_p15 E' L' Q (i_ d) fT nl t) (fun r' t' => TLPd D K d S0.1 S0.2.1 true (-1) w' r' t') := by
  refine eS_l (fun Q h => zt_X13_processes_p15 (by omega) h) ?_
  simp only [zb_X13_processes_p15, zb_X13_processes_p48]
  refine eS_1 (fun Q hq => h.isAt (Nat.le_refl _) (by omega) (by omega) hq) (eS_p rfl ?_)
  obtain ⟨v, h1, h2, h3⟩ := hf
  exact h.ret (by rw [h3]; rfl) ⟨h1, h2⟩
theorem p_procs_loop {G : Nat} (IHP : PRq D K E' G) (hd : d ≤ 22) (hL : dex d ≤ L - 23) (hL' : dex d ≤ L' - 24) (hLL : 1000 ≤ L ∧ 1000 ≤ L') : ∀ g w t al m N nu tn p f fT bl nl dd hi, K.length ≤ p + g → K.length ≤ p + G → HY D K [] [] (cb SA dd) (w, t, al, m, N, nu, tn) p p 0 0 → LQ anyk D (w, t, al, m, N, nu, tn) SA.2.2.2.2.1 hi (oN K 1 pB p) f fT bl nl none dd → hi ≤ N → (∀ a, bl = some a → a ∉ SA.2.2.1.take SA.2.2.2.1) → HDN SA (w, t, al, m, N, nu, tn) f → kk K (p - 1) = 74 → (pA < p ∧ pB ≤ p ∧ pA < pB ∧ dd + pB ≤ p) → (m ≤ 4 * p + 5 ∧ N ≤ 4 * p + 5) → (m + 4 * pB ≤ SA.2.2.2.1 + 4 * p ∧ N + 4 * pB ≤ SA.2.2.2.2.1 + 4 * p) → PS (fun Q => zL_X5_processes_p15 D.1 L Q (i_ d) f bl w) (fun Q => zL_X13_processes_p15 E' L' Q (i_ d) fT nl t) (PRd D K d [] [] SA pA 0 true true (-1) (GPS D K SA pB false)) := by
  unfold dex at hL hL'
  intro g
  induction g with
  | zero =>
    intro w t al m N nu tn p f fT bl nl dd hi hg _ H
    have := H.1.ca.2.2
    omega
  | succ g ih =>
    intro w t al m N nu tn p f fT bl nl dd hi hg hG H hQ hhi hb0 hf0 h74 hpp hmN hbd
    have hpl := H.1.ta.lt
    have hcz : (cb SA dd).2.2.2.2.1 = SA.2.2.2.2.1 ∧ (cb SA dd).2.2.2.1 = SA.2.2.2.1 := ⟨rfl, rfl⟩
    refine PS_of (fun Q h => zt_X5_processes_p15 (by omega) h) (fun Q h => zt_X13_processes_p15 (by omega) h) ?_
    simp only [zb_X5_processes_p15, zb_X13_processes_p15, zb_X13_processes_p48]
    refine PS_l1 (fun Q hq => c_more (by omega) H.1.ca (by omega) (.inr h74) hq) ?_
    refine PS_r1 (fun Q hq => t_isAt (by omega) H.1.ta H.1.krg (by omega) hq) ?_
    by_cases e : bAt K p d = true
    · rw [e]
      refine PS_ln (by decide) (PS_rn (by decide) ?_)
      have hΦ : STL D K d SA true (-1) (PRd D K d [] [] SA pA 0 true true (-1) (GPS D K SA pB false)) := STL.of
      refine PSh_c11 hΦ.cb H.2 H.1.krg (IHP (L - 23) (L' - 24) _ _ _ _ _ _ _ p d (by unfold dex; omega) (by unfold dex; omega) hd H.1 (.inr h74) (by omega) hmN) (fun a h => absurd h List.not_mem_nil) (fun a h => absurd h List.not_mem_nil) (fun x v w2 t2 al2 m2 N2 nu2 tn2 p2 cz H2 HS2 hbd2 hgx => ?_) (fun v w2 t2 hv hv2 hd => ?_) (fun v w2 t2 hv hv2 hd => ?_)
      · obtain ⟨b1, n1, d1, rfl, rfl, hP1, hX1, hb1, e74, hsl, hdd, rfl⟩ := hgx
        have H2 := H2.cc
        have hN2 : N ≤ N2 := HS2.2.2.1.2.2.1
        have hpl2 := H2.1.ta.lt
        have hQ2 := hQ.fr H.1 HS2.2 (fun a h => absurd h List.not_mem_nil) (fun a h => absurd h List.not_mem_nil)
        have hnb := hQ2.nlb H2.1
        have hbb : bl ≠ some b1 := by
          rcases hQ.nlb H.1 with ⟨e, -⟩ | ⟨b, n, e, -, g1, -⟩
          · rw [e]; simp
          · rw [e]
            intro e2
            cases e2
            exact hb1 g1.1
        have hlo2 : SA.2.2.2.2.1 ≤ N := H.2.2.1.2.2.1
        refine PSq_behind (by omega) H2 hQ2 hb0 (LKO.mk hP1.bm.1 hX1.2.2 (fun e => hb1 (H.2.sub e))) (fun w3 hw3 H3 hQ3 => ?_)
        have hP3 : PND D (w3, t2, al2, m2, N2, nu2, tn2) N N2 (oN K 1 p p2) b1 n1 d1 := by
          rcases hw3 with e | ⟨a, e, e'⟩
          · rw [e]; exact hP1
          · rw [e']
            refine hP1.wo ?_ (fun e2 => hbb (by rw [e, e2]))
            rcases hnb with ⟨e3, -⟩ | ⟨b, n, e3, -, g1, -⟩
            · rw [e3] at e; cases e
            · rw [e3] at e; cases e; exact g1.2
        have hf3 := fun t' N' nu' tn' => HDN.stp (hf0.fr HS2.2) hQ2 hP1.bm.1 hP1.bm.2 hX1.2.2 (fun e => hb1 (H.2.sub e)) hbb hw3 (t' := t') (N' := N') (nu' := nu') (tn' := tn')
        have hX3 : NXo (w3, t2, al2, m2, N2, nu2, tn2) b1 n1 := by
          rcases hw3 with e | ⟨a, e, e'⟩
          · rw [e]; exact hX1.xo
          · refine ⟨?_, hX1.2.1⟩
            show w_p w3 14 b1 7 = none
            rw [e', Rpp, if_neg (fun z => hbb (by rw [e, z.2.2]))]
            exact hX1.1
        refine PSq_chain (f2 := if bl = none then some b1 else f) (fT2 := if bl = none then i_ n1 else fT) (by omega) hQ3 H3 hP3 hX3 hbb hhi hlo2 (.inr rfl) hb0 (Nat.le_refl _) trivial ?_ (fun t4 nu4 tn4 nx hnx H4 hQ4 hA => ?_)
        · by_cases e5 : bl = none
          · exact .inl ⟨e5, if_pos e5, if_pos e5⟩
          · exact .inr ⟨e5, if_neg e5, if_neg e5⟩
        · have hrec := ih w3 t4 al2 m2 N2 nu4 tn4 p2 (if bl = none then some b1 else f) (if bl = none then i_ n1 else fT) (some b1) (i_ n1) (dd + d1) N2 (by omega) (by omega) H4 hQ4 (Nat.le_refl _) (fun a e => by cases e; exact fun e => hb1 (H.2.sub e)) (hf3 _ _ _ _) e74 ⟨by omega, by omega, by omega, by omega⟩ ⟨by omega, by omega⟩ ⟨by omega, by omega⟩
          rcases hnb with ⟨e1, e2, e3, e4, e5⟩ | ⟨b, n, e1, e2, g1, ⟨f0, g2⟩, n0, g3, g4⟩
          · rw [if_pos e1, if_pos e1] at hrec
            rw [e3, e4]
            refine PS_ln (fun h => h rfl) (PS_rn (fun h => h rfl) hrec)
          · have e1' : bl ≠ none := by rw [e1]; simp
            rw [if_neg e1', if_neg e1'] at hrec
            refine PS_lp (by rw [g2]; simp) (PS_rp ?_ hrec)
            rw [g3]
            have g4 : n0 < N2 := g4
            exact i_ne1 (by omega)
      · have hfv : ∀ c : Bool, ∃ v' : Int, -1 ≤ v' ∧ v' < 14000 ∧ (bif c then fT else i_ v) = i_ v' := fun c => by
          cases c with
          | false => exact ⟨v, by omega, hv2, rfl⟩
          | true =>
            rcases hQ.ftv H.1 with e | ⟨n, e, hn⟩
            · exact ⟨-1, by omega, by omega, e.trans i_m1⟩
            · exact ⟨n, by omega, by have : n < N := hn; omega, e⟩
        refine eS_chain (by omega) hd.2.2.tl.2.2.2.2.2.2.1 hQ.nl (fun t' ht' => ?_)
        exact eS_ifb (dd_procs_loop (by omega) (by omega) (hd.ch ht') (hfv true)) (dd_procs_loop (by omega) (by omega) (hd.ch ht') (hfv false))
      · have hfv : ∀ c : Bool, ∃ v' : Int, -1 ≤ v' ∧ v' < 14000 ∧ (bif c then fT else i_ v) = i_ v' := fun c => by
          cases c with
          | false => exact ⟨v, by omega, hv2, rfl⟩
          | true =>
            rcases hQ.ftv H.1 with e | ⟨n, e, hn⟩
            · exact ⟨-1, by omega, by omega, e.trans i_m1⟩
            · exact ⟨n, by omega, by have : n < N := hn; omega, e⟩
        refine eS_chain (by omega) hd.tl.2.2.2.2.2.2.1 hQ.nl (fun t' ht' => ?_)
        exact eS_ifb (lt_procs_loop (by omega) (by omega) (hd.ch ht') (hfv true)) (lt_procs_loop (by omega) (by omega) (hd.ch ht') (hfv false))
    · have e' : bAt K p d = false := by simpa using e
      rw [e']
      refine PS_lp rfl (PS_rp rfl ?_)
      obtain ⟨nu', tn', k, H2, ⟨l, h1, h2, h3, h4⟩, h5⟩ := hQ.done H hb0 (Nat.le_refl _)
      exact PS_ret (.inr ⟨f, fT, al, m, N, nu', tn', p, _, rfl, rfl, H2, ⟨by omega, by omega, by omega⟩, ⟨k, l, h1, by simp, by omega⟩, h74, hbd, hf0⟩)
theorem p_processes {G : Nat} {c : Bool} (IHP : PRq D K E' G) (hd : d ≤ 22) (hL : dex d + 60 ≤ L) (hL' : dex d + 60 ≤ L') (hS : SY D K (w, t, al, m, N, nu, tn) p p 0 0) (h74 : kk K (p - 1) = 74) (hp1 : 1 ≤ p) (hg : K.length ≤ p + G) (hB : m ≤ 4 * p + 5 ∧ N ≤ 4 * p + 5) :
    PW w t (fun Q => zw D.1 L kt_M203 [.ref (w_adr D.1.2.1 4 0), .int (i_ d), .int (bI c)] w Q) (fun Q => zw E' L' kt_M516 [.ref (w_adr E'.2.1 12 0), .int (i_ d), .int (bI c)] t Q) (PRd D K d [] [] (w, t, al, m, N, nu, tn) (p - 1) 0 true true (-1) (GPS D K (w, t, al, m, N, nu, tn) p c)) := by
  have hlx := hL
  have hlx' := hL'
  unfold dex at hlx hlx'
  have hpl := hS.ta.lt
  have H : HY D K [] [] (w, t, al, m, N, nu, tn) (w, t, al, m, N, nu, tn) p p 0 0 := ⟨hS, FR.rf hS.mle⟩
  refine PW_of' (fun Q h => zt_X5_processes_p0 (by omega) h) (fun Q h => zt_X13_processes_p0 (by omega) h) ?_
  simp only [zb_X5_processes_p0, zb_X13_processes_p0]
  cases c with
  | false =>
    refine PS_lp rfl (PS_rp rfl ?_)
    exact p_procs_loop IHP hd (by omega) (by omega) ⟨by omega, by omega⟩ K.length _ _ _ _ _ _ _ p none (-1) none (-1) 0 N (by omega) hg H.c0 LQ.nil (Nat.le_refl _) (fun a e => by cases e) (fun a e => by cases e) h74 ⟨by omega, Nat.le_refl _, by omega, by omega⟩ hB ⟨Nat.le_refl _, Nat.le_refl _⟩
  | true =>
    refine PS_ln (by decide) (PS_rn (by decide) ?_)
    refine PRe_c11 hS.krg H.2 (IHP (L - 23) (L' - 24) _ _ _ _ _ _ _ p d (by omega) (by omega) hd H.1 (.inr h74) hg hB) (fun a h => absurd h List.not_mem_nil) (fun a h => absurd h List.not_mem_nil) (fun x v w2 t2 al2 m2 N2 nu2 tn2 p2 cz hl2 H2 HS2 hbd2 hgx => ?_) (fun v w2 t2 hv hv2 hd => hd.ret rfl ⟨by omega, hv2⟩) (fun v w2 t2 hv hv2 hd => hd.ret rfl ⟨by omega, hv2⟩)
    obtain ⟨b1, n1, d1, rfl, rfl, hP1, hX1, hb1, e74, hsl, hdd, rfl⟩ := hgx
    obtain ⟨x6, tn6, r6, H6, hC6, hm1, hm2, hn6⟩ := H2.fin hP1 hb1 (Nat.le_refl _)
    have g1 : (vw w2 t2).2.1 b1 7 = none := hX1.1
    have g2 : (vw w2 t2).2.2.1 32 n1 = -1 := hX1.2.1
    refine PS_ret (.inr ⟨some b1, i_ n1, al2, m2, N2, nuU nu2 b1 x6, tn6, p2, _, rfl, rfl, H6, ⟨by omega, by show m2 + 4 * (p - 1) ≤ m + 4 * p2; omega, by show N2 + 4 * (p - 1) ≤ N + 4 * p2; omega⟩, ⟨r6 + 1, [(n1, b1, d1)], ⟨rfl, rfl, p2, Nat.le_refl _, hC6, g1, g2⟩, fun _ => rfl, ?_⟩, e74, ⟨by show m2 + 4 * p ≤ m + 4 * p2; omega, by show N2 + 4 * p ≤ N + 4 * p2; omega⟩, fun q e => by cases e; exact ⟨hP1.bm.1, hX1.2.2, hb1⟩⟩)
    show dsum [(n1, b1, d1)] + p ≤ p2 ∧ dsum [(n1, b1, d1)] = d1
    have : dsum [(n1, b1, d1)] = d1 := by unfold dsum; simp
    omega
/-- what SEQ, PAR hold -/
theorem LFz.sq {cc : Bool} {rk s e : Nat} {g : Nat → Nat} {nn i0 y : Nat} {fi ft : _} {T2 : Nat → Prop} (hy : (y = 10 ∧ i0 = 43) ∨ (y = 11 ∧ i0 = 44)) (hO : OWx cc S b fi fp) (hT : OWt S nn ft) (h2 : fi 2 = ft 27) (h26 : ft 26 = i_ y) (h0 : fp 0 = some (D.1.1.1 i0)) (hc : SRz (vw S.1 S.2.1) S.2.2.2.2.2.2 S.2.2.2.2.2.1 rk g s e 1 d (fp 3) (ft 28) (fp 4) (ft 29)) (hg : ft 27 = i_ (g s) := by first | rfl | assumption) : LFz D (vw S.1 S.2.1) S.2.2.2.2.2.2 T2 S.2.2.2.2.2.1 (rk, g, s, e) d b nn := by
  rcases hy with ⟨e1, e2⟩ | ⟨e1, e2⟩ <;> subst e1 e2
  · exact LFz.k10 hO hT h2 h26 ⟨h0, hc⟩ hg
  · exact LFz.k11 hO hT h2 h26 ⟨h0, hc⟩ hg
theorem p_seqtail {G : Nat} {c : Bool} {y i0 k0 : Nat} (hy : (y = 10 ∧ i0 = 43) ∨ (y = 11 ∧ i0 = 44)) (IHP : PRq D K E' G) (hd20 : d ≤ 20) (hL : dex d ≤ L + 100) (hL' : dex d ≤ L' + 100) (H : HY D K [] [] S0 (w, t, al, m, N, nu, tn) p p 0 0) (hg : K.length ≤ p + G) (hB : m ≤ 4 * p + 5 ∧ N ≤ 4 * p + 5) (h74 : kk K (p - 1) = 74) (hO : OWc (w, t, al, m, N, nu, tn) b fi fp) (hT : OWt (w, t, al, m, N, nu, tn) n ft) (hn : S0.2.2.2.2.1 ≤ n ∧ n < 14000) (hb : b ∉ S0.2.2.1.take S0.2.2.2.1) (f7 : fp 7 = none) (h2 : fi 2 = ft 27) (i12 : fi 12 = 0) (h26 : ft 26 = i_ y) (h32 : ft 32 = -1) (f0 : fp 0 = some (D.1.1.1 i0)) (h27 : ft 27 = i_ (kln K p0))
    (hrep : (c = false ∧ fp 3 = none ∧ ft 28 = -1) ∨ (c = true ∧ ECz (vw w t) tn nu k0 (oN K 20 (p0 + 1) (p - 1)) 0 (fp 3) (ft 28))) (hp0 : p0 + 2 ≤ p) (hbd : m + 4 * p0 ≤ S0.2.2.2.1 + 4 * p ∧ N + 4 * p0 ≤ S0.2.2.2.2.1 + 4 * p) (hsl : m + 4 * p0 + 2 ≤ S0.2.2.2.1 + 4 * p ∧ N + 4 * p0 + 2 ≤ S0.2.2.2.2.1 + 4 * p) :
    PS (fun Q => zb_X5_action_p294 D.1 L Q (some b) (bI c) (i_ d + 1) (some b) w) (fun Q => zb_X13_action_p222 E' L' Q (i_ n) (bI c) (i_ d + 1) (i_ n) t) (PRd D K d [] [] S0 p0 0 true true 0 (GP2 D K S0 p0)) := by
  unfold dex at hL hL'
  have hpl := H.1.ta.lt
  simp only [zb_X5_action_p294, zb_X5_action_p415, zb_X13_action_p222]
  rw [i_1, i_add, cN1]
  refine PRe_c11 H.1.krg H.2 (p_processes (c := c) IHP (L := L - 24) (L' := L' - 25) (d := d + 1) (by omega) (by unfold dex; omega) (by unfold dex; omega) H.1 h74 (by omega) hg hB) (fun a h => absurd h List.not_mem_nil) (fun a h => absurd h List.not_mem_nil) (fun x v w2 t2 al2 m2 N2 nu2 tn2 p2 cz hl2 H2 HS2 hbd2 hgx => ?_) (fun v w2 t2 hv hv2 hd => ?_) (fun v w2 t2 hv hv2 hd => ?_)
  · obtain ⟨⟨k, l, hl, hl1, hdd⟩, e74, hb4, hhd⟩ := hgx
    have hcz : (cb S0 cz).2.2.2.2.1 = S0.2.2.2.2.1 ∧ (cb S0 cz).2.2.2.1 = S0.2.2.2.1 := ⟨rfl, rfl⟩
    have hb4 : m2 + 4 * p ≤ m + 4 * p2 ∧ N2 + 4 * p ≤ N + 4 * p2 := hb4
    have O2 := hO.fr HS2.2 List.not_mem_nil
    have T2 := hT.fr HS2.2 List.not_mem_nil
    refine PS_lex b rfl (PS_land (O2.wl H2.1) ?_)
    refine PS_rand (by rw [H2.1.tl.2.2.2.1]; exact i_inb' (by omega) (by omega)) ?_
    simp only [i_nat' (show n < 2147483648 by omega)]
    have HE := (H2.wp (k := 4) (v := x) O2.1.2 (fun e => absurd e hb) (LKO.op (hhd.up (fun _ e => H.2.sub e)))).ta (k := 29) (n := n) (v := v) rfl T2.1.2 (fun h => absurd h (by omega))
    have OE := O2.sp (k := 4) (v := x) (.inr (.inr (fun e => (hhd _ e).2.2 hO.1.1.1)))
    have TE : OWt (ws_p w2 14 b 4 x, ws_a t2 12 0 29 n v, al2, m2, N2, nu2, tn2) n _ := T2.si (k := 29) (v := v)
    have OE' : OWc (ws_p w2 14 b 4 x, ws_a t2 12 0 29 n v, al2, m2, N2, nu2, tn2) b _ _ := OE
    have hvw := VWa.mk (w := w2) (t := t2) (w' := ws_p w2 14 b 4 x) (t' := ws_a t2 12 0 29 n v) (b := b) (n := n) (fun a h k => by simp only [nx, Rii, Rgi, Rpi, Rai, Rbi, Rri, Rni, Rdi, Roi, Rti, Rzi, RCi, RSi, Rip, Rgp, Rpp, Rap, Rbp, Rrp, Rnp, Rdp, Rop, Rtp, Rzp, RCp, RSp]; simp [h]) (fun y h k => by simp only [nx3, nd3, Rii, Rgi, Rpi, Rai, Rbi, Rri, Rni, Rdi, Roi, Rti, Rzi, RCi, RSi, Ria, Rga, Rpa, Raa, Rba, Rra, Rna, Rda, Roa, Rta, Rza, RCa, RSa]; simp [h]) rfl O2.1.2 T2.1.2
    have hvf := VWa.fr H.1 HS2.2 (fun _ h => absurd h List.not_mem_nil) (fun _ h => absurd h List.not_mem_nil)
    refine PS_ret (.inr ⟨some b, i_ n, al2, m2, N2, nu2, tn2, p2, _, rfl, rfl, HE, ⟨by omega, by omega, by omega⟩, b, n, dsum l, rfl, rfl, PND.mk1 (kd := y) OE' TE hn.1 hn.2 (LFz.sq hy OE' TE h2 h26 f0 ?_) i12 (fun l e => by cases e), NXT.mk1 OE' TE f7 h32, hb, e74, ⟨by show m2 + _ + 2 ≤ _; omega, by show N2 + _ + 2 ≤ _; omega⟩, by omega⟩)
    refine ⟨l, p, ⟨by omega, by omega⟩, LPz.up hvw (fun _ _ h => h) (fun _ h => h) (Nat.le_refl _) hl, rfl, ?_⟩
    rcases hrep with ⟨-, e1, e2⟩ | ⟨e0, e1⟩
    · exact .inl ⟨e1, e2⟩
    · exact .inr ⟨(e1.up (k' := 0) hvf HS2.2.2.2.2.2.1.1 HS2.2.2.2.2.2.1.2.1 (Nat.le_refl _)).up hvw (fun _ _ h => h) (fun _ h => h) (Nat.le_refl _), hl1 e0⟩
  · refine eS_and (by rw [hd.2.2.tl.2.2.2.1]; exact i_inb' (by omega) (by omega)) ?_
    exact (hd.ta rfl).ret rfl ⟨by omega, by omega⟩
  · refine eS_and (by rw [hd.tl.2.2.2.1]; exact i_inb' (by omega) (by omega)) ?_
    exact ((hd.ta rfl).dn (Nat.le_succ d)).ret rfl ⟨by omega, by omega⟩
theorem dd_processes {A : (kx_Rs → wS → Prop) → Int32 → wS → Prop} {c : Int32} {br : Bool} {lo' : Int} (hd : DDs D K S0 w' t) (hd9 : d ≤ 900) (hL : 1100 ≤ L') (k : ∀ v : Int, -1 ≤ v → v < 14000 → DDs D K S0 w' t → eS (fun Q => A Q (i_ v) t) (fun r' t' => TLP D K S0.1 S0.2.1 br lo' w' r' t')) : eS (fun Q => zw E' L' kt_M516 [.ref (w_adr E'.2.1 12 0), .int (i_ d), .int c] t (wk1 (fun v w1 => wle t w1 → A Q v w1) (fun e w => Q (.inr e) w))) (fun r' t' => TLP D K S0.1 S0.2.1 br lo' w' r' t') := by
  refine eS_l (fun Q h => zt_X13_processes_p0 (by omega) h) ?_
  simp only [zb_X13_processes_p0]
  refine eS_ifb ?_ (dd_process hd (by omega) (by omega))
  refine eS_l (fun Q h => zt_X13_processes_p15 (by omega) h) ?_
  simp only [zb_X13_processes_p15, zb_X13_processes_p48]
  refine dd_isAt hd (by omega) (by omega) (fun b => ?_)
  cases b with
  | false =>
    refine eS_p rfl (eS_l (fun Q h => fun _ => h) ?_)
    exact k (-1) (by omega) (by omega) hd
  | true => exact eS_n (by decide) (dd_process hd (by omega) (by omega))
theorem dd_seq {c : Int32} (hd : DDs D K S0 w' t) (hd9 : d ≤ 800) (hL : 1200 ≤ L') (hn : n < 14000) : eS (fun Q => zb_X13_action_p222 E' L' Q (i_ n) c (i_ d + 1) (i_ n) t) (fun r' t' => TLP D K S0.1 S0.2.1 true 0 w' r' t') := by
  simp only [zb_X13_action_p222]
  rw [i_1, i_add, cN1]
  refine dd_processes (d := d + 1) hd (by omega) (by omega) (fun v h1 h2 hd => ?_)
  refine eS_and (by rw [hd.2.2.tl.2.2.2.1]; exact i_inb' (by omega) (by omega)) ?_
  simp only [i_nat' (show n < 2147483648 by omega)]
  exact (hd.ta rfl).ret rfl ⟨by omega, by omega⟩
theorem t_norep {ms SS : List (List Int)} (hL : 400 ≤ L) (hT : TA t K ms SS p) (hK : KRG K) (hN : w_i t 12 0 25 = i_ N) (hN2 : N < 14000) (e70 : kk K p ≠ 70) (h : Q (.inr HT_) (fl3 (nd3 t N 20 (w_a t 12 0 9 p)) (if kk K p = 76 then 1 else 2) (kln K p))) : zw E L kt_M525 [.ref (w_adr E.2.1 12 0)] t Q := by
  have hp := hT.lt
  obtain ⟨l7, l8, l9, l10⟩ := hT.1.1.1
  refine zt_X13_replicator_p0 (by omega) ?_
  simp only [zb_X13_replicator_p0, hT.2.1, l9, i_nat' (show p < 2147483648 by omega)]
  refine ⟨i_inb' (by omega) (by omega), ?_⟩
  refine t_node (by omega) hT.1.1 hN hN2 ?_
  simp only [wk1]
  intro _
  refine t_wantName (by omega) (hT.tx (t' := nd3 t N 20 (w_a t 12 0 9 p)) TX_nd3 ?_) hK (fun e => absurd e e70) (fun _ => ?_)
  · unfold nd3
    simp only [Rii, Ria]
    simp
  · simp only [wk1]
    exact h
theorem p_seqpar {G : Nat} {y i0 : Nat} {yv : Int32} (hyv : yv = i_ y) (hy : (y = 10 ∧ i0 = 43) ∨ (y = 11 ∧ i0 = 44)) (IH : EXq D K E' G) (IHP : PRq D K E' G) (hd20 : d ≤ 20) (hL : dex d ≤ L + 50) (hL' : dex d ≤ L' + 50) (H : HY D K [] [] S0 (w, t, al, m, N, nu, tn) p p 0 0) (hS0 : S0.2.2.2.2.1 = N ∧ m ≤ S0.2.2.2.1 + 1) (hg : K.length ≤ p + 1 + G) (hB : m ≤ 4 * p + 9 ∧ N ≤ 4 * p + 8) (hk : kk K p = 26 ∨ kk K p = 20) (hO : OWc (w, t, al, m, N, nu, tn) b fi fp) (hb : b ∉ S0.2.2.1.take S0.2.2.2.1) (f7 : fp 7 = none) (i2 : fi 2 = i_ (kln K p)) (i12 : fi 12 = 0) {l : Int32} (hl : l = i_ (kln K p)) :
    PS (fun Q => zb_X5_action_p258 D.1 L Q (i_ d) (some b) (some (D.1.1.1 i0)) (some b) w) (fun Q => zb_X13_action_p167 E' L' Q (i_ d) l yv (nx3 t p)) (PRd D K d [] [] S0 p 0 true true 0 (GP2 D K S0 p)) := by
  subst hl hyv
  have hLd := hL
  have hLd' := hL'
  unfold dex at hL hL'
  have hpl := H.1.ta.lt
  have hal := H.alive
  simp only [zb_X5_action_p258, zb_X13_action_p167, zb_X13_action_p193]
  refine PS_lex b rfl (PS_land (hO.wl H.1) ?_)
  have H1 := H.wp (k := 0) (v := some (D.1.1.1 i0)) hO.1.2 (fun e => absurd e hb)
  have O1 := hO.sp (k := 0) (v := some (D.1.1.1 i0))
  have hp1 := H1.p1 (by omega)
  have hln1 := H1.1.ln hp1 (by omega)
  refine PSd_nxl (by omega) H1 (by omega) (fun H2 => ?_) (fun w' hd h76 => ?_)
  · have H3 := H2.tnx (by omega) hal
    have hal3 := H3.alive
    refine PS_r1 (fun Q hq => t_node (by omega) H3.kt H3.tN (by omega) hq) ?_
    simp only [i_nat' (show N < 2147483648 by omega)]
    have H4 := H3.tnd (x := i_ y) (l := i_ (kln K p))
    have T4 : OWt (nx (ws_p w 14 b 0 (some (D.1.1.1 i0))) p, nd3 (nx3 t p) N (i_ y) (i_ (kln K p)), al, m, N + 1, nu, tn) N _ := OWt.new (x := i_ y) (l := i_ (kln K p)) H3
    have O4 : OWc (nx (ws_p w 14 b 0 (some (D.1.1.1 i0))) p, nd3 (nx3 t p) N (i_ y) (i_ (kln K p)), al, m, N + 1, nu, tn) b _ _ := O1.w4 (j := 3) (v := i_ (p + 1 : Nat)) (.inl (by decide))
    refine PS_r1 (fun Q hq => t_look (by omega) H4.1.ta hq) ?_
    have hkr := H4.1.ta.kr H4.1.krg
    have e74v : (i_ (kk K (p + 1)) = (74 : Int32)) = (kk K (p + 1) = 74) := i_eqk (show -1000 ≤ kk K (p + 1) ∧ kk K (p + 1) ≤ 1000 by omega) (show (-1000 : Int) ≤ 74 by decide) (by decide)
    simp only [e74v]
    by_cases e70 : kk K (p + 1) = 70
    · refine PS_rn (by omega) ?_
      refine PRd_c11 H.1.krg H4.2 (p_replicator IH (L := L - 21) (L' := L' - 21) (by unfold lex; omega) (by unfold lex; omega) H4.1 (by omega) ⟨by omega, by omega⟩ e70) (fun a h => absurd h List.not_mem_nil) (fun a h => absurd h List.not_mem_nil) (fun x v w2 t2 al2 m2 N2 nu2 tn2 p2 hl2 H5 HS5 hbd5 hgx => ?_) (fun v w2 t2 hv hv2 hd => ?_)
      · obtain ⟨b1, n1, rfl, rfl, hP1, hX1, hb1, hlnz, hfk⟩ := hgx
        have hpl2 := H5.1.ta.lt
        have O5 := O4.fr HS5.2 List.not_mem_nil
        have T5 := T4.fr HS5.2 List.not_mem_nil
        obtain ⟨x6, tn6, r6, H6, hC6, hm1, hm2, hn6⟩ := H5.fin hP1 (fun e => hb1 (H4.2.sub e)) (by show _ ≤ N + 1; omega)
        have hn1 := hP1.lt.2.2.2.1
        have hbb1 : b ≠ b1 := fun e => hb1 (by rw [← e]; exact O4.1.1.1)
        have O6 := O5.fin (x := x6) (tn' := tn6) hbb1
        have T6 := T5.fin (nu' := nuU nu2 b1 x6) hm2 (.inl (Nat.lt_succ_self N))
        refine PS_lex b rfl (PS_land (O6.wl H6.1) ?_)
        refine PS_rand (by rw [H6.1.tl.2.2.1]; exact i_inb' (by omega) (by omega)) ?_
        have H7 := (H6.wp (k := 3) (v := some b1) O6.1.2 (fun e => absurd e hb) (LKO.mk hP1.bm.1 hX1.2.2 (fun e => hb1 (H4.2.sub e)))).ta (k := 28) (n := N) (v := i_ n1) rfl T6.1.2 (fun h => absurd h (by omega))
        have O7 := O6.sp (k := 3) (v := some b1)
        have T7 := T6.si (k := 28) (v := i_ n1)
        refine PSd_elw (by omega) (by omega) (by omega) H7 (fun e74 H8 => ?_) (fun w' hd => ?_)
        · have O8 : OWc (nx (ws_p w2 14 b 3 (some b1)) p2, nx3 (ws_a t2 12 0 28 N (i_ n1)) p2, al2, m2, N2, nuU nu2 b1 x6, tn6) b _ _ := O7.w4 (j := 3) (v := i_ (p2 + 1 : Nat)) (.inl (by decide))
          have T8 : OWt (nx (ws_p w2 14 b 3 (some b1)) p2, nx3 (ws_a t2 12 0 28 N (i_ n1)) p2, al2, m2, N2, nuU nu2 b1 x6, tn6) N _ := T7
          have r3 : w_p (nx (ws_p w2 14 b 3 (some b1)) p2) 14 b 3 = some b1 := O8.2.2 3 rfl
          have r28 : w_a (nx3 (ws_a t2 12 0 28 N (i_ n1)) p2) 12 0 28 N = i_ n1 := T8.2 28 rfl
          refine PS_ln (by rw [r3]; simp) (PS_rand (by rw [H8.1.tl.2.2.1]; exact i_inb' (by omega) (by omega)) (PS_rn (by rw [r28]; exact i_nn (by omega)) ?_))
          have hvw8 : VWa (vw w2 t2) (vw (nx (ws_p w2 14 b 3 (some b1)) p2) (nx3 (ws_a t2 12 0 28 N (i_ n1)) p2)) tn6 (nuU nu2 b1 x6) := by
            refine VWa.mk (b := b) (n := N) ?_ ?_ ?_ O6.1.2 T6.1.2
            · exact (fun a h k => by simp only [nx, Rii, Rgi, Rpi, Rai, Rbi, Rri, Rni, Rdi, Roi, Rti, Rzi, RCi, RSi, Rip, Rgp, Rpp, Rap, Rbp, Rrp, Rnp, Rdp, Rop, Rtp, Rzp, RCp, RSp]; simp [h])
            · exact (fun y h k => by simp only [nx3, nd3, Rii, Rgi, Rpi, Rai, Rbi, Rri, Rni, Rdi, Roi, Rti, Rzi, RCi, RSi, Ria, Rga, Rpa, Raa, Rba, Rra, Rna, Rda, Roa, Rta, Rza, RCa, RSa]; simp [h])
            · rfl
          exact p_seqtail (c := true) (k0 := r6 + 1) hy IHP hd20 (by unfold dex; omega) (by unfold dex; omega) H8 (by omega) ⟨by omega, by omega⟩ e74 O8 T8 ⟨by omega, by omega⟩ hb f7 i2 i12 rfl rfl rfl rfl (.inr ⟨rfl, b1, n1, rfl, rfl, hC6.up hvw8 (fun _ _ h => h) (fun _ h => h) (Nat.le_refl _)⟩) (by omega) ⟨by omega, by omega⟩ ⟨by omega, by omega⟩
        · refine eS_and (by rw [hd.2.2.tl.2.2.1]; exact i_inb' (by omega) (by omega)) ?_
          exact eS_ifb (dd_seq hd (by omega) (by omega) (by omega)) (dd_seq hd (by omega) (by omega) (by omega))
      · refine eS_and (by rw [hd.2.2.tl.2.2.1]; exact i_inb' (by omega) (by omega)) ?_
        exact dd_endOfLine (hd.ta rfl) (by omega)
    · refine PS_lr (fun Q hq => c_norep (by omega) H4.1.ca e70 hq) ?_
      refine PS_lex b rfl (PS_land (O4.wl H4.1) ?_)
      have H5 := H4.wp (k := 3) (v := none) O4.1.2 (fun e => absurd e hb)
      have O5 := O4.sp (k := 3) (v := none)
      by_cases e74 : kk K (p + 1) = 74
      · refine PS_rp e74 ?_
        refine PSd_elw (by omega) (by omega) (by omega) H5 (fun e74 H8 => ?_) (fun w' hd => ?_)
        · have O8 : OWc (nx (ws_p (nx (ws_p w 14 b 0 (some (D.1.1.1 i0))) p) 14 b 3 none) (p + 1), nx3 (nd3 (nx3 t p) N (i_ y) (i_ (kln K p))) (p + 1), al, m, N + 1, nu, tn) b _ _ := O5.w4 (j := 3) (v := i_ (p + 1 + 1 : Nat)) (.inl (by decide))
          have T8 : OWt (nx (ws_p (nx (ws_p w 14 b 0 (some (D.1.1.1 i0))) p) 14 b 3 none) (p + 1), nx3 (nd3 (nx3 t p) N (i_ y) (i_ (kln K p))) (p + 1), al, m, N + 1, nu, tn) N _ := T4
          have hpl8 := H8.1.ta.lt
          have r3 : w_p (nx (ws_p (nx (ws_p w 14 b 0 (some (D.1.1.1 i0))) p) 14 b 3 none) (p + 1)) 14 b 3 = none := O8.2.2 3 rfl
          have r28 : w_a (nx3 (nd3 (nx3 t p) N (i_ y) (i_ (kln K p))) (p + 1)) 12 0 28 N = -1 := T8.2 28 rfl
          refine PS_lp r3 (PS_rand (by rw [H8.1.tl.2.2.1]; exact i_inb' (by omega) (by omega)) (PS_rp (by rw [r28]; decide) ?_))
          exact p_seqtail (c := false) (k0 := 0) hy IHP hd20 (by unfold dex; omega) (by unfold dex; omega) H8 (by omega) ⟨by omega, by omega⟩ e74 O8 T8 ⟨by omega, by omega⟩ hb f7 i2 i12 rfl rfl rfl rfl (.inl ⟨rfl, rfl, rfl⟩) (by omega) ⟨by omega, by omega⟩ ⟨by omega, by omega⟩
        · refine eS_and (by rw [hd.2.2.tl.2.2.1]; exact i_inb' (by omega) (by omega)) ?_
          exact eS_ifb (dd_seq hd (by omega) (by omega) (by omega)) (dd_seq hd (by omega) (by omega) (by omega))
      · refine PS_rn e74 ?_
        refine PS_lx0 (fun Q hq => c_endLine (by omega) H5.1.ca (fun _ => hq) (fun h => absurd h e74) (fun h => absurd h e74)) (PRd_stop ?_)
        exact eS_x1 (fun Q hq => t_norep (by omega) H4.1.ta H4.1.krg H4.tN (by omega) e70 hq) (TLP_two H5 FX.rf TX_nd3 hal3)
  · have hd2 := H1.dd hd (by omega) (by omega) hal h76
    have hN' : w_i (nx3 t p) 12 0 25 = i_ N := by
      unfold nx3
      rw [Rii, if_neg (by decide)]
      exact H.tN
    refine eS_1 (fun Q hq => t_node (by omega) hd2.2.2.1.1.1 hN' (by omega) hq) ?_
    have hd3 := hd2.nd (N := N) (x := i_ y) (l := i_ (kln K p)) (by omega)
    refine eS_1 (fun Q hq => t_look (by omega) hd3.2.2.1 hq) ?_
    rw [hd3.2.2.2.1]
    refine eS_n (by decide) ?_
    have hN2 : w_i (nd3 (nx3 t p) N (i_ y) (i_ (kln K p))) 12 0 25 = i_ (N + 1 : Nat) := by
      unfold nd3
      rw [Rii, if_pos ⟨rfl, rfl, rfl⟩]
    refine eS_x1 (fun Q hq => t_norep (by omega) hd3.2.2.1 hd3.1.2 hN2 (by omega) (by rw [hd3.2.2.2.1]; decide) hq) ?_
    rw [hd3.if1]
    exact (hd3.nd (N := N + 1) (by omega)).thr
end ST9
