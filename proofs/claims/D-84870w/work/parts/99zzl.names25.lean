/-! ===== ROUNDS, part 27: IN ===== -/
section NIN
variable {D : pD} {V : pV} {nu : pN} {tn : Nat → Prop} {rt p q n nq r d dq j k k0 f s u A c cr W Cx kd cl : Nat} {J J' : List Nat} {S S' S0 : nS} {w w2 w' t t' : wS} {v : Option Nat} {x x2 y y4 y0 : Int32} {T T' : Int} {kr kr' ks : List Nat} {L L' L2 Lc Lx Ly Lt : Nat} {E' : zE} {gc gt : pQ} {Φ : kx_Rs → wS → kx_Rs → wS → Prop} {ol : Option Int32} {C : Nat → Prop} {Q : kx_Rs → wS → Prop}
/-- what MeetingHouse lets a channel be -/
def okp (y4 y0 : Int32) (c : Nat) : Prop := (y4 ≠ 0 ∧ c = 4) ∨ (y0 ≠ 0 ∧ c = 3)
theorem c_85n (h : zb_X6_input_p145 D.1 L Q (some p) x2 w) : zb_X6_input_p85 D.1 L Q (some p) x2 none y4 y0 w := by
  simp only [zb_X6_input_p85]
  exact h
theorem c_85s (hz : zA D.1) (hl : w_l w D.1.2.1 15 A) (hA : w_p w 15 A 0 = some (D.1.1.1 (wc c))) (hc : 1 ≤ c ∧ c ≤ 9) : (okp y4 y0 c → zb_X6_input_p145 D.1 L Q (some p) x2 w → zb_X6_input_p85 D.1 L Q (some p) x2 (some A) y4 y0 w) ∧ (¬ okp y4 y0 c → zb_X6_input_p121 D.1 L Q (some p) x2 w → zb_X6_input_p85 D.1 L Q (some p) x2 (some A) y4 y0 w) := by
  have h58 : (wc c = 58) = (c = 4) := by
    apply propext
    obtain ⟨c1, c2⟩ := hc
    have : c = 1 ∨ c = 2 ∨ c = 3 ∨ c = 4 ∨ c = 5 ∨ c = 6 ∨ c = 7 ∨ c = 8 ∨ c = 9 := by omega
    rcases this with e | e | e | e | e | e | e | e | e <;> subst e <;> decide
  have h53 : (wc c = 53) = (c = 3) := by
    apply propext
    obtain ⟨c1, c2⟩ := hc
    have : c = 1 ∨ c = 2 ∨ c = 3 ∨ c = 4 ∨ c = 5 ∨ c = 6 ∨ c = 7 ∨ c = 8 ∨ c = 9 := by omega
    rcases this with e | e | e | e | e | e | e | e | e <;> subst e <;> decide
  have e58 : (w_p w 15 A 0 = some (D.1.1.1 58)) = (c = 4) := by rw [hA, eo_eq hz wc69 (by decide), h58]
  have e53 : (w_p w 15 A 0 = some (D.1.1.1 53)) = (c = 3) := by rw [hA, eo_eq hz wc69 (by decide), h53]
  have k106 : (y0 ≠ 0 ∧ c = 3 → zb_X6_input_p145 D.1 L Q (some p) x2 w → zb_X6_input_p106 D.1 L Q (some p) x2 (some A) y0 w) ∧ (¬ (y0 ≠ 0 ∧ c = 3) → zb_X6_input_p121 D.1 L Q (some p) x2 w → zb_X6_input_p106 D.1 L Q (some p) x2 (some A) y0 w) := by
    simp only [zb_X6_input_p106]
    by_cases hy : y0 = 0
    · rw [if_pos hy]
      exact ⟨fun z => absurd hy z.1, fun _ h => h⟩
    · rw [if_neg hy]
      refine ⟨fun z h => ⟨A, rfl, hl, ?_⟩, fun z h => ⟨A, rfl, hl, ?_⟩⟩
      · rw [if_pos (e53.mpr z.2)]
        exact h
      · rw [if_neg (fun e => z ⟨hy, e53.mp e⟩)]
        exact h
  simp only [zb_X6_input_p85]
  rw [if_neg (show ¬ (some A = none) by simp)]
  unfold okp
  by_cases h4 : y4 = 0
  · rw [if_pos h4]
    exact ⟨fun z => k106.1 (z.resolve_left (fun e => e.1 h4)), fun z => k106.2 (fun e => z (.inr e))⟩
  · rw [if_neg h4]
    by_cases hc4 : c = 4
    · refine ⟨fun _ h => ⟨A, rfl, hl, ?_⟩, fun z => absurd (.inl ⟨h4, hc4⟩) z⟩
      rw [if_pos (e58.mpr hc4)]
      exact h
    · refine ⟨fun z h => ⟨A, rfl, hl, ?_⟩, fun z h => ⟨A, rfl, hl, ?_⟩⟩
      · rw [if_neg (fun e => hc4 (e58.mp e))]
        exact k106.1 (z.resolve_left (fun e => hc4 e.2)) h
      · rw [if_neg (fun e => hc4 (e58.mp e))]
        exact k106.2 (fun e => z (.inr e)) h
/-- the channel of an IN -/
theorem n_inp {K : (kx_Rs → wS → Prop) → kx_Rs → wS → Prop} {KT : (kx_Rs → wS → Prop) → kx_Rs → wS → Prop} {Kt : (kx_Rs → wS → Prop) → wS → Prop} (hs : STR D V nu tn rt) (H : HM D V nu tn rt p J cr S0 S T T) (hk : KRE S kr) (h3 : 3 ∉ J) (hnu : nu p = some (n, r, d)) (hq : V.2.1 p 3 = some q) (hC : CHx V tn nu k0 ol nq q dq) (h26 : V.2.2.1 26 nq = i_ (60 : Nat)) (hK : KX V nu (f + 1) 60 q) (hL : 75 * k0 + 330 ≤ L) (hL' : 75 * k0 + 300 ≤ Lt)
    (h48 : ∀ (S1 : nS) (Q : kx_Rs → wS → Prop) (v : Option Nat), IVN D V nu tn rt S1 → zb_X6_input_p85 D.1 L Q (some p) x2 v y4 y0 S1.w → zb_X6_input_p48 D.1 L Q (some p) x2 v S1.w)
    (hT1 : ∀ (S1 : nS) (gc : pQ), IVN D V nu tn rt S1 → PS gc (fun Q => Kt Q S1.t) Φ → PS gc (fun Q => KT Q (.inl (some (.int (-1)))) S1.t) Φ)
    (hT2 : ∀ (S1 : nS) (gc : pQ) (s c : Nat), IVN D V nu tn rt S1 → s < 6100 → (1 ≤ c ∧ c ≤ 9) → w_a S1.t 12 0 46 s = i_ c → okp y4 y0 c → PS gc (fun Q => Kt Q S1.t) Φ → PS gc (fun Q => KT Q (.inl (some (.int (i_ s)))) S1.t) Φ)
    (hT3 : ∀ (S1 : nS) (gc : pQ) (s c : Nat), IVN D V nu tn rt S1 → s < 6100 → (1 ≤ c ∧ c ≤ 9) → w_a S1.t 12 0 46 s = i_ c → ¬ okp y4 y0 c → PS gc (fun Q => Kt Q (tu S1.t (fln 6 (V.2.2.1 27 nq)))) Φ → PS gc (fun Q => KT Q (.inl (some (.int (i_ s)))) S1.t) Φ)
    (kk : ∀ (S1 : nS) (T1 : Int), HM D V nu tn rt p (3 :: J) cr S0 S1 (min T T1) (min T T1) → FTK T1 → NDC S S1 → NX nu S S1 → (∀ b ∈ S.vs, SMN nu S S1 b) → (T1 = NOF → NE V nu S1 kr (f + 1) (okp y4 y0) q) → PS (fun Q => zb_X6_input_p145 D.1 L (K Q) (some p) x2 S1.w) (fun Q => Kt Q S1.t) Φ) :
    PS (fun Q => zb_X6_input_p0 D.1 L (K Q) (some p) x2 S.w) (fun Q => zw E' Lt kt_M477 [.ref (w_adr E'.2.1 12 0), .int (i_ nq)] S.t (KT Q)) Φ := by
  have hnk := hC.nk hs
  obtain ⟨I4, V4⟩ := H.go hs h3 ⟨by decide, by decide⟩ hq hnk.1 hnk.2
  obtain ⟨rq, hnuq, hmq, -, hrq, -⟩ := hC.nb h26 ⟨by decide, by decide⟩
  obtain ⟨kd, h26', hcl, hch⟩ := hK.at hnuq hmq
  have hkd : kd = 60 := by unfold cok at hcl; omega
  subst hkd
  obtain ⟨htq, hl2, hF⟩ := hs.lf hnuq hmq h26 (by decide)
  obtain ⟨-, hk0, hnm, hEO⟩ := hF
  have hX : ∀ q', V.2.1 q 3 = some q' → KX V nu f 0 q' := fun q' hq' => by
    have h := hch 3 ⟨by decide, by decide⟩ (by omega) (ujk.e (.inl ⟨rfl, by decide⟩) (by decide)) 0 q' (.inl rfl) hq'
    rw [ccl50 (by decide)] at h
    exact h
  have hwp := H.1.nw hnu
  have hwq := H.1.nw hnuq
  have H' := HM.start I4 V4
  have hkA : KRE ((S.go p 3).at q) kr := hk
  have hfy := fnd_ys (t := S.t) H.1 hk (y := V.2.2.1 30 nq)
  have hmr : ∀ s, fnd S.t kr (V.2.2.1 30 nq) = some s → s ∈ kr := fun s e => (fnd_mem e).1
  simp only [zb_X6_input_p0]
  refine PS_lex p rfl (PS_land hwp.1 (PS_lex q ((hwp.2.1 3 (by decide)).trans hq) (PS_land hwq.1 ?_)))
  simp only [hwq.2.2 9 (by decide), (hwq.2.2 2 (by decide)).trans hl2]
  refine PS_lr (fun Q hq => H.1.cf (L := L - 23) hs hk hnm (by omega) hq) ?_
  have Hf := H.cru (fT_ok (r := fnd S.t kr (V.2.2.1 30 nq)) (l := V.2.2.1 27 nq))
  have hwf := Hf.1.nw hnu
  have hwfq := Hf.1.nw hnuq
  refine PS_lex q ((hwf.2.1 3 (by decide)).trans hq) (PS_land hwfq.1 ?_)
  refine n_el2 (S := (S.go p 3).at q) (kr := kr) (Lx := L - 21) (Tc := fT (fnd S.t kr (V.2.2.1 30 nq)) (V.2.2.1 27 nq)) (v := (fnd S.t kr (V.2.2.1 30 nq)).bind S.ys) (KC := fun Q w => zb_X6_input_p48 D.1 L (K Q) (some p) x2 ((fnd S.t kr (V.2.2.1 30 nq)).bind S.ys) w) (n_EX (E' := E') hs f) hs H' hkA hnuq htq hmq hEO hX (by omega) (by omega) fT_ok (fun S1 T1 H1 hT1' hn hx h16 h31 hG => ?_)
  have H1 : HM D V nu tn rt q [3] 5 (S.go p 3) S1 (min (min NOF (fT (fnd S.t kr (V.2.2.1 30 nq)) (V.2.2.1 27 nq))) T1) (min (min NOF (fT (fnd S.t kr (V.2.2.1 30 nq)) (V.2.2.1 27 nq))) T1) := H1
  have h31 : w_a S1.t 12 0 31 nq = sno (fnd S.t kr (V.2.2.1 30 nq)) := h31
  have h16 : w_p S1.w 14 q 16 = (fnd S.t kr (V.2.2.1 30 nq)).bind S.ys := h16
  have hys : S1.ys = S.ys := congrArg Prod.fst hn.2.1
  have fin : ∀ (S2 : nS) (T2 : Int), HM D V nu tn rt q [3] 5 (S.go p 3) S2 T2 T2 → NDC S S2 → (T2 = NOF → (∀ q', V.2.1 q 3 = some q' → NE V nu S2 kr f Cv q') ∧ USE S2 kr q nq (okp y4 y0)) → PS (fun Q => zb_X6_input_p145 D.1 L (K Q) (some p) x2 S2.w) (fun Q => Kt Q S2.t) Φ := fun S2 T2 H2 hn2 hG2 => by
    have hb : NPO D V nu tn rt q (S.go p 3) (NDC S) (fun S' => NE V nu S' kr (f + 1) (okp y4 y0) q) (.inl none) S2.w (.inl none) S2.t := H2.en (by decide) (congrArg Prod.fst hn2.2.2.2) hn2 (fun e => NE.mk H2.1 hnuq hmq h26 (fun j hj i q' hi hq' => by
      have hj3 : j = 3 := by unfold chl at hj; omega
      subst hj3
      have hi0 : i = 0 := by rw [isl50 (by decide)] at hi; omega
      subst hi0
      exact (hG2 e).1 q' hq') (fun _ => (hG2 e).2) (fun e => by omega))
    obtain ⟨S', T1, ⟨-, -, e3, e4⟩, HB, hx, hq, hT1, ⟨hu, hsm⟩, hA, hG⟩ := H.bk (J' := 3 :: J) ⟨H.2.2.1.1, H.2.2.1.2.1⟩ ⟨fun _ => List.mem_cons_self, fun i hi => List.mem_cons_of_mem _ hi⟩ hb
    rw [← e3, ← e4]
    exact kk S' T1 HB hT1 hA hx (fun b hb => (hsm b hb).1) hG
  have hsb : ∀ S2 : nS, HM D V nu tn rt q [3] 5 (S.go p 3) S2 T T → True := fun _ _ => trivial
  refine PS_l (fun Q h => h48 S1 (K Q) _ H1.1 h) ?_
  simp only [show ((S.go p 3).at q).t = S.t from rfl]
  have eys : ∀ s A, S.ys s = some A → S1.ys s = some A := fun s A h => by rw [hys]; exact h
  generalize fnd S.t kr (V.2.2.1 30 nq) = rr at hfy hmr H1 h31 h16 ⊢
  cases rr with
  | none =>
    refine hT1 S1 _ H1.1 (PS_l (fun Q h => c_85n (y4 := y4) (y0 := y0) h) (fin S1 _ H1 hn (fun e => ?_)))
    obtain ⟨s, es⟩ := fT_nof (min_nof (.inl rfl) fT_ok (min_nof (FTK.min (.inl rfl) fT_ok) hT1' e).1).2
    cases es
  | some s =>
    have hms := hfy s rfl
    cases ea : S.ys s with
    | none => exact absurd ea hms
    | some A =>
      have ea1 := eys s A ea
      have h16A : w_p S1.w 14 q 16 = some A := by rw [h16]; exact ea
      obtain ⟨c, g2, g3, g4, g5, g6⟩ := H1.1.sy ea1
      have c85 := fun Q => c_85s (D := D) (L := L) (p := p) (x2 := x2) (y4 := y4) (y0 := y0) (Q := Q) hs.1.1 g5 g4 g2
      show PS (fun Q => zb_X6_input_p85 D.1 L (K Q) (some p) x2 (S.ys s) y4 y0 S1.w) _ _
      rw [ea]
      by_cases hc : okp y4 y0 c
      · refine hT2 S1 _ s c H1.1 g6 g2 g3 hc (PS_l (fun Q h => (c85 (K Q)).1 hc h) (fin S1 _ H1 hn (fun e => ⟨fun q' hq' => hG (min_nof (FTK.min (.inl rfl) fT_ok) hT1' e).2 q' hq', s, c, hmr s rfl, ⟨A, ea1, h16A, h31⟩, g3, hc⟩)))
      · refine hT3 S1 _ s c H1.1 g6 g2 g3 hc (PS_l (fun Q h => (c85 (K Q)).2 hc h) ?_)
        have hw1 := H1.1.nw hnu
        have hw1q := H1.1.nw hnuq
        have h6 : FTK (fln 6 (V.2.2.1 27 nq)) := .inr ⟨6, _, ⟨by decide, by decide⟩, rfl⟩
        simp only [zb_X6_input_p121]
        refine PS_lex p rfl (PS_land hw1.1 (PS_lex q ((hw1.2.1 3 (by decide)).trans hq) (PS_land hw1q.1 ?_)))
        simp only [(hw1q.2.2 2 (by decide)).trans hl2]
        refine PS_l0 (fun Q hq => c_rule (k := 6) (by omega) H1.1.2.2.2.2.2.2.1.1 ⟨by decide, by decide⟩ hq) ?_
        have H2 := H1.cru h6
        have hw2 := H2.1.nw hnu
        have hw2q := H2.1.nw hnuq
        refine PS_lex q ((hw2.2.1 3 (by decide)).trans hq) (PS_land hw2q.1 ?_)
        refine fin (((S1.wt (ru S1.w (fln 6 (V.2.2.1 27 nq))) S1.t).wt (ws_p (ru S1.w (fln 6 (V.2.2.1 27 nq))) 14 q 16 none) S1.t).wt (ws_p (ru S1.w (fln 6 (V.2.2.1 27 nq))) 14 q 16 none) (tu S1.t (fln 6 (V.2.2.1 27 nq)))) _ (((H1.cru h6).p16 (v := none)).ttu h6) hn (fun e => ?_)
        have := (min_nof (FTK.min (FTK.min (.inl rfl) fT_ok) hT1') h6 e).2
        have h7 := (fln_m (k := 6) (l := V.2.2.1 27 nq) ⟨by decide, by decide⟩).2.2
        omega
end NIN
