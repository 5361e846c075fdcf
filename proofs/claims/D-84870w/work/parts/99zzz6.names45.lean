/-! ===== ROUNDS, part 47: TYPES, CHANNELS and TIMERS with their names ===== -/
section NDS
variable {D : pD} {V : pV} {nu : pN} {tn : Nat → Prop} {rt p q n nq m r d dq j k k' k0 f s s0 u un y A A0 c cr crq kd W i : Nat} {J J' Jq : List Nat} {S S' S0 S1 : nS} {w w2 w' t t' : wS} {v2 pr : Option Nat} {x x1 x2 x3 z y9 l' ty v ln : Int32} {T T' T1 T2 : Int} {kr ks : List Nat} {L L' Lc Ls Lk Lx Lt : Nat} {E E' : zE} {ol : Option Int32} {Q : kx_Rs → wS → Prop} {gc gt : pQ} {Φ : kx_Rs → wS → kx_Rs → wS → Prop} {C : Nat → Prop} {o : Bool}
theorem NX.tuu : NX nu S (S.wt S.w (tu S.t T)) ∧ ∀ b, SMN nu S (S.wt S.w (tu S.t T)) b :=
  have hsm : ∀ b, SMN nu S (S.wt S.w (tu S.t T)) b := fun b => ⟨⟨rfl, rfl⟩, fun _ _ _ _ _ _ => congrFun tu_a _⟩
  ⟨NX.wt (w' := S.w) (t' := tu S.t T) (fun _ _ _ _ => ⟨rfl, rfl⟩) (fun _ _ => tu_a) (fun b _ => hsm b), hsm⟩
/-- what follows the size -/
theorem n_DSb {l : List (Nat × Nat × Nat)} {J1 : List Nat} (hkd : SVK kd c W) (hs : STR D V nu tn rt) (hnu : nu p = some (n, r, d)) (hm : n < 14000) (htm : tn n) (h26 : V.2.2.1 26 n = i_ (kd : Nat)) (hl2 : V.1 p 2 = V.2.2.1 27 n) (hi : (kd = 30 ∧ i = 10) ∨ (kd = 31 ∧ i = 26) ∨ (kd = 32 ∧ i = 27)) (hk0 : V.2.1 p 0 = some (D.1.1.1 i)) (h34 : (o = false → V.2.2.1 34 n &&& 1 = 0) ∧ (o = true → ¬ V.2.2.1 34 n &&& 1 = 0)) (hKI : (kd = 30 ∧ V.1 p 14 = 0 ∧ tyr (V.1 p 8) (V.2.2.1 33 n)) ∨ (kd = 31 ∧ V.1 p 14 = 1 ∧ KN D V nu (V.2.1 p 5) (V.2.2.1 33 n)) ∨ (kd = 32 ∧ V.1 p 14 = 0 ∧ V.1 p 8 = i_ (-1))) (hl : LPx V tn nu r (some (V.2.2.1 27 n)) l (V.2.1 p 4) (V.2.2.1 29 n) none (-1)) (h39 : ∀ z ∈ l, V.2.2.1 26 z.1 = 39) (h3o : V.2.1 p 3 = none ↔ o = false) (h4o : c = 4 → o = false) (hL : 400 ≤ L) (hL' : 400 ≤ L') (hJ4 : 4 ∉ J1) (hJ7 : 7 ∉ J1) (H1 : HM D V nu tn rt p J1 5 S S1 (min (min NOF (agT V [] (l.map (fun z => z.1)))) T1) (min NOF T1)) (hT1 : FTK T1) (hk1 : KRE S1 kr) (hu1 : S1.u = S.u) (hG1 : T1 = NOF → OP V p 3 (NE V nu S1 kr f Cv)) : PS (fun Q => zb_X6_declaration_p71 D.1 L Q (some p) S1.w) (fun Q => zb_X13_nameDeclaration_p76 E' L' Q (i_ n) (V.2.2.1 27 n) S1.t) (NPO D V nu tn rt p S (fun S' => ∃ ks, KRE S' (ks ++ kr)) (fun S' => NS V nu S' (f + 1) S.u kr p S'.kc)) := by
  have hw1 := H1.1.nw hnu
  have ht1 := H1.1.1.2.2 n htm
  have hT1' := H1.1.1.2.1
  have hf1 := H1.1.2.2.2.2.2.2.1
  have hsn0 : S.sn ≤ S1.sn := H1.2.1.2.1.2.2.1
  have hk44 : w_i S1.t 12 0 44 = i_ S1.sn := H1.1.2.2.1.1.1
  have hkl : kr.length ≤ S1.sn := by
    have := H1.1.2.2.2.2.2.1.2.2.2.1
    rw [hk1.2] at this
    exact this
  simp only [zb_X6_declaration_p71, zb_X13_nameDeclaration_p76, i_nat' (show n < 2147483648 by omega), ht1 26 rfl, h26, ht1 33 rfl]
  refine PS_l (fun Q h => zt_X6_several_p0 (by omega) h) ?_
  simp only [zb_X6_several_p0]
  refine PS_lex p rfl (PS_land hw1.1 (PS_rand (hT1'.i rfl hm) ?_))
  simp only [(hw1.2.2 2 (by decide)).trans hl2]
  refine PS_sym H1 hs (by decide) (by omega) (fun A0 al' w2 H2 hsd hA0 hx2 h14 hsm2 hold h5 => ?_)
  refine PS_l (fun Q a => wkr_k (x := some A0) a) ?_
  have hpr0 : w_p w2 15 A0 15 = none := hsd.2.1.2.1
  -- what follows the KIND
  have kk2 : ∀ (w3 t3 : wS) (TK : Int) (v ty : Int32) (pr : Option Nat), HM D V nu tn rt p J1 3 S ((S1.sy w2 al').wt w3 t3) (min (min (min NOF (agT V [] (l.map (fun z => z.1)))) T1) TK) (min (min NOF T1) TK) → NX nu (S1.sy w2 al') ((S1.sy w2 al').wt w3 t3) → KTV ((S1.sy w2 al').wt w3 t3) c ty pr v → (w_l w3 D.1.2.1 15 A0 ∧ w_i w3 15 A0 5 = ty ∧ w_p w3 15 A0 15 = pr) → (∀ k, k ≠ 16 → w_p w3 14 p k = V.2.1 p k) → PS (fun Q => if ¬ w_p w3 14 p 0 = some (D.1.1.1 27) then (if ¬ w_p w3 14 p 0 = some (D.1.1.1 26) then zb_X6_several_p57 D.1 (L - 24) (wk0 (fun w1 => wle S1.w w1 → zb_X6_declaration_p271 D.1 L Q w1) (fun e w => Q (.inr e) w)) (some p) (some A0) (some (D.1.1.1 54)) w3 else zb_X6_several_p57 D.1 (L - 24) (wk0 (fun w1 => wle S1.w w1 → zb_X6_declaration_p271 D.1 L Q w1) (fun e w => Q (.inr e) w)) (some p) (some A0) (some (D.1.1.1 53)) w3) else zb_X6_several_p57 D.1 (L - 24) (wk0 (fun w1 => wle S1.w w1 → zb_X6_declaration_p271 D.1 L Q w1) (fun e w => Q (.inr e) w)) (some p) (some A0) (some (D.1.1.1 58)) w3) (fun Q => zb_X13_nameDeclaration_p102 E' L' Q (i_ n) (V.2.2.1 27 n) v t3) (NPO D V nu tn rt p S (fun S' => ∃ ks, KRE S' (ks ++ kr)) (fun S' => NS V nu S' (f + 1) S.u kr p S'.kc)) := by
    intro w3 t3 TK v ty pr H3 hx3 hKT hA3 hp3
    obtain ⟨S3, hS3⟩ : ∃ S3, S3 = (S1.sy w2 al').wt w3 t3 := ⟨_, rfl⟩
    have f3 : S3.w = w3 ∧ S3.t = t3 ∧ S3.al = al' ∧ S3.am = S1.am + 1 ∧ S3.kc = S1.kc ∧ S3.kt = S1.kt ∧ S3.sn = S1.sn ∧ S3.u = S1.u ∧ S3.vs = S1.vs := by subst hS3; exact ⟨rfl, rfl, rfl, rfl, rfl, rfl, rfl, rfl, rfl⟩
    rw [← hS3] at H3 hx3 hKT
    clear hS3
    obtain ⟨fw, ft, fal, fam, fkc, fkt, fsn, fu, fvs⟩ := f3
    have hw3 := H3.1.nw hnu
    have ht3 := H3.1.1.2.2 n htm
    subst fw ft
    have hkS : PS (fun Q => zb_X6_several_p57 D.1 (L - 24) (wk0 (fun w1 => wle S1.w w1 → zb_X6_declaration_p271 D.1 L Q w1) (fun e w => Q (.inr e) w)) (some p) (some A0) (some (D.1.1.1 W)) S3.w) (fun Q => zb_X13_nameDeclaration_p102 E' L' Q (i_ n) (V.2.2.1 27 n) v S3.t) (NPO D V nu tn rt p S (fun S' => ∃ ks, KRE S' (ks ++ kr)) (fun S' => NS V nu S' (f + 1) S.u kr p S'.kc)) := by
      simp only [zb_X6_several_p57, zb_X13_nameDeclaration_p102, i_nat' (show n < 2147483648 by omega), ht3 29 rfl, H3.1.2.2.1.1.1]
      refine PS_lex p rfl (PS_land hw3.1 (PS_rand (H3.1.1.2.1.i rfl hm) ?_))
      rw [hw3.2.1 4 (by decide)]
      refine n_sev (KQ := fun Q => wk0 (fun w1 => wle S1.w w1 → zb_X6_declaration_p271 D.1 L Q w1) (fun e w => Q (.inr e) w)) (s0 := S3.sn) (o := o) (J := 4 :: J1) (cr := 2) (pre := []) hs hnu hm htm h26 hkd h34 h3o h4o rfl (by omega) (by omega) ((H3.wk (fun i hi => List.mem_cons_of_mem _ hi)).crd (by decide) (by decide)) (by decide) ?_ (by rw [fkc, hk1.1]; rfl) (fkt.trans hk1.2) rfl (by omega) ⟨H3.2.2.1.1, H3.2.2.1.2.1⟩ (fun e => hJ4 (H3.2.2.1.2.2.2 4 e)) ⟨by decide, by decide⟩ (fun _ => List.mem_cons_self) hl h39 trivial (fun z hz => absurd hz List.not_mem_nil) hKT ⟨?_, hA3⟩ (fun S4 T4 H4 hkc4 hkt4 hu4 hx4 hsm4 hI4 hv4 hT4 => ?_)
      · show min (min (min NOF (agT V [] (l.map (fun z => z.1)))) T1) TK = min (min (min NOF T1) TK) (agT V [] (l.map (fun z => z.1)))
        omega
      · rw [fal, fam]
        exact hA0.1.1
      · have ht4 := H4.1.1.2.2 n htm
        have eL : ([] : List (Nat × Nat × Nat)) ++ l = l := rfl
        have eN : ([] : List (Nat × Nat × Nat)).length + l.length = l.length := Nat.zero_add _
        rw [eL] at hI4 hv4
        rw [eN] at hkc4
        simp only [i_nat' (show n < 2147483648 by omega), ht4 29 rfl]
        refine PS_l (fun Q a => fun _ => a) (PS_rand (H4.1.1.2.1.i rfl hm) ?_)
        simp only [zb_X6_declaration_p271]
        refine n_kn (E' := E') (gtl := fun x t Q => zL_X13_nameDeclaration_p267 E' L' Q x t) (Lt := L' - 21) (Y := fun Q e w => Q (.inr e) w) (s0 := S3.sn) (i := 0) (kr := kr) hs (by omega) (fun S5 n5 hn5 hT5 h => ?_) H4 (by rw [hkt4]; rfl) (by omega) hl hI4 (fun S5 H5 hkt5 ha5 hy5 hkc5 hu5 hw5 hx5 hsm5 => ?_)
        · refine PS_r (fun Q h => zt_X13_nameDeclaration_p267 (by omega) h) ?_
          simp only [zb_X13_nameDeclaration_p267, i_nat' (show n5 < 2147483648 by omega)]
          exact PS_rn (i_nn (by omega)) (PS_rand (hT5.i rfl hn5) h)
        · refine PS_r (fun Q h => zt_X13_nameDeclaration_p267 (by omega) h) ?_
          simp only [zb_X13_nameDeclaration_p267]
          refine PS_rp (by decide) ?_
          have hv5 : ∀ z ∈ l, z.2.1 ∈ S5.vs ∧ z.2.1 ∉ S.vs ∧ z.2.1 ≠ p := fun z hz => by
            have hv := hv4 z hz
            rw [show S5.vs = S4.vs from congrArg Prod.fst (congrArg Prod.snd hu5)]
            exact hv
          obtain ⟨H6, hx6, hsm6⟩ := H5.fin (P := fun a => ∃ z ∈ l, z.2.1 = a) (fun y hy => by
            obtain ⟨z, hz, e⟩ := hy
            rw [← e]
            exact hv5 z hz)
          have hkc6 : S5.kc = rsq S3.sn l.length ++ kr := hkc5.trans hkc4
          have hkt6 : S5.kt = rsq S3.sn l.length ++ kr := by rw [hkt5, Nat.zero_add]
          have hu56 : S5.u = S4.u := congrArg (fun z => z.1.1) hu5
          have hu6 : S5.u = S.u := hu56.trans (hu4.trans (fu.trans hu1))
          have hxA : NXw nu S1 S5 := ((hx2.tr hx3 (.inl rfl)).w.tr hx4 (.inl fu)).tr hx5.w (.inl (hu4.trans fu))
          have hI6 : ITL V nu ((S5.fl (fun a => ∃ z ∈ l, z.2.1 = a)).fi p) (fun c' => c' = c) S.u (S3.sn + 0) l := by
            have := (hI4.st hx5.1.w (fun z _ => hsm5 z.2.1)).st hx6.1.w (fun z _ => hsm6 z.2.1)
            rw [hu4.trans (fu.trans hu1)] at this
            exact this.st (NX.fi (nu := nu)).1.w (fun _ _ => SMN.rf)
          rw [← hw5]
          refine PS_ret (H6.en (by simp [hJ7]) hu6 ⟨rsq S3.sn l.length, hkc6, hkt6⟩ (fun e => ⟨.inr rfl, n, r, d, kd, hnu, hm, h26, ?_⟩))
          have e1 : T1 = NOF := by
            rw [hT4] at e
            have := hT1.le
            have hTk := H3.2.2.2.2.1.2.le
            have hag := (agT_ok (V := V) (l := l.map (fun z => z.1)) (pre := [])).le
            omega
          have hOP : OP V p 3 (fun q => NE V nu ((S5.fl (fun a => ∃ z ∈ l, z.2.1 = a)).fi p) kr f Cv q) := (hG1 e1).imp (fun _ h => ((h.nxw H1.1 hxA).nx H5.1 hx6).nx H6.1 NX.fi)
          have hkc7 : ((S5.fl (fun a => ∃ z ∈ l, z.2.1 = a)).fi p).kc = rsq S3.sn (0 + l.length) ++ kr := by rw [Nat.zero_add]; exact hkc6
          obtain ⟨Lc, hLc⟩ := hI6.lch (kr := kr) hl (fun z hz => .inl (.inr ⟨z, hz, rfl⟩))
          have hLc : LCH V (DNM nu ((S5.fl (fun a => ∃ z ∈ l, z.2.1 = a)).fi p) S.u c) Lc (V.2.1 p 4) kr ((S5.fl (fun a => ∃ z ∈ l, z.2.1 = a)).fi p).kc := by
            rw [hkc7]
            exact hLc.imp (fun _ _ _ ⟨c', h1, h2⟩ => by rw [← h1]; exact h2)
          rcases hkd with ⟨k1, k2, -⟩ | ⟨k1, k2, -⟩ | ⟨k1, k2, -⟩
          · rw [k1]
            rw [k2] at hLc
            exact ⟨hOP, Lc, hLc⟩
          · rw [k1]
            rw [k2] at hLc
            exact ⟨hOP, Lc, hLc⟩
          · rw [k1]
            rw [k2] at hLc
            exact ⟨hOP, Lc, hLc⟩
    have e0 : w_p S3.w 14 p 0 = some (D.1.1.1 i) := (hp3 0 (by decide)).trans hk0
    rw [e0]
    rcases hkd with ⟨k1, -, k2⟩ | ⟨k1, -, k2⟩ | ⟨k1, -, k2⟩
    · have hi' : i = 10 := by omega
      subst hi' k2
      exact PS_lp (eo_ne hs.1.1 (by decide) (by decide) (by decide)) (PS_lp (eo_ne hs.1.1 (by decide) (by decide) (by decide)) hkS)
    · have hi' : i = 26 := by omega
      subst hi' k2
      exact PS_lp (eo_ne hs.1.1 (by decide) (by decide) (by decide)) (PS_ln (not_not_intro rfl) hkS)
    · have hi' : i = 27 := by omega
      subst hi' k2
      exact PS_ln (not_not_intro rfl) hkS
  have hko : KRE (S1.sy w2 al') kr := hk1
  have hf2 := H2.1.2.2.2.2.2.2.1
  rcases hKI with ⟨e30, hch0, hty⟩ | ⟨e31, hch1, hKN⟩ | ⟨e32, hch0, hw8⟩
  · -- TYPES
    refine n_ck0 (q := p) (m := n) (r := r) (d := d) H2 hA0 hnu hch0 (by omega) (fun H3 hA3 => ?_)
    obtain ⟨cy, hcy, hy8, hy33⟩ := hty
    have hlt : ¬ V.2.2.1 33 n < 0 := by rw [hy33]; exact i_nn (by omega)
    have hn32 : ¬ (i_ kd : Int32) = 32 := by rw [e30]; decide
    refine PS_rp hn32 (PS_rand (hT1'.i rfl hm) ?_)
    refine PS_r1 (fun Q hq => t_kof (S := S1) (kr := kr) H1.1 hs hk1 (by omega) hq) ?_
    have eT : kiT S1.t kr (V.2.2.1 33 n) (V.2.2.1 27 n) = NOF := if_neg hlt
    have eV : kiV S1.t kr (V.2.2.1 33 n) = V.2.2.1 33 n := if_neg hlt
    rw [eT, eV, tu_nof hf1.2]
    have hx3 : NX nu (S1.sy w2 al') ((S1.sy w2 al').wt (ws_i w2 15 A0 5 (V.1 p 8)) S1.t) := NX.wt (S := S1.sy w2 al') (w' := ws_i w2 15 A0 5 (V.1 p 8)) (t' := S1.t) (fun s A' hs' k => ⟨by rw [Rii, if_neg (fun z => hA0.2.1 s (by rw [← z.2.2]; exact hs'))]; rfl, rfl⟩) (fun _ _ => rfl) (fun b _ => ⟨⟨rfl, by show w_i (ws_i w2 15 A0 5 (V.1 p 8)) 14 b 10 = _; rw [Rii, if_neg (fun z => absurd z.2.1 (by decide))]; rfl⟩, fun _ _ _ _ _ _ => rfl⟩)
    have hTT := H3.2.2.2.2.1
    have m1 : ∀ X : Int, FTK X → min X NOF = X := fun X h => by have := h.le; omega
    refine kk2 _ S1.t NOF _ (V.1 p 8) none ?_ hx3 (.inl ⟨by unfold SVK at hkd; omega, cy, hcy, hy8, rfl, hy33⟩) ⟨hA3.2.2, ?_, hpr0⟩ (H3.1.nw hnu).2.1
    · rw [m1 _ hTT.1, m1 _ hTT.2]
      exact H3
    · rw [Rii, if_pos ⟨rfl, rfl, rfl⟩]
  · -- CHANNELS
    refine n_ck1 (q := p) (m := n) (r := r) (d := d) hs H2 hko hA0 hpr0 hnu hch1 hKN hl2 (by omega) (fun w3 H3 hA3 hx3 hfr hKY => ?_)
    have hn32 : ¬ (i_ kd : Int32) = 32 := by rw [e31]; decide
    refine PS_rp hn32 (PS_rand (hT1'.i rfl hm) ?_)
    refine PS_r1 (fun Q hq => t_kof (S := S1) (kr := kr) H1.1 hs hk1 (by omega) hq) ?_
    have H4 := H3.ttu (kiT_ok (t := S1.t) (kr := kr) (x := V.2.2.1 33 n) (l := V.2.2.1 27 n))
    have hxt := NX.tuu (nu := nu) (S := (S1.sy w2 al').wt w3 S1.t) (T := kiT S1.t kr (V.2.2.1 33 n) (V.2.2.1 27 n))
    refine kk2 w3 (tu S1.t (kiT S1.t kr (V.2.2.1 33 n) (V.2.2.1 27 n))) _ (kiV S1.t kr (V.2.2.1 33 n)) (w_i w3 15 A0 5) (w_p w3 15 A0 15) H4 (hx3.tr hxt.1 (.inl rfl)) ?_ ⟨hA3.2.2, rfl, rfl⟩ (H4.1.nw hnu).2.1
    have hc3 : c = 3 := by unfold SVK at hkd; omega
    rcases hKY with ⟨cy, hcy, h1, h2, h3⟩ | ⟨h1, h2⟩
    · exact .inl ⟨.inr hc3, cy, hcy, h1, h2, h3⟩
    · refine .inr (.inl ⟨hc3, h1, ?_⟩)
      rcases h2 with h2 | ⟨sp, P, h2, h3, h4, h5', h6⟩
      · exact .inl h2
      · exact .inr ⟨sp, P, h2, h3, h4, h5', (by show w_a (tu S1.t _) 12 0 46 sp = _; rw [tu_a]; exact h6)⟩
  · -- TIMERS
    refine n_ck0 (q := p) (m := n) (r := r) (d := d) H2 hA0 hnu hch0 (by omega) (fun H3 hA3 => ?_)
    refine PS_rn (by rw [e32]; decide) ?_
    have hx3 : NX nu (S1.sy w2 al') ((S1.sy w2 al').wt (ws_i w2 15 A0 5 (V.1 p 8)) S1.t) := NX.wt (S := S1.sy w2 al') (w' := ws_i w2 15 A0 5 (V.1 p 8)) (t' := S1.t) (fun s A' hs' k => ⟨by rw [Rii, if_neg (fun z => hA0.2.1 s (by rw [← z.2.2]; exact hs'))]; rfl, rfl⟩) (fun _ _ => rfl) (fun b _ => ⟨⟨rfl, by show w_i (ws_i w2 15 A0 5 (V.1 p 8)) 14 b 10 = _; rw [Rii, if_neg (fun z => absurd z.2.1 (by decide))]; rfl⟩, fun _ _ _ _ _ _ => rfl⟩)
    have hTT := H3.2.2.2.2.1
    have m1 : ∀ X : Int, FTK X → min X NOF = X := fun X h => by have := h.le; omega
    refine kk2 _ S1.t NOF 0 (V.1 p 8) none ?_ hx3 (.inr (.inr ⟨by unfold SVK at hkd; omega, hw8, rfl, rfl⟩)) ⟨hA3.2.2, ?_, hpr0⟩ (H3.1.nw hnu).2.1
    · rw [m1 _ hTT.1, m1 _ hTT.2]
      exact H3
    · rw [Rii, if_pos ⟨rfl, rfl, rfl⟩]
/-- several names -/
theorem n_DS (hkd : SVK kd c W) (hs : STR D V nu tn rt) (hI : IVN D V nu tn rt S) (hC : CHx V tn nu k0 ol n p d) (h26 : V.2.2.1 26 n = i_ (kd : Nat)) (hK : KX V nu (f + 1) 3 p) (hv : VOK V nu rt S p) (hk : KRE S kr) (hL : 75 * k0 + 340 ≤ L) (hL' : 75 * k0 + 340 ≤ L') : PS (fun Q => zw D.1 L kt_M136 [.ref (w_adr D.1.2.1 5 0), va_rf (some p)] S.w Q) (fun Q => zw E' L' kt_M474 [.ref (w_adr E'.2.1 12 0), .int (i_ n)] S.t Q) (NPO D V nu tn rt p S (fun S' => ∃ ks, KRE S' (ks ++ kr)) (fun S' => NS V nu S' (f + 1) S.u kr p S'.kc)) := by
  have hkb : 30 ≤ kd ∧ kd ≤ 32 ∧ 1 ≤ c ∧ c ≤ 4 := by unfold SVK at hkd; omega
  obtain ⟨r, hnu, hm, -, hr, -⟩ := hC.nb h26 ⟨by omega, by omega⟩
  obtain ⟨kd', h26', hcl, hch⟩ := hK.at hnu hm
  have hkd' : kd' = kd := by
    have := (i_eq (by unfold cok at hcl; omega) (by omega)).mp (h26'.symm.trans h26)
    omega
  subst hkd'
  obtain ⟨htm, hl2, hF⟩ := hs.lf hnu hm h26 (by omega)
  have hxe := hK.xe (by decide) hnu h26 (by omega)
  obtain ⟨i, o, hi, hk0, hq3, h34, hKI, l, hl, hne, hds, h39⟩ : ∃ (i : Nat) (o : Bool), ((kd' = 30 ∧ i = 10) ∨ (kd' = 31 ∧ i = 26) ∨ (kd' = 32 ∧ i = 27)) ∧ V.2.1 p 0 = some (D.1.1.1 i) ∧ ((o = false ∧ V.2.1 p 3 = none ∧ V.2.2.1 28 n = -1) ∨ (o = true ∧ kd' ≠ 32 ∧ EC V tn nu r (some (V.2.2.1 27 n)) 0 (V.2.1 p 3) (V.2.2.1 28 n))) ∧ ((o = false → V.2.2.1 34 n &&& 1 = 0) ∧ (o = true → ¬ V.2.2.1 34 n &&& 1 = 0)) ∧ ((kd' = 30 ∧ V.1 p 14 = 0 ∧ tyr (V.1 p 8) (V.2.2.1 33 n)) ∨ (kd' = 31 ∧ V.1 p 14 = 1 ∧ KN D V nu (V.2.1 p 5) (V.2.2.1 33 n)) ∨ (kd' = 32 ∧ V.1 p 14 = 0 ∧ V.1 p 8 = i_ (-1))) ∧ LN V tn nu r (some (V.2.2.1 27 n)) d (V.2.1 p 4) (V.2.2.1 29 n) := by
    rcases hkd with ⟨e, -, -⟩ | ⟨e, -, -⟩ | ⟨e, -, -⟩ <;> subst e
    · obtain ⟨h0, h1, h2, ⟨h3, h4, h5⟩ | ⟨h3, h4⟩, h6⟩ := hF
      · exact ⟨10, false, .inl ⟨rfl, rfl⟩, h0, .inl ⟨rfl, h3, h4⟩, ⟨fun _ => by rw [h5]; decide, fun e => absurd e (by decide)⟩, .inl ⟨rfl, h1, h2⟩, h6⟩
      · exact ⟨10, true, .inl ⟨rfl, rfl⟩, h0, .inr ⟨rfl, by decide, h3⟩, ⟨fun e => absurd e (by decide), fun _ => by rw [h4]; decide⟩, .inl ⟨rfl, h1, h2⟩, h6⟩
    · obtain ⟨h0, h1, h2, ⟨h3, h4, h5⟩ | ⟨h3, h4⟩, h6⟩ := hF
      · exact ⟨26, false, .inr (.inl ⟨rfl, rfl⟩), h0, .inl ⟨rfl, h3, h4⟩, ⟨fun _ => by rw [h5]; decide, fun e => absurd e (by decide)⟩, .inr (.inl ⟨rfl, h1, h2⟩), h6⟩
      · exact ⟨26, true, .inr (.inl ⟨rfl, rfl⟩), h0, .inr ⟨rfl, by decide, h3⟩, ⟨fun e => absurd e (by decide), fun _ => by rw [h4]; decide⟩, .inr (.inl ⟨rfl, h1, h2⟩), h6⟩
    · obtain ⟨h0, h1, h3, h4, h5, h6⟩ := hF
      exact ⟨27, false, .inr (.inr ⟨rfl, rfl⟩), h0, .inl ⟨rfl, h3, h4⟩, ⟨fun _ => by rw [h5]; decide, fun e => absurd e (by decide)⟩, .inr (.inr ⟨rfl, h1, hxe.2.2.2 rfl⟩), h6⟩
  clear hF
  have H := HM.start hI hv
  have hw := hI.nw hnu
  have ht := hI.1.2.2 n htm
  have hT := hI.1.2.1
  have hf := hI.2.2.2.2.2.2.1
  have hkA : KRE (S.at p) kr := hk
  have h3o : V.2.1 p 3 = none ↔ o = false := by
    rcases hq3 with ⟨h1, h2, -⟩ | ⟨h1, -, qa, na, h2, -⟩
    · simp [h1, h2]
    · simp [h1, h2]
  have h4o : c = 4 → o = false := fun e => by
    rcases hq3 with ⟨h1, -⟩ | ⟨-, h2, -⟩
    · exact h1
    · exfalso
      apply h2
      unfold SVK at hkd
      omega
  have hXa : ∀ qa, V.2.1 p 3 = some qa → KX V nu f 0 qa := fun qa hqa => by
    have h := hch 3 ⟨by decide, by decide⟩ (by omega) (ujk.c (by unfold SVK at hkd; omega)) 0 qa (.inl rfl) hqa
    have hc3 : ccl (V.1 p 10) (V.1 p 11) kd' 3 = 0 := by
      unfold SVK at hkd
      rcases hkd with ⟨e, -⟩ | ⟨e, -⟩ | ⟨e, -⟩ <;> subst e <;> rfl
    rw [hc3] at h
    exact h
  have hNM : ∀ z ∈ l, NMD D V nu z := fun z hz => by
    have hCz := hl.mem z hz
    have h26z : V.2.2.1 26 z.1 = i_ (39 : Nat) := h39 z hz
    obtain ⟨rz, hnuz, hmz, -⟩ := hCz.nb h26z ⟨by decide, by decide⟩
    obtain ⟨-, h2, -, -, h3⟩ := hs.lf hnuz hmz h26z (by decide)
    exact ⟨h3, h2, by rw [hnuz]; simp⟩
  have kk1 : ∀ (J1 : List Nat) (S1 : nS) (T1 : Int), 4 ∉ J1 → 7 ∉ J1 → HM D V nu tn rt p J1 5 S S1 (min (min NOF (agT V [] (l.map (fun z => z.1)))) T1) (min NOF T1) → FTK T1 → KRE S1 kr → S1.u = S.u → (T1 = NOF → OP V p 3 (NE V nu S1 kr f Cv)) → PS (fun Q => zb_X6_declaration_p71 D.1 L Q (some p) S1.w) (fun Q => zb_X13_nameDeclaration_p76 E' L' Q (i_ n) (V.2.2.1 27 n) S1.t) (NPO D V nu tn rt p S (fun S' => ∃ ks, KRE S' (ks ++ kr)) (fun S' => NS V nu S' (f + 1) S.u kr p S'.kc)) := fun J1 S1 T1 hJ4 hJ7 H1 hT1 hk1 hu1 hG1 => n_DSb hkd hs hnu hm htm h26 hl2 hi hk0 h34 hKI hl h39 h3o h4o (by omega) (by omega) hJ4 hJ7 H1 hT1 hk1 hu1 hG1
  -- ahead of it: names that stand twice, the size
  have rest : PS (fun Q => zw D.1 (L - 23) kt_M132 [.ref (w_adr D.1.2.1 5 0), va_rf (V.2.1 p 4)] S.w (wk0 (fun w3 => wle S.w w3 → (if (w_p w3 14 p 3) = none then zb_X6_declaration_p71 D.1 L Q (some p) w3 else zw D.1 (L - 21) kt_M140 [.ref (w_adr D.1.2.1 5 0), va_rf (w_p w3 14 p 3)] w3 (wk0 (fun w5 => wle w3 w5 → zb_X6_declaration_p71 D.1 L Q (some p) w5) (fun e w => Q (.inr e) w)))) (fun e w => Q (.inr e) w))) (fun Q => kx_inb (i_ n) (w_n S.t 12 0 28) = true ∧ (if V.2.2.1 28 n < 0 then zb_X13_nameDeclaration_p76 E' L' Q (i_ n) (V.2.2.1 27 n) S.t else (kx_inb (i_ n) (w_n S.t 12 0 28) = true ∧ zw E' (L' - 24) kt_M476 [.ref (w_adr E'.2.1 12 0), .int (V.2.2.1 28 n), .int 0] S.t (wk0 (fun w1 => wle S.t w1 → zb_X13_nameDeclaration_p76 E' L' Q (i_ n) (V.2.2.1 27 n) w1) (fun e w => Q (.inr e) w))))) (NPO D V nu tn rt p S (fun S' => ∃ ks, KRE S' (ks ++ kr)) (fun S' => NS V nu S' (f + 1) S.u kr p S'.kc)) := by
    refine PS_l0 (fun Q hq => c_again hs.1.2 (by omega) hI.1.1 hf.1 hl hNM hq) (PS_rand (hT.i rfl hm) ?_)
    have H1 : HM D V nu tn rt p [] 5 S ((S.at p).wt (ru S.w (agT V [] (l.map (fun z => z.1)))) S.t) (min NOF (agT V [] (l.map (fun z => z.1)))) NOF := H.cru (agT_ok (V := V) (l := l.map (fun z => z.1)) (pre := []))
    obtain ⟨S2, hw2, ht2, hk2, hu2, H2⟩ : ∃ S2 : nS, S2.w = ru S.w (agT V [] (l.map (fun z => z.1))) ∧ S2.t = S.t ∧ KRE S2 kr ∧ S2.u = S.u ∧ HM D V nu tn rt p [] 5 S S2 (min NOF (agT V [] (l.map (fun z => z.1)))) NOF := ⟨(S.at p).wt (ru S.w (agT V [] (l.map (fun z => z.1)))) S.t, rfl, rfl, hk, rfl, H1⟩
    clear H1
    have hw3 := H2.1.nw hnu
    have e3 : w_p S2.w 14 p 3 = V.2.1 p 3 := hw3.2.1 3 (by decide)
    rw [← hw2, ← ht2]
    simp only [e3]
    have m1 : ∀ X : Int, FTK X → min X NOF = X := fun X h => by have := h.le; omega
    have hT2 := H2.1.1.2.1
    rcases hq3 with ⟨-, hq3, h28⟩ | ⟨-, -, qa, na, hqa, h28, hCa⟩
    · rw [hq3, h28]
      refine PS_lp rfl (PS_rp (by decide) ?_)
      have H3 : HM D V nu tn rt p [] 5 S S2 (min (min NOF (agT V [] (l.map (fun z => z.1)))) NOF) (min NOF NOF) := by
        rw [m1 _ H2.2.2.2.2.1.1, m1 NOF (.inl rfl)]
        exact H2
      exact kk1 [] S2 NOF List.not_mem_nil List.not_mem_nil H3 (.inl rfl) hk2 hu2 (fun _ q hq => by rw [hq3] at hq; cases hq)
    · have hna := hCa.n14 hs
      rw [hqa, h28]
      refine PS_ln (by simp) (PS_rn (i_nn (by omega)) (PS_rand (hT2.i rfl hm) ?_))
      refine n_chT (n_EX hs f) hs H2 hk2 List.not_mem_nil ⟨by decide, by decide⟩ hqa hCa (hXa qa hqa) (by omega) (by omega) (fun S3 T3 H3 hT3 hn3 hx3 hsm3 hG3 => ?_)
      have hu3 : S3.u = S2.u := congrArg Prod.fst hn3.2.2.2
      exact kk1 [3] S3 T3 (by decide) (by decide) H3 hT3 (hk2.nd hn3) (hu3.trans hu2) (fun e q hq => by rw [hqa] at hq; cases hq; exact hG3 e)
  refine PS_of (fun Q h => zt_X6_declaration_p0 (by omega) h) (fun Q h => zt_X13_nameDeclaration_p0 (by omega) h) ?_
  simp only [zb_X6_declaration_p0, zb_X13_nameDeclaration_p0, i_nat' (show n < 2147483648 by omega), ht 26 rfl, ht 27 rfl, h26, ht 28 rfl]
  have hzO : zO D.1 "MeetingHouse$Kind" (w_p S.w 14 p 0) i := zO_k hs.1.1 (by omega) ((hw.2.1 0 (by decide)).trans hk0) (by rcases hi with ⟨-, e⟩ | ⟨-, e⟩ | ⟨-, e⟩ <;> subst e <;> rfl)
  refine PS_lex p rfl (PS_land hw.1 (PS_lex i hzO (PS_rand (hT.i rfl hm) (PS_rand (hT.i rfl hm) ?_))))
  rw [hw.2.1 4 (by decide)]
  rcases hi with ⟨e, e'⟩ | ⟨e, e'⟩ | ⟨e, e'⟩ <;> subst e <;> subst e'
  · exact PS_lp (by decide) (PS_rp (by decide) rest)
  · exact PS_ln (by decide) (PS_lp (by decide) (PS_rn (by decide) (PS_rp (by decide) rest)))
  · exact PS_ln (by decide) (PS_ln (by decide) (PS_lp (by decide) (PS_rn (by decide) (PS_rn (by decide) (PS_rp (by decide) rest)))))
end NDS
