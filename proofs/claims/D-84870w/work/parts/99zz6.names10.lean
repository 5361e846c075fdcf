/-! ===== ROUNDS, part 12: places, what is given to a call ===== -/
section NPL
variable {D : pD} {V : pV} {nu : pN} {tn : Nat → Prop} {rt p q n nq m r d dq j k s A cr f b b' k0 kd W Cx y : Nat} {J J' : List Nat} {S0 S S' : nS} {T T' T1 Tc : Int} {v rr : Option Nat} {x x' : Int32} {kr : List Nat} {C C' : Nat → Prop} {E' : zE} {L L' Lc Lx Lt : Nat} {Φ : kx_Rs → wS → kx_Rs → wS → Prop} {ol : Option Int32} {ar : Bool}
/-- a node without brackets -/
theorem CHx.nb (h : CHx V tn nu k0 ol n p d) (hk : V.2.2.1 26 n = i_ kd) (h58 : kd < 1000 ∧ kd ≠ 58) : ∃ r, nu p = some (n, r, d) ∧ n < 14000 ∧ V.1 p 12 = 0 ∧ r < k0 ∧ (∀ l, ol = some l → V.2.2.1 27 n = l) := by
  obtain ⟨m, c, r, hP, -, hnu, ⟨hr, hm⟩, hbr, hol⟩ := h
  cases c with
  | nil =>
    have e : n = m := hP
    subst e
    exact ⟨r, hnu, hm, hbr, hr, hol⟩
  | cons y c =>
    have h2 : V.2.2.1 26 n = i_ (58 : Nat) := hP.2.1
    rw [hk] at h2
    have := (i_eq (by omega) (by omega)).mp h2
    omega
theorem NPO.imp {A G A' G' : nS → Prop} {r r' : kx_Rs} {w t : wS} (h : NPO D V nu tn rt p S A G r w r' t) (hA : ∀ S', A S' → A' S') (hG : ∀ S', G S' → G' S') : NPO D V nu tn rt p S A' G' r w r' t := by
  obtain ⟨S', T, e, h1, h2, h3, h4, h5, h6, h7⟩ := h
  exact ⟨S', T, e, h1, h2, h3, h4, h5, hA _ h6, fun e => hG _ (h7 e)⟩
/-- the symbol of a place, told of a fault or not -/
def PLC (S : nS) (p n Cx : Nat) : Prop := (∃ s A : Nat, S.ys s = some A ∧ w_p S.w 14 p 16 = some A ∧ w_a S.t 12 0 31 n = i_ s ∧ w_a S.t 12 0 46 s = i_ Cx) ∨ (w_p S.w 14 p 16 = none ∧ (w_a S.t 12 0 31 n = i_ (-1) ∨ ∃ s A c : Nat, S.ys s = some A ∧ w_a S.t 12 0 31 n = i_ s ∧ w_a S.t 12 0 46 s = i_ c ∧ c ≠ Cx ∧ c ≤ 9))
/-- a place of a kind -/
theorem n_placeA (hs : STR D V nu tn rt) (IH : NCE D V nu tn rt E' f) (hI : IVN D V nu tn rt S) (hC : CHx V tn nu k0 ol n p d) (h26 : V.2.2.1 26 n = i_ (60 : Nat)) (hK : KX V nu (f + 1) 60 p) (hv : VOK V nu rt S p) (hk : KRE S kr) (hW : wcC W Cx) (hL : 75 * k0 + 270 ≤ L) (hL' : 75 * k0 + 300 ≤ L') :
    PS (fun Q => zw D.1 L kt_M138 [.ref (w_adr D.1.2.1 5 0), va_rf (some p), va_rf (some (D.1.1.1 W))] S.w Q) (fun Q => zw E' L' kt_M472 [.ref (w_adr E'.2.1 12 0), .int (i_ n), .int (i_ Cx)] S.t Q) (NPO D V nu tn rt p S (fun S' => NDC S S' ∧ PLC S' p n Cx) (fun S' => NE V nu S' kr (f + 1) (fun c => c = Cx) p)) := by
  obtain ⟨r, hnu, hm, -, hr, -⟩ := hC.nb h26 ⟨by decide, by decide⟩
  obtain ⟨kd, h26', hcl, hch⟩ := hK.at hnu hm
  obtain ⟨htm, hl2, hF⟩ := hs.lf hnu hm h26 (by decide)
  have hkd : kd = 60 := by
    unfold cok at hcl
    omega
  subst hkd
  obtain ⟨-, hk0, hnm, hEO⟩ := hF
  have hX : ∀ q, V.2.1 p 3 = some q → KX V nu f 0 q := fun q hq => by
    have h := hch 3 ⟨by decide, by decide⟩ (by omega) (ujk.e (.inl ⟨rfl, by decide⟩) (by decide)) 0 q (.inl rfl) hq
    rw [ccl50 (by decide)] at h
    exact h
  have H := HM.start hI hv
  have hw := hI.nw hnu
  have ht := hI.1.2.2 n htm
  have hT := hI.1.2.1
  have hfy := fnd_ys (t := S.t) hI hk (y := V.2.2.1 30 n)
  refine PS_of (fun Q h => zt_X6_element_p0 (by omega) h) (fun Q h => zt_X13_nameAs_p0 (by omega) h) ?_
  simp only [zb_X6_element_p0, zb_X13_nameAs_p0, hw.2.2 9 (by decide), (hw.2.2 2 (by decide)).trans hl2]
  refine PS_lex p rfl (PS_land hw.1 ?_)
  simp only [hw.2.2 9 (by decide), (hw.2.2 2 (by decide)).trans hl2]
  refine n_el (S := S.at p) (Lc := L - 24) (kr := kr) (Tc := f2T S.t Cx (fnd S.t kr (V.2.2.1 30 n)) (V.2.2.1 27 n)) (KC := fun Q w => zb_X6_element_p32 D.1 L Q w) IH hs H hk hnu htm hm hEO hX (by omega) (by omega) f2T_ok (fun Q hq => hI.cf2 hs hk hW hnm (by omega) hq) (fun S1 T1 H1 hT1 hn hx h16 h31 hG => ?_)
  have hmr : ∀ s, fnd S.t kr (V.2.2.1 30 n) = some s → s ∈ kr := fun s e => (fnd_mem e).1
  have hys : S1.ys = S.ys := congrArg Prod.fst hn.2.1
  refine PS_r (fun Q a => fun _ => a) ?_
  simp only [zb_X6_element_p32, zb_X13_nameAs_p32, show (S.at p).t = S.t from rfl]
  have H1' : HM D V nu tn rt p [3] 5 S S1 (min (min NOF (f2T S.t Cx (fnd S.t kr (V.2.2.1 30 n)) (V.2.2.1 27 n))) T1) (min (min NOF (fT (fnd S.t kr (V.2.2.1 30 n)) (V.2.2.1 27 n))) T1) := H1
  have h31' : w_a S1.t 12 0 31 n = sno (fnd S.t kr (V.2.2.1 30 n)) := h31
  have h16' : w_p S1.w 14 p 16 = (f2v S.t Cx (fnd S.t kr (V.2.2.1 30 n))).bind S.ys := h16
  clear H1 h16 h31
  generalize fnd S.t kr (V.2.2.1 30 n) = rr at hfy hmr H1' h31' h16' ⊢
  have fin : ∀ (S2 : nS) (T : Int), HM D V nu tn rt p [3] 5 S S2 T T → NDC S S2 → PLC S2 p n Cx → (T = NOF → (∀ q, V.2.1 p 3 = some q → NE V nu S2 kr f Cv q) ∧ USE S2 kr p n (fun c => c = Cx)) → NPO D V nu tn rt p S (fun S' => NDC S S' ∧ PLC S' p n Cx) (fun S' => NE V nu S' kr (f + 1) (fun c => c = Cx) p) (.inl none) S2.w (.inl none) S2.t := fun S2 T H2 hn2 hP2 hG2 => H2.en (by decide) (congrArg Prod.fst hn2.2.2.2) ⟨hn2, hP2⟩ (fun e => NE.mk H2.1 hnu hm h26 (fun j hj i q hi hq => by
    have hj3 : j = 3 := by unfold chl at hj; omega
    subst hj3
    have hi0 : i = 0 := by rw [isl50 (by decide)] at hi; omega
    subst hi0
    exact (hG2 e).1 q hq) (fun _ => (hG2 e).2) (fun e => by omega))
  cases rr with
  | none =>
    refine PS_rp (by decide) (PS_ret (fin S1 _ H1' hn (.inr ⟨h16', .inl h31'⟩) (fun e => ?_)))
    have := (fln_m (k := 5) (l := V.2.2.1 27 n) ⟨by decide, by decide⟩).2.2
    have e2 := (min_nof (FTK.min (.inl rfl) f2T_ok) hT1 e).1
    have e3 := (min_nof (.inl rfl) f2T_ok e2).2
    have e3 : fln 5 (V.2.2.1 27 n) = NOF := e3
    omega
  | some s =>
    have hms := hfy s rfl
    cases ea : S.ys s with
    | none => exact absurd ea hms
    | some A =>
      have ea1 : S1.ys s = some A := by rw [hys]; exact ea
      obtain ⟨c, g2, g3, g4, g5, g6⟩ := hI.sy ea
      have g3' : w_a S1.t 12 0 46 s = i_ c := (hx.1.2.1 s (hI.sl ea) 46 (by decide)).trans g3
      simp only [sno, i_nat' (show s < 2147483648 by omega), g3']
      have hin : kx_inb (i_ s) (w_n S1.t 12 0 46) = true := H1'.1.1.2.1.sy (k := 46) rfl g6
      refine PS_rn (i_nn (by omega)) ?_
      refine PS_rand hin ?_
      have hcc : (i_ c = (i_ Cx : Int32)) = (c = Cx) := i_c1 g2.2 Cx hW.2.1
      by_cases ec : c = Cx
      · refine PS_rp (by rw [ec]) ?_
        have ef : f2T S.t Cx (some s) (V.2.2.1 27 n) = NOF := by
          unfold f2T
          simp only [g3]
          rw [if_pos (by rw [ec])]
        have ev : f2v S.t Cx (some s) = some s := by
          unfold f2v
          simp only [Option.bind_some, g3]
          rw [if_pos (by rw [ec])]
        rw [ef] at H1'
        have h16A : w_p S1.w 14 p 16 = some A := by
          rw [h16', ev]
          exact ea
        refine PS_ret (fin S1 _ H1' hn (.inl ⟨s, A, ea1, h16A, h31', by rw [g3', ec]⟩) (fun e => ⟨fun q hq => hG (min_nof (FTK.min (.inl rfl) (.inl rfl)) hT1 e).2 q hq, s, c, hmr s rfl, ⟨A, ea1, ?_, h31'⟩, g3', ec⟩))
        rw [h16', ev]
        exact ea
      · refine PS_rn (fun z => ec (by rw [← hcc]; exact z)) ?_
        have e27 : w_a S1.t 12 0 27 n = V.2.2.1 27 n := H1'.1.1.2.2 n htm 27 rfl
        simp only [i_nat' (show n < 2147483648 by omega), e27]
        refine PS_rand (H1'.1.1.2.1.i rfl hm) ?_
        have h6 : FTK (fln 6 (V.2.2.1 27 n)) := .inr ⟨6, _, ⟨by decide, by decide⟩, rfl⟩
        have ef : f2T S.t Cx (some s) (V.2.2.1 27 n) = fln 6 (V.2.2.1 27 n) := by
          unfold f2T
          simp only [g3]
          rw [if_neg (fun z => ec (by rw [← hcc]; exact z))]
        refine PS_r0 (fun Q hq => t_tells (k := 6) (by omega) H1'.1.2.2.2.2.2.2.1.2 ⟨by decide, by decide⟩ hq) ?_
        have H2 := H1'.ttu h6
        have e5 : min (min (min NOF (fT (some s) (V.2.2.1 27 n))) T1) (fln 6 (V.2.2.1 27 n)) = min (min NOF (f2T S.t Cx (some s) (V.2.2.1 27 n))) T1 := by
          rw [ef]
          have : fT (some s) (V.2.2.1 27 n) = NOF := rfl
          omega
        rw [e5] at H2
        have ev : f2v S.t Cx (some s) = none := by
          unfold f2v
          simp only [Option.bind_some, g3]
          rw [if_neg (fun z => ec (by rw [← hcc]; exact z))]
        have h16N : w_p S1.w 14 p 16 = none := by
          rw [h16', ev]
          rfl
        refine PS_ret (fin (S1.wt S1.w (tu S1.t (fln 6 (V.2.2.1 27 n)))) _ H2 hn (.inr ⟨h16N, .inr ⟨s, A, c, ea1, ?_, ?_, ec, g2.2⟩⟩) (fun e => ?_))
        · show w_a (tu S1.t _) 12 0 31 n = _
          rw [tu_a]
          exact h31'
        · show w_a (tu S1.t _) 12 0 46 s = _
          rw [tu_a]
          exact g3'
        have := (fln_m (k := 6) (l := V.2.2.1 27 n) ⟨by decide, by decide⟩).2.2
        have e2 := (min_nof (FTK.min (.inl rfl) f2T_ok) hT1 e).1
        have e3 := (min_nof (.inl rfl) f2T_ok e2).2
        rw [ef] at e3
        omega
theorem n_place (hs : STR D V nu tn rt) (IH : NCE D V nu tn rt E' f) (hI : IVN D V nu tn rt S) (hC : CHx V tn nu k0 ol n p d) (h26 : V.2.2.1 26 n = i_ (60 : Nat)) (hK : KX V nu (f + 1) 60 p) (hv : VOK V nu rt S p) (hk : KRE S kr) (hW : wcC W Cx) (hL : 75 * k0 + 270 ≤ L) (hL' : 75 * k0 + 300 ≤ L') :
    PS (fun Q => zw D.1 L kt_M138 [.ref (w_adr D.1.2.1 5 0), va_rf (some p), va_rf (some (D.1.1.1 W))] S.w Q) (fun Q => zw E' L' kt_M472 [.ref (w_adr E'.2.1 12 0), .int (i_ n), .int (i_ Cx)] S.t Q) (NPO D V nu tn rt p S (NDC S) (fun S' => NE V nu S' kr (f + 1) (fun c => c = Cx) p)) := PS_mono (n_placeA hs IH hI hC h26 hK hv hk hW hL hL') (fun r w r' t h => h.imp (fun _ h => h.1) (fun _ h => h))
/-- places in a row -/
theorem n_places {A : (kx_Rs → wS → Prop) → wS → Prop} {X : (kx_Rs → wS → Prop) → String → wS → Prop} {gtl : Int32 → wS → pQ} {l : List (Nat × Nat × Nat)} (IH : NCE D V nu tn rt E' f) (hs : STR D V nu tn rt) (H : HM D V nu tn rt p J cr S0 S T T) (hk : KRE S kr) {y : Nat} (hy : y ∈ S.vs ∧ y ∉ S0.vs) (hty : ¬ S.tl y j) (hj7 : 3 ≤ j ∧ j ≤ 7) (hJ : ∀ i ∈ J, i ∈ J') (hJ' : y = p → j ∈ J') (hl : LPx V tn nu k0 ol l (V.2.1 y j) x none (-1)) (hX : ∀ z ∈ l, KX V nu (f + 1) 60 z.2.1 ∧ V.2.2.1 26 z.1 = i_ (60 : Nat)) (hL : 75 * k0 + 292 ≤ Lx) (hL' : 75 * k0 + 300 ≤ Lt)
    (hgt : ∀ (nq : Nat) (t : wS) (gc : pQ) (Φ : kx_Rs → wS → kx_Rs → wS → Prop), nq < 14000 → PS gc (fun Q => zw E' Lt kt_M472 [.ref (w_adr E'.2.1 12 0), .int (i_ nq), .int 1] t (wk0 (fun t1 => wle t t1 → (kx_inb (i_ nq) (w_n t1 12 0 32) = true ∧ gtl (w_a t1 12 0 32 nq) t1 Q)) (fun e w => Q (.inr e) w))) Φ → PS gc (gtl (i_ nq) t) Φ)
    (kk : ∀ (S1 : nS) (T1 : Int), HM D V nu tn rt p J' cr S0 S1 T1 T1 → NDC S S1 → NX nu S S1 → (∀ b ∈ S.vs, SMN nu S S1 b) → (T1 = NOF → T = NOF ∧ ∀ z ∈ l, NE V nu S1 kr (f + 1) (fun c => c = 1) z.2.1) → PS (fun Q => A Q S1.w) (gtl (-1) S1.t) Φ) :
    PS (fun Q => zw D.1 Lx kt_M139 [.ref (w_adr D.1.2.1 5 0), va_rf (V.2.1 y j)] S.w (wk0 (fun w1 => wle S.w w1 → A Q w1) (X Q))) (gtl x S.t) Φ := by
  refine PS_l (gc' := fun Q => zL_X6_elements_p2 D.1 Lx (wk0 (fun w1 => wle S.w w1 → A Q w1) (X Q)) (V.2.1 y j) S.w) (fun Q h => ?_) ?_
  · have h2 : zb_X6_elements_p0 D.1 Lx (wk0 (fun w1 => wle S.w w1 → A Q w1) (X Q)) (V.2.1 y j) S.w := h
    clear hl
    generalize V.2.1 y j = a at h2 ⊢
    cases a <;> exact zt_X6_elements_p0 (by omega) h2
  refine n_list (J' := J') (Kp := fun S => KRE S kr) (G := fun q S' => NE V nu S' kr (f + 1) (fun c => c = 1) q) (P := fun z => KX V nu (f + 1) 60 z.2.1 ∧ V.2.2.1 26 z.1 = i_ (60 : Nat)) (gcl := fun x w Q => zL_X6_elements_p2 D.1 Lx (wk0 (fun w1 => wle S.w w1 → A Q w1) (X Q)) x w) (gtl := gtl) (R := NDC) (fun _ => NDC.rf) (fun _ _ _ => NDC.tr) (fun _ _ h hk => hk.nd h) (fun _ _ _ _ h => h) hs (fun S2 T2 y2 j2 q n d H2 hk2 I2 V2 hC hX2 kc => ?_) (fun q S S' hI h hx => h.nx hI hx) (H.wk hJ) hk hy hty hj7 hJ' hl hX (fun S' T' H' hk' hx hnd hsm hG => ?_)
  · have hn := hC.n14 hs
    refine PS_l (fun Q h => zt_X6_elements_p2 (by omega) h) ?_
    simp only [zb_X6_elements_p2]
    refine PS_ln (by simp) (hgt n _ _ _ hn ?_)
    have hch := n_place (W := 54) (Cx := 1) hs IH I2 hC hX2.2 hX2.1 V2 hk2 wc_1 (L := Lx - 22) (L' := Lt) (by omega) hL'
    refine PS_bind (gc1 := fun Q => zw D.1 (Lx - 22) kt_M138 [.ref (w_adr D.1.2.1 5 0), va_rf (some q), va_rf (some (D.1.1.1 54))] S2.w Q) (gt1 := fun Q => zw E' Lt kt_M472 [.ref (w_adr E'.2.1 12 0), .int (i_ n), .int 1] S2.t Q) hch (fun r1 w2 r2 t2 hb => ?_)
    have hb2 := hb
    obtain ⟨S', T1, ⟨e1, e2, e3, e4⟩, hI', -⟩ := hb
    subst e1 e2 e3 e4
    obtain ⟨m, c, r, hP, htn, hnu, -⟩ := hC
    have hw := hI'.nw hnu
    have ht := hI'.1.2.2 n (htn n hP.mem) 32 rfl
    refine PS_l (fun Q a => fun _ => a) (PS_r (fun Q a => fun _ => a) (PS_lex q rfl (PS_land hw.1 (PS_rand (hI'.1.2.1.i rfl hn) ?_))))
    rw [hw.2.1 7 (by decide), ht]
    exact kc _ _ _ _ hb2
  · refine PS_l (fun Q h => zt_X6_elements_p2 (by omega) h) ?_
    simp only [zb_X6_elements_p2]
    exact PS_lp trivial (PS_l (fun Q a => fun _ => a) (kk S' T' H' hnd hx hsm hG))
/-- what a parameter may be: a channel, too, if there are no brackets -/
def Ca (V : pV) (p c : Nat) : Prop := Cv c ∨ (c = 3 ∧ V.1 p 12 = 0)
theorem NE.c (h : NE V nu S kr f C p) (hc : ∀ c, C c → C' c) : NE V nu S kr f C' p := by
  cases f with
  | zero => exact h
  | succ f =>
    obtain ⟨h0, n, r, d, kd, h1, h2, h3, h4, h5, h6⟩ := h
    exact ⟨h0, n, r, d, kd, h1, h2, h3, h4, fun e => (h5 e).c hc, h6⟩
end NPL
