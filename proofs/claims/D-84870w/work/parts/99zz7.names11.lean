/-! ===== ROUNDS, part 13: parameters of calls ===== -/
section NAG
variable {D : pD} {V : pV} {nu : pN} {tn : Nat → Prop} {rt p q n nq m r d dq j k s A cr f b b' k0 kd W Cx y : Nat} {J J' : List Nat} {S0 S S' : nS} {T T' T1 Tc : Int} {v rr : Option Nat} {x x' : Int32} {kr : List Nat} {C C' : Nat → Prop} {E' : zE} {L L' Lc Lx Lt : Nat} {Φ : kx_Rs → wS → kx_Rs → wS → Prop} {ol : Option Int32} {ar : Bool}
/-- which constant an expression's kind is -/
theorem LFk.ki (h : LFk D V tn tn nu r d p n kd) (hk : 50 ≤ kd ∧ kd ≤ 64) : ∃ i, i < 69 ∧ V.2.1 p 0 = some (D.1.1.1 i) ∧ (i = 18 ↔ kd = 60) := by
  have : kd = 50 ∨ kd = 51 ∨ kd = 52 ∨ kd = 53 ∨ kd = 54 ∨ kd = 55 ∨ kd = 56 ∨ kd = 57 ∨ kd = 58 ∨ kd = 59 ∨ kd = 60 ∨ kd = 61 ∨ kd = 62 ∨ kd = 63 ∨ kd = 64 := by omega
  rcases this with e | e | e | e | e | e | e | e | e | e | e | e | e | e | e <;> subst e
  · exact ⟨15, by decide, h.2.1, by decide⟩
  · exact ⟨17, by decide, h.2.1, by decide⟩
  · exact ⟨16, by decide, h.2.1, by decide⟩
  · exact ⟨20, by decide, h.2.1, by decide⟩
  · exact ⟨20, by decide, h.2.1, by decide⟩
  · exact ⟨15, by decide, h.2.1, by decide⟩
  · exact ⟨15, by decide, h.2.1, by decide⟩
  · exact ⟨21, by decide, h.2.1, by decide⟩
  · exact h.elim
  · exact ⟨22, by decide, h.2.1, by decide⟩
  · exact ⟨18, by decide, h.2.1, by decide⟩
  · exact ⟨19, by decide, h.2.1, by decide⟩
  · exact ⟨14, by decide, h.2.1, by decide⟩
  · exact ⟨24, by decide, h.2.1, by decide⟩
  · exact ⟨23, by decide, h.2.1, by decide⟩
theorem n_arg (hs : STR D V nu tn rt) (IH : NCE D V nu tn rt E' f) (IH1 : NCE D V nu tn rt E' (f + 1)) (hI : IVN D V nu tn rt S) (hC : CHx V tn nu k0 ol n p d) (hK : KX V nu (f + 1) 0 p) (hv : VOK V nu rt S p) (hk : KRE S kr) (hL : 75 * k0 + 330 ≤ L) (hL' : 75 * k0 + 300 ≤ L') :
    PS (fun Q => zw D.1 L kt_M134 [.ref (w_adr D.1.2.1 5 0), va_rf (some p)] S.w Q) (fun Q => zw E' L' kt_M476 [.ref (w_adr E'.2.1 12 0), .int (i_ n), .int 1] S.t Q) (NPO D V nu tn rt p S (NDC S) (fun S' => NE V nu S' kr (f + 1) (Ca V p) p)) := by
  have hC' := hC
  obtain ⟨m, c, r, hP, htn, hnu, ⟨hr, hm⟩, hbr, hol⟩ := hC
  obtain ⟨kd, h26, hcl, hch⟩ := hK.at hnu hm
  have hcl' : 50 ≤ kd ∧ kd ≤ 64 := by unfold cok at hcl; omega
  obtain ⟨htm, hl2, hF⟩ := hs.lf hnu hm h26 (by omega)
  have hw := hI.nw hnu
  obtain ⟨i, hi, hi0, hi18⟩ := hF.ki hcl'
  have hz := hs.1.1
  have hw0 : w_p S.w 14 p 0 = some (D.1.1.1 i) := (hw.2.1 0 (by decide)).trans hi0
  refine PS_l (fun Q h => zt_X6_argument_p0 (by omega) h) ?_
  simp only [zb_X6_argument_p0, zb_X6_argument_p17, hw0, hw.2.2 12 (by decide), hbr]
  refine PS_lex p rfl (PS_land hw.1 ?_)
  simp only [hw0, hw.2.2 12 (by decide), hbr]
  -- as any expression
  have any : V.2.2.1 26 n ≠ i_ 60 → PS (fun Q => zw D.1 (L - 21) kt_M140 [.ref (w_adr D.1.2.1 5 0), va_rf (some p)] S.w (wk0 (fun w1 => wle S.w w1 → Q (.inl none) w1) (fun e w => Q (.inr e) w))) (fun Q => zw E' L' kt_M476 [.ref (w_adr E'.2.1 12 0), .int (i_ n), .int 1] S.t Q) (NPO D V nu tn rt p S (NDC S) (fun S' => NE V nu S' kr (f + 1) (Ca V p) p)) := fun h60 => by
    refine PS_lt (PS_mono (IH1 S kr p n d k0 ol (L - 21) L' 1 (.inr h60) hI hC' hK hv hk (by omega) hL') (fun r w r' t h => h.imp (fun _ h => h) (fun S' h => h.c (fun c h => .inl h)))) (fun _ _ _ _ h => h.rr.1)
  cases c with
  | cons y c =>
    have h58 : V.2.2.1 26 n = 58 := hP.2.1
    have a := any (by rw [h58]; decide)
    by_cases e18 : i = 18
    · refine PS_ln (not_not_intro (by rw [e18])) (PS_ln (by show ¬ (bI true = 0); decide) a)
    · exact PS_lp (eo_ne hz hi (by decide) e18) a
  | nil =>
    have en : n = m := hP
    subst en
    by_cases e60 : kd = 60
    · subst e60
      have e18 : i = 18 := hi18.mpr rfl
      subst e18
      refine PS_ln (not_not_intro rfl) (PS_lp (by decide) ?_)
      clear any
      obtain ⟨-, -, hnm, hEO⟩ := hF
      have hb12 : V.1 p 12 = 0 := hbr
      have hX : ∀ q, V.2.1 p 3 = some q → KX V nu f 0 q := fun q hq => by
        have h := hch 3 ⟨by decide, by decide⟩ (by omega) (ujk.e (.inl ⟨rfl, by decide⟩) (by decide)) 0 q (.inl rfl) hq
        rw [ccl50 (by decide)] at h
        exact h
      have H := HM.start hI hv
      have ht := hI.1.2.2 n htm
      have hT := hI.1.2.1
      refine PS_r (fun Q h => zt_X13_nameE_p0 (by omega) h) ?_
      simp only [zb_X13_nameE_p0, i_nat' (show n < 2147483648 by omega), ht 26 rfl, h26, hw.2.2 9 (by decide), (hw.2.2 2 (by decide)).trans hl2]
      refine PS_rand (hT.i rfl hm) (PS_rn (by decide) (PS_rn (by decide) (PS_rn (by decide) (PS_rp (by decide) ?_))))
      have hfy := fnd_ys (t := S.t) hI hk (y := V.2.2.1 30 n)
      refine n_el (S := S.at p) (Lc := L - 23) (kr := kr) (Tc := fT (fnd S.t kr (V.2.2.1 30 n)) (V.2.2.1 27 n)) (KC := fun Q w => zb_X6_argument_p54 D.1 L Q (some p) w) IH hs H hk hnu htm hm hEO hX (by omega) (by omega) fT_ok (fun Q hq => hI.cf (L := L - 23) hs hk hnm (by omega) hq) (fun S1 T1 H1 hT1 hn hx h16 h31 hG => ?_)
      have hys : S1.ys = S.ys := congrArg Prod.fst hn.2.1
      have hmr : ∀ s, fnd S.t kr (V.2.2.1 30 n) = some s → s ∈ kr := fun s e => (fnd_mem e).1
      have hrr : ∀ s, fnd S.t kr (V.2.2.1 30 n) = some s → S1.ys s ≠ none := fun s es => by
        rw [hys]
        exact hfy s es
      have hw1 := H1.1.nw hnu
      have hl1 : w_i S1.w 14 p 2 = V.2.2.1 27 n := (hw1.2.2 2 (by decide)).trans hl2
      refine PS_r (fun Q a => fun _ => a) (PS_r (fun Q hq => t_kv (ar := true) (rr := fnd S.t kr (V.2.2.1 30 n)) H1.1 htm hm (by omega) hrr hq) ?_)
      simp only [zb_X6_argument_p54, zb_X6_argument_p79]
      refine PS_lex p rfl (PS_land hw1.1 ?_)
      have h16' : w_p S1.w 14 p 16 = (fnd S.t kr (V.2.2.1 30 n)).bind S.ys := h16
      have h31' : w_a S1.t 12 0 31 n = sno (fnd S.t kr (V.2.2.1 30 n)) := h31
      have H1' : HM D V nu tn rt p [3] 5 S S1 (min (min NOF (fT (fnd S.t kr (V.2.2.1 30 n)) (V.2.2.1 27 n))) T1) (min (min NOF (fT (fnd S.t kr (V.2.2.1 30 n)) (V.2.2.1 27 n))) T1) := H1
      clear H1 h16 h31
      simp only [h16']
      generalize fnd S.t kr (V.2.2.1 30 n) = rr at hfy hmr H1' h31' h16' ⊢
      have fin : ∀ (S2 : nS) (T : Int), HM D V nu tn rt p [3] 5 S S2 T T → NDC S S2 → (T = NOF → (∀ q, V.2.1 p 3 = some q → NE V nu S2 kr f Cv q) ∧ USE S2 kr p n (Ca V p)) → NPO D V nu tn rt p S (NDC S) (fun S' => NE V nu S' kr (f + 1) (Ca V p) p) (.inl none) S2.w (.inl none) S2.t := fun S2 T H2 hn2 hG2 => H2.en (by decide) (congrArg Prod.fst hn2.2.2.2) hn2 (fun e => NE.mk H2.1 hnu hm h26 (fun j hj i q hi hq => by
        have hj3 : j = 3 := by unfold chl at hj; omega
        subst hj3
        have hi0 : i = 0 := by rw [isl50 (by decide)] at hi; omega
        subst hi0
        exact (hG2 e).1 q hq) (fun _ => (hG2 e).2) (fun e => by omega))
      cases rr with
      | none =>
        refine PS_lp rfl ?_
        have e2 : kT (gd S1.t true none) (V.2.2.1 27 n) = NOF := rfl
        rw [e2, tu_nof H1'.1.2.2.2.2.2.2.1.2]
        refine PS_ret (fin S1 _ H1' hn (fun e => ?_))
        obtain ⟨s, es⟩ := fT_nof (min_nof (.inl rfl) fT_ok (min_nof (FTK.min (.inl rfl) fT_ok) hT1 e).1).2
        cases es
      | some s =>
        have hms := hfy s rfl
        cases ea : S.ys s with
        | none => exact absurd ea hms
        | some A =>
          have ea1 : S1.ys s = some A := by rw [hys]; exact ea
          have h16A : w_p S1.w 14 p 16 = some A := by rw [h16']; exact ea
          obtain ⟨c, g2, g3, g4, g5, g6⟩ := H1'.1.sy ea1
          simp only [Option.bind_some, ea]
          refine PS_ln (by simp) (PS_lex A rfl (PS_land g5 ?_))
          simp only [g4, eo_eq hz wc69 (show 53 < 69 by decide)]
          have use : Ca V p c → USE S1 kr p n (Ca V p) := fun hc => ⟨s, c, hmr s rfl, ⟨A, ea1, h16A, h31'⟩, g3, hc⟩
          have hG' : min (min NOF (fT (some s) (V.2.2.1 27 n))) T1 = NOF → ∀ q, V.2.1 p 3 = some q → NE V nu S1 kr f Cv q := fun e q hq => hG (min_nof (FTK.min (.inl rfl) fT_ok) hT1 e).2 q hq
          by_cases c3 : c = 3
          · refine PS_lp (by rw [c3]; rfl) ?_
            have eg : gd S1.t true (some s) = true := by
              unfold gd
              simp only [g3, c3]
              decide
            have e2 : kT true (V.2.2.1 27 n) = NOF := rfl
            rw [eg, e2, tu_nof H1'.1.2.2.2.2.2.2.1.2]
            exact PS_ret (fin S1 _ H1' hn (fun e => ⟨hG' e, use (.inr ⟨c3, hb12⟩)⟩))
          · refine PS_ln (fun z => c3 ((wc_3.2.2 c g2.1 g2.2).mp z)) ?_
            have eg3 : gd S1.t true (some s) = gd S1.t false (some s) := by
              unfold gd
              simp only [g3, show (3 : Int32) = i_ (3 : Nat) from rfl, i_c1 g2.2 3 (by decide)]
              simp [c3]
            rw [eg3]
            refine PS_l0 (fun Q hq => c_valued H1'.1 hz ea1 hw1.1 h16A (by omega) hq) ?_
            rw [hl1]
            cases eg : gd S1.t false (some s) with
            | true =>
              have e2 : kT true (V.2.2.1 27 n) = NOF := rfl
              rw [if_pos rfl, e2, tu_nof H1'.1.2.2.2.2.2.2.1.2]
              refine PS_ret (fin S1 _ H1' hn (fun e => ⟨hG' e, use (.inl ?_)⟩))
              unfold gd at eg
              simp only [g3, show (1 : Int32) = i_ (1 : Nat) from rfl, show (2 : Int32) = i_ (2 : Nat) from rfl, show (9 : Int32) = i_ (9 : Nat) from rfl, i_c1 g2.2 1 (by decide), i_c1 g2.2 2 (by decide), i_c1 g2.2 9 (by decide), Bool.and_false, Bool.or_false, Bool.or_eq_true, decide_eq_true_eq] at eg
              exact eg
            | false =>
              have e2 : kT false (V.2.2.1 27 n) = fln 6 (V.2.2.1 27 n) := rfl
              have h6 : FTK (fln 6 (V.2.2.1 27 n)) := .inr ⟨6, _, ⟨by decide, by decide⟩, rfl⟩
              rw [if_neg (by decide), e2]
              refine PS_ret (fin (((S1.wt (ru S1.w (fln 6 (V.2.2.1 27 n))) S1.t).wt (ws_p (ru S1.w (fln 6 (V.2.2.1 27 n))) 14 p 16 none) S1.t).wt (ws_p (ru S1.w (fln 6 (V.2.2.1 27 n))) 14 p 16 none) (tu S1.t (fln 6 (V.2.2.1 27 n)))) _ (((H1'.cru h6).p16 (v := none)).ttu h6) hn (fun e => ?_))
              have := (min_nof (FTK.min (FTK.min (.inl rfl) fT_ok) hT1) h6 e).2
              have h7 := (fln_m (k := 6) (l := V.2.2.1 27 n) ⟨by decide, by decide⟩).2.2
              omega
    · have a := any (fun z => e60 (by rw [h26] at z; have := (i_eq (by omega) (by omega)).mp z; omega))
      exact PS_lp (eo_ne hz hi (by decide) (fun z => e60 (hi18.mp z))) a
/-- all expressions -/
theorem n_EX (hs : STR D V nu tn rt) : ∀ f, NCE D V nu tn rt E' f
  | 0 => fun S kr p n d k0 ol L L' x2 hx2 hI hC hK => hK.elim
  | f + 1 => n_exp hs (n_EX hs f)
end NAG
