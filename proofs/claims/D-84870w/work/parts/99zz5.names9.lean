/-! ===== ROUNDS, part 11: expressions in both programs ===== -/
section NEM
variable {D : pD} {V : pV} {nu : pN} {tn : Nat → Prop} {rt p q n nq m r d dq j k s A cr f b b' k0 kd : Nat} {J J' : List Nat} {S0 S S' : nS} {T T' T1 Tc : Int} {v rr : Option Nat} {x x' : Int32} {kr : List Nat} {C C' : Nat → Prop} {E' : zE} {L L' Lc Lx Lt : Nat} {Φ : kx_Rs → wS → kx_Rs → wS → Prop} {ol : Option Int32} {ar : Bool}
theorem KX.at (h : KX V nu (f + 1) k p) (hnu : nu p = some (n, r, d)) (hn : n < 14000) : ∃ kd : Nat, V.2.2.1 26 n = i_ kd ∧ cok k kd ∧ ∀ j, (3 ≤ j ∧ j ≤ 6) → ¬ (j = 5 ∧ (kd = 30 ∨ kd = 31 ∨ kd = 34 ∨ kd = 42)) → ujk (V.1 p 10) (V.1 p 11) kd j → ∀ i q, (i = 0 ∨ isl (V.1 p 10) kd j) → nxi V i (V.2.1 p j) = some q → KX V nu f (ccl (V.1 p 10) (V.1 p 11) kd j) q := by
  obtain ⟨n', r', d', kd, h1, h2, h3, h4, -, h6⟩ := h
  rw [hnu] at h1
  cases h1
  exact ⟨kd, h3, h4, h6⟩
theorem KX.i13 (h : KX V nu (f + 1) 13 p) {q : Nat} (hq : V.2.1 p 3 = some q) : V.2.1 q 7 = none := by
  obtain ⟨n', r', d', kd, h1, h2, h3, h4, h5, -⟩ := h
  exact h5.1 (by unfold cok at h4; omega) q hq
theorem KX.xe (h : KX V nu (f + 1) k p) (hk : k < 1000) (hnu : nu p = some (n, r, d)) (h26 : V.2.2.1 26 n = i_ kd) (hkd : kd < 1000) : kxe V p kd := by
  obtain ⟨n', r', d', kd', h1, h2, h3, h4, h5, -⟩ := h
  rw [hnu] at h1
  cases h1
  have hb : kd' < 1000 := by unfold cok at h4; omega
  have e := (i_eq (by omega) (by omega)).mp (h3.symm.trans h26)
  have e : kd' = kd := by omega
  rw [← e]
  exact h5
/-- no brackets but around expressions -/
theorem KX.nb (h : KX V nu (f + 1) k p) (hk : k ≠ 0 ∧ k < 50) (hC : CHx V tn nu k0 ol n p d) : ∃ r kd : Nat, nu p = some (n, r, d) ∧ n < 14000 ∧ r < k0 ∧ V.2.2.1 26 n = i_ kd ∧ cok k kd := by
  obtain ⟨m, c, r, hP, -, hnu, ⟨hr, hm⟩, hbr, -⟩ := hC
  obtain ⟨n', r', d', kd, h1, h2, h3, h4, h5, -⟩ := h
  rw [hnu] at h1
  cases h1
  have h12 : V.1 p 12 = 0 := h5.2.1 (by unfold cok at h4; omega)
  cases c with
  | nil =>
    have e : n = m := hP
    subst e
    exact ⟨r, kd, hnu, hm, by rw [List.length_nil] at hr; omega, h3, h4⟩
  | cons y c =>
    rw [h12] at hbr
    exact absurd hbr (by show ¬ ((0 : Int32) = bI true); decide)
theorem STR.lf (hs : STR D V nu tn rt) (hnu : nu p = some (n, r, d)) (hn : n < 14000) (h26 : V.2.2.1 26 n = i_ kd) (hkd : kd < 1000) : tn n ∧ V.1 p 2 = V.2.2.1 27 n ∧ LFk D V tn tn nu r d p n kd := by
  rcases hs.2.1 p n r d hnu with e | ⟨h1, h2, h3, kd2, h4, h5, h6⟩
  · omega
  · rw [h26] at h4
    have := (i_eq (by omega) (by omega)).mp h4
    have e : kd2 = kd := by omega
    subst e
    exact ⟨h1, h3, h6⟩
theorem NDC.fi {S1 : nS} (h : NDC S S1) : NDC S (S1.fi p) := h
theorem NDC.at0 {S1 : nS} (h : NDC (S.at p) S1) : NDC S S1 := h
/-- what is told of an expression's node at its end -/
theorem i_kd {x : Int32} {a b : Nat} (ha : x = i_ a) (hb : x = i_ b) (h : a < 1000000 ∧ b < 1000000) : a = b := by
  have := (i_eq (by omega) (by omega)).mp (ha.symm.trans hb)
  omega
theorem NE.mk {S1 : nS} (hI : IVN D V nu tn rt S1) (hnu : nu p = some (n, r, d)) (hn : n < 14000) (h26 : V.2.2.1 26 n = i_ kd) (hc : ∀ j, chl kd j → ∀ i q, (i = 0 ∨ isl (V.1 p 10) kd j) → nxi V i (V.2.1 p j) = some q → NE V nu S1 kr f Cv q) (h60 : kd = 60 → USE S1 kr p n C) (h61 : kd = 61 → USE S1 kr p n (fun c => c = 8)) (hkd : kd < 1000 := by omega) : NE V nu (S1.fi p) kr (f + 1) C p := by
  have hx : NX nu S1 (S1.fi p) := ⟨SMS.rf, fun b hb => ⟨.inl hb, SMN.rf⟩, fun _ _ h => h⟩
  exact ⟨.inr rfl, n, r, d, kd, hnu, ⟨hn, hkd⟩, h26, fun j hj i q hi hq => (hc j hj i q hi hq).nx hI hx, h60, h61⟩
theorem ccl50 {nb fl : Int32} (h : 50 ≤ kd) : ccl nb fl kd j = 0 := by
  unfold ccl
  rw [if_neg (by omega), if_neg (by omega), if_neg (by omega), if_neg (by omega), if_neg (by omega), if_neg (by omega), if_neg (by omega), if_neg (by omega), if_neg (by omega), if_neg (by omega), if_neg (by omega), if_neg (by omega), if_neg (by omega), if_neg (by omega), if_neg (by omega), if_neg (by omega), if_neg (by omega)]
theorem isl50 {nb : Int32} (h : 50 ≤ kd) : isl nb kd j ↔ ((j = 4 ∧ kd = 61) ∨ (j = 3 ∧ (kd = 59 ∨ kd = 64))) := by
  unfold isl
  omega
theorem n_exp (hs : STR D V nu tn rt) (IH : NCE D V nu tn rt E' f) : NCE D V nu tn rt E' (f + 1) := by
  intro S kr p n d k0 ol L L' x2 hx2 hI hC hK hv hk hL hL'
  obtain ⟨m, c, r, hP, htn, hnu, ⟨hr, hm⟩, hbr, hol⟩ := hC
  obtain ⟨kd, h26, hcl, hch⟩ := hK.at hnu hm
  have hcl' : 50 ≤ kd ∧ kd ≤ 64 := by unfold cok at hcl; omega
  obtain ⟨htm, hl2, hF⟩ := hs.lf hnu hm h26 (by omega)
  have hX : ∀ j, chl kd j → ∀ i q, (i = 0 ∨ isl (V.1 p 10) kd j) → nxi V i (V.2.1 p j) = some q → KX V nu f 0 q := fun j hj i q hi hq => by
    have h := hch j (by unfold chl at hj; omega) (by omega) (ujk.e hj (by omega)) i q hi hq
    rw [ccl50 hcl'.1] at h
    exact h
  refine n_par (c := c) (n := n) (m := m) hI.1.2 (fun _ _ _ _ h => h.rr.2) hP (fun x hx => ⟨htn x hx, hs.2.2.1 x (htn x hx)⟩) (by omega) (fun L2 x3 hL2 hx3 => ?_)
  have hx4 : x3 = 0 ∨ V.2.2.1 26 m ≠ i_ 60 := by
    rcases hx3 with e | ⟨e, e2⟩
    · exact .inl e
    · rw [e, ← e2]
      exact hx2
  have H := HM.start hI hv
  have hw := hI.nw hnu
  have ht := hI.1.2.2 m htm
  have hT := hI.1.2.1
  have hkA : KRE (S.at p) kr := hk
  refine PS_of (fun Q h => zt_X6_expression_p0 (by omega) h) (fun Q h => zt_X13_nameE_p0 (by omega) h) ?_
  simp only [zb_X6_expression_p0, zb_X6_expression_p165, zb_X13_nameE_p0, i_nat' (show m < 2147483648 by omega), ht 26 rfl, ht 28 rfl, ht 30 rfl, ht 27 rfl, h26, hw.2.1 3 (by decide), hw.2.1 4 (by decide), hw.2.2 9 (by decide), (hw.2.2 2 (by decide)).trans hl2]
  refine PS_lex p rfl (PS_land hw.1 ?_)
  simp only [hw.2.1 3 (by decide), hw.2.1 4 (by decide), hw.2.2 9 (by decide), (hw.2.2 2 (by decide)).trans hl2]
  -- nothing below
  have leaf : ∀ (S1 : nS) (J : List Nat) (T : Int), HM D V nu tn rt p J 5 S S1 T T → 7 ∉ J → NDC S S1 → (T = NOF → (∀ j, chl kd j → ∀ i q, (i = 0 ∨ isl (V.1 p 10) kd j) → nxi V i (V.2.1 p j) = some q → NE V nu S1 kr f Cv q) ∧ (kd = 60 → USE S1 kr p m Cv) ∧ (kd = 61 → USE S1 kr p m (fun c => c = 8))) → PS (fun Q => Q (.inl none) S1.w) (fun Q => Q (.inl none) S1.t) (NPO D V nu tn rt p S (NDC S) (fun S' => NE V nu S' kr (f + 1) Cv p)) := fun S1 J T H1 h7 hn hG => PS_ret (H1.en h7 (congrArg Prod.fst hn.2.2.2) hn (fun e => NE.mk H1.1 hnu hm h26 (hG e).1 (hG e).2.1 (hG e).2.2))
  have hkds : (50 ≤ kd ∧ kd ≤ 56) ∨ kd = 57 ∨ kd = 59 ∨ kd = 60 ∨ kd = 61 ∨ kd = 62 ∨ kd = 63 ∨ kd = 64 ∨ kd = 58 := by omega
  rcases hkds with e | e | e | e | e | e | e | e | e
  · have key : ∃ i, i < 69 ∧ V.2.1 p 0 = some (D.1.1.1 i) ∧ (kw_en.getD i ("", "", "", 0)).1 = "MeetingHouse$Kind" ∧ ¬ kw_on i = 37 ∧ ¬ kw_on i = 38 ∧ ¬ kw_on i = 39 ∧ ¬ kw_on i = 40 ∧ ¬ kw_on i = 41 ∧ ¬ kw_on i = 42 ∧ ¬ kw_on i = 43 := by
      have : kd = 50 ∨ kd = 51 ∨ kd = 52 ∨ kd = 53 ∨ kd = 54 ∨ kd = 55 ∨ kd = 56 := by omega
      rcases this with e | e | e | e | e | e | e <;> subst e
      · exact ⟨15, by decide, hF.2.1, rfl, by decide, by decide, by decide, by decide, by decide, by decide, by decide⟩
      · exact ⟨17, by decide, hF.2.1, rfl, by decide, by decide, by decide, by decide, by decide, by decide, by decide⟩
      · exact ⟨16, by decide, hF.2.1, rfl, by decide, by decide, by decide, by decide, by decide, by decide, by decide⟩
      · exact ⟨20, by decide, hF.2.1, rfl, by decide, by decide, by decide, by decide, by decide, by decide, by decide⟩
      · exact ⟨20, by decide, hF.2.1, rfl, by decide, by decide, by decide, by decide, by decide, by decide, by decide⟩
      · exact ⟨15, by decide, hF.2.1, rfl, by decide, by decide, by decide, by decide, by decide, by decide, by decide⟩
      · exact ⟨15, by decide, hF.2.1, rfl, by decide, by decide, by decide, by decide, by decide, by decide, by decide⟩
    obtain ⟨i, hi, hk0, hc0, g1, g2, g3, g4, g5, g6, g7⟩ := key
    refine PS_lex i (zO_k hs.1.1 hi ((hw.2.1 0 (by decide)).trans hk0) hc0) ?_
    refine PS_ln g1 (PS_ln g2 (PS_ln g3 (PS_ln g4 (PS_ln g5 (PS_ln g6 (PS_ln g7 ?_))))))
    have hne : ∀ x : Nat, 57 ≤ x → x ≤ 64 → ¬ (i_ kd : Int32) = i_ x := fun x h1 h2 z => by
      have := (i_eq (by omega) (by omega)).mp z
      omega
    refine PS_rand (hT.i rfl hm) (PS_rn (hne 57 (by decide) (by decide)) (PS_rn (hne 58 (by decide) (by decide)) (PS_rn (hne 59 (by decide) (by decide)) (PS_rn (hne 60 (by decide) (by decide)) (PS_rn (hne 61 (by decide) (by decide)) (PS_rn (hne 62 (by decide) (by decide)) (PS_rn (hne 63 (by decide) (by decide)) (PS_rn (hne 64 (by decide) (by decide)) ?_))))))))
    exact leaf (S.at p) [] NOF H List.not_mem_nil NDC.rf (fun _ => ⟨fun j hj => by unfold chl at hj; omega, fun e => by omega, fun e => by omega⟩)
  · subst e
    obtain ⟨-, hk0, -, q, nq, hq, h28, hC⟩ := hF
    refine PS_lex 21 (zO_k hs.1.1 (by decide) ((hw.2.1 0 (by decide)).trans hk0) rfl) ?_
    simp only [hq, h28]
    refine PS_lp (by decide) (PS_rand (hT.i rfl hm) (PS_rp (by decide) (PS_rand (hT.i rfl hm) ?_)))
    refine n_ch (S := S.at p) (Lx := L - 21) (Lt := L2 - 24) IH hs H hkA List.not_mem_nil ⟨by decide, by decide⟩ hq hC (hX 3 (.inl ⟨rfl, by decide⟩) 0 q (.inl rfl) hq) (by omega) (by omega) (fun S1 T1 H1 hT1 hn hx hsm hG => ?_)
    refine leaf S1 [3] _ H1 (by decide) hn (fun e => ⟨fun j hj i q' hi hq' => ?_, fun e => by omega, fun e => by omega⟩)
    have hj3 : j = 3 := by unfold chl at hj; omega
    subst hj3
    have hi0 : i = 0 := by rw [isl50 (by decide)] at hi; omega
    subst hi0
    have e2 : some q = some q' := hq.symm.trans hq'
    cases e2
    exact hG (min_nof (.inl rfl) hT1 e).2
  · subst e
    obtain ⟨-, hk0, ⟨l, hl, -, -⟩⟩ := hF
    refine PS_lex 22 (zO_k hs.1.1 (by decide) ((hw.2.1 0 (by decide)).trans hk0) rfl) ?_
    refine PS_ln (by decide) (PS_lp (by decide) (PS_rand (hT.i rfl hm) (PS_rn (by decide) (PS_rn (by decide) (PS_rp (by decide) (PS_rand (hT.i rfl hm) ?_))))))
    refine n_exs (Lx := L - 22) (J := []) (J' := [3]) (l := l) (y := p) (j := 3) (gtl := fun x t Q => zL_X13_nameE_p94 E' L2 Q x t) IH hs H hkA ⟨H.2.2.1.1, H.2.2.1.2.1⟩ (fun e => absurd (H.2.2.1.2.2.2 3 e) List.not_mem_nil) ⟨by decide, by decide⟩ (fun i hi => absurd hi List.not_mem_nil) (fun _ => List.mem_cons_self) hl (fun z hz => ?_) (by omega) (Lt := L2 - 24) (by omega) (fun nq t gc Φ hnq h => ?_) (fun S1 T1 H1 hn hx hsm hG => ?_)
    · obtain ⟨i, hi⟩ := hl.nx2 z hz
      exact hX 3 (.inl ⟨rfl, by decide⟩) i z.2.1 (.inr ((isl50 (by decide)).mpr (by decide))) hi
    · refine PS_r (fun Q h => zt_X13_nameE_p94 (by omega) h) ?_
      simp only [zb_X13_nameE_p94, i_nat' (show nq < 2147483648 by omega)]
      exact PS_rn (i_nn (by omega)) h
    · refine PS_r (fun Q h => zt_X13_nameE_p94 (by omega) h) ?_
      simp only [zb_X13_nameE_p94]
      refine PS_rp (by decide) ?_
      refine leaf S1 [3] _ H1 (by decide) hn (fun e => ⟨fun j hj i q' hi hq' => ?_, fun e => by omega, fun e => by omega⟩)
      have hj3 : j = 3 := by unfold chl at hj; omega
      subst hj3
      obtain ⟨z, hz, e2⟩ := hl.nx1 hq'
      rw [← e2]
      exact (hG e).2 z hz
  · subst e
    obtain ⟨-, hk0, hnm, hEO⟩ := hF
    have hx0 : x3 = 0 := hx4.resolve_right (fun z => z h26)
    subst hx0
    refine PS_lex 18 (zO_k hs.1.1 (by decide) ((hw.2.1 0 (by decide)).trans hk0) rfl) ?_
    refine PS_ln (by decide) (PS_ln (by decide) (PS_lp (by decide) (PS_rand (hT.i rfl hm) (PS_rn (by decide) (PS_rn (by decide) (PS_rn (by decide) (PS_rp (by decide) ?_)))))))
    have hfy := fnd_ys (t := S.t) hI hk (y := V.2.2.1 30 m)
    refine n_el (Lx := L - 21) (Lt := L2 - 21) (S := S.at p) (Lc := L - 23) (kr := kr) (Tc := fT (fnd S.t kr (V.2.2.1 30 m)) (V.2.2.1 27 m)) (KC := fun Q w => zb_X6_expression_p120 D.1 L Q (some p) w) IH hs H hkA hnu htm hm hEO (fun q hq => hX 3 (.inl ⟨rfl, by decide⟩) 0 q (.inl rfl) hq) (by omega) (by omega) fT_ok (fun Q hq => hI.cf (L := L - 23) hs hk hnm (by omega) hq) (fun S1 T1 H1 hT1 hn hx h16 h31 hG => ?_)
    have H1 : HM D V nu tn rt p [3] 5 S S1 (min (min NOF (fT (fnd S.t kr (V.2.2.1 30 m)) (V.2.2.1 27 m))) T1) (min (min NOF (fT (fnd S.t kr (V.2.2.1 30 m)) (V.2.2.1 27 m))) T1) := H1
    have h31 : w_a S1.t 12 0 31 m = sno (fnd S.t kr (V.2.2.1 30 m)) := h31
    have hrr : ∀ s, fnd S.t kr (V.2.2.1 30 m) = some s → S1.ys s ≠ none := fun s es => by
      have e : S1.ys = S.ys := congrArg Prod.fst hn.2.1
      rw [e]
      exact hfy s es
    have hw1 := H1.1.nw hnu
    have hl1 : w_i S1.w 14 p 2 = V.2.2.1 27 m := (hw1.2.2 2 (by decide)).trans hl2
    refine PS_r (fun Q a => fun _ => a) (PS_r (fun Q hq => t_kv (ar := false) (rr := fnd S.t kr (V.2.2.1 30 m)) H1.1 htm hm (by omega) hrr hq) ?_)
    have hys : S1.ys = S.ys := congrArg Prod.fst hn.2.1
    simp only [zb_X6_expression_p120, zb_X6_expression_p165]
    refine PS_lex p rfl (PS_land hw1.1 ?_)
    simp only [h16]
    cases er : fnd S.t kr (V.2.2.1 30 m) with
    | none =>
      rw [er] at H1
      refine PS_lp rfl ?_
      have e2 : kT (gd S1.t false none) (V.2.2.1 27 m) = NOF := rfl
      rw [e2, tu_nof H1.1.2.2.2.2.2.2.1.2]
      refine leaf S1 [3] _ H1 (by decide) hn (fun e => ?_)
      obtain ⟨s, es⟩ := fT_nof (min_nof (.inl rfl) fT_ok (min_nof (FTK.min (.inl rfl) fT_ok) hT1 e).1).2
      cases es
    | some s =>
      rw [er] at H1 h16 h31
      have hms := hfy s er
      cases ea : S.ys s with
      | none => exact absurd ea hms
      | some A =>
        have ea1 : S1.ys s = some A := by rw [hys]; exact ea
        have h16' : w_p S1.w 14 p 16 = some A := by rw [h16]; exact ea
        simp only [Option.bind_some]
        refine PS_ln hms ?_
        refine PS_l0 (fun Q hq => c_valued H1.1 hs.1.1 ea1 hw1.1 h16' (by omega) hq) ?_
        rw [hl1]
        cases eg : gd S1.t false (some s) with
        | true =>
          have e2 : kT true (V.2.2.1 27 m) = NOF := rfl
          rw [if_pos rfl, e2, tu_nof H1.1.2.2.2.2.2.2.1.2]
          refine leaf S1 [3] _ H1 (by decide) hn (fun e => ⟨fun j hj i q' hi hq' => ?_, fun _ => ?_, fun e => by omega⟩)
          · have hj3 : j = 3 := by unfold chl at hj; omega
            subst hj3
            have hi0 : i = 0 := by rw [isl50 (by decide)] at hi; omega
            subst hi0
            exact hG (min_nof (FTK.min (.inl rfl) fT_ok) hT1 e).2 q' hq'
          · obtain ⟨c, g2, g3, g4, g5, g6⟩ := H1.1.sy ea1
            refine ⟨s, c, (fnd_mem er).1, ⟨A, ea1, h16', h31⟩, g3, ?_⟩
            unfold gd at eg
            simp only [g3, show (1 : Int32) = i_ (1 : Nat) from rfl, show (2 : Int32) = i_ (2 : Nat) from rfl, show (9 : Int32) = i_ (9 : Nat) from rfl, i_c1 g2.2 1 (by decide), i_c1 g2.2 2 (by decide), i_c1 g2.2 9 (by decide), Bool.and_false, Bool.or_false, Bool.or_eq_true, decide_eq_true_eq] at eg
            exact eg
        | false =>
          have e2 : kT false (V.2.2.1 27 m) = fln 6 (V.2.2.1 27 m) := rfl
          have h6 : FTK (fln 6 (V.2.2.1 27 m)) := .inr ⟨6, _, ⟨by decide, by decide⟩, rfl⟩
          rw [if_neg (by decide), e2]
          refine leaf (((S1.wt (ru S1.w (fln 6 (V.2.2.1 27 m))) S1.t).wt (ws_p (ru S1.w (fln 6 (V.2.2.1 27 m))) 14 p 16 none) S1.t).wt (ws_p (ru S1.w (fln 6 (V.2.2.1 27 m))) 14 p 16 none) (tu S1.t (fln 6 (V.2.2.1 27 m)))) [3] _ (((H1.cru h6).p16 (v := none)).ttu h6) (by decide) hn (fun e => ?_)
          have := (min_nof (FTK.min (FTK.min (.inl rfl) fT_ok) hT1) h6 e).2
          have h7 := (fln_m (k := 6) (l := V.2.2.1 27 m) ⟨by decide, by decide⟩).2.2
          omega
  · subst e
    obtain ⟨-, hk0, hnm, l, hl, -⟩ := hF
    refine PS_lex 19 (zO_k hs.1.1 (by decide) ((hw.2.1 0 (by decide)).trans hk0) rfl) ?_
    refine PS_ln (by decide) (PS_ln (by decide) (PS_ln (by decide) (PS_lp (by decide) (PS_rand (hT.i rfl hm) (PS_rn (by decide) (PS_rn (by decide) (PS_rn (by decide) (PS_rn (by decide) (PS_rp (by decide) ?_)))))))))
    have hfy := fnd_ys (t := S.t) hI hk (y := V.2.2.1 30 m)
    have hmr : ∀ s, fnd S.t kr (V.2.2.1 30 m) = some s → s ∈ kr := fun s e => (fnd_mem e).1
    refine PS_lr (fun Q hq => hI.cf2 hs hk wc_8 hnm (by omega) hq) ?_
    refine PS_rand (hT.i rfl hm) (PS_rand (hT.i rfl hm) (PS_r1 (fun Q hq => hI.tf hs hk (by omega) hq) ?_))
    generalize fnd S.t kr (V.2.2.1 30 m) = rr at hfy hmr ⊢
    have H2 := (H.cru (f2T_ok (t := S.t) (C := 8) (rr := rr) (l := V.2.2.1 27 m))).ttu (fT_ok (r := rr) (l := V.2.2.1 27 m))
    have H4 := (H2.p16 (v := (f2v S.t 8 rr).bind S.ys)).ta (x := sno rr) hs.2.2.2.1 hnu hm (.inl rfl)
    have hT2 := H2.1.1.2.1
    refine PS_rand (hT2.i rfl hm) ?_
    -- behind the name
    have go : ∀ (S3 : nS) (T3 : Int), HM D V nu tn rt p [] 5 S S3 T3 T3 → NDC S S3 → (T3 = NOF → USE S3 kr p m (fun c => c = 8)) → PS (fun Q => zw D.1 (L - 22) kt_M141 [.ref (w_adr D.1.2.1 5 0), va_rf (V.2.1 p 4)] S3.w (wk0 (fun w13 => wle S3.w w13 → Q (.inl none) w13) (fun e w => Q (.inr e) w))) (fun Q => zb_X13_nameE_p166 E' L2 Q (i_ m) S3.t) (NPO D V nu tn rt p S (NDC S) (fun S' => NE V nu S' kr (f + 1) Cv p)) := by
      intro S3 T3 H3 hn3 hU
      simp only [zb_X13_nameE_p166, i_nat' (show m < 2147483648 by omega), H3.1.1.2.2 m htm 28 rfl]
      refine PS_rand (H3.1.1.2.1.i rfl hm) ?_
      refine n_exs (Lx := L - 22) (J := []) (J' := [4]) (l := l) (y := p) (j := 4) (gtl := fun x t Q => zL_X13_nameE_p174 E' L2 Q x t) IH hs H3 (hkA.nd hn3) ⟨H3.2.2.1.1, H3.2.2.1.2.1⟩ (fun e => absurd (H3.2.2.1.2.2.2 4 e) List.not_mem_nil) ⟨by decide, by decide⟩ (fun i hi => absurd hi List.not_mem_nil) (fun _ => List.mem_cons_self) hl (fun z hz => ?_) (by omega) (Lt := L2 - 24) (by omega) (fun nq t gc Φ hnq h => ?_) (fun S1 T1 H1 hn hx hsm hG => ?_)
      · obtain ⟨i, hi⟩ := hl.nx2 z hz
        exact hX 4 (.inr ⟨rfl, by decide⟩) i z.2.1 (.inr ((isl50 (by decide)).mpr (by decide))) hi
      · refine PS_r (fun Q h => zt_X13_nameE_p174 (by omega) h) ?_
        simp only [zb_X13_nameE_p174, i_nat' (show nq < 2147483648 by omega)]
        exact PS_rn (i_nn (by omega)) h
      · refine PS_r (fun Q h => zt_X13_nameE_p174 (by omega) h) ?_
        simp only [zb_X13_nameE_p174]
        refine PS_rp (by decide) ?_
        refine leaf S1 [4] _ H1 (by decide) (hn3.tr hn) (fun e => ⟨fun j hj i q' hi hq' => ?_, fun e => by omega, fun _ => ?_⟩)
        · have hj3 : j = 4 := by unfold chl at hj; omega
          subst hj3
          obtain ⟨z, hz, e2⟩ := hl.nx1 hq'
          rw [← e2]
          exact (hG e).2 z hz
        · obtain ⟨s, c, g1, ⟨A, g2, g3, g4⟩, g5, g6⟩ := hU (hG e).1
          have hsp := hsm p H3.2.2.1.1
          exact ⟨s, c, g1, ⟨A, (hx.1.1 s A g2).1, by rw [hsp.1.1]; exact g3, by rw [hsp.2 m r d hnu 31 (.inl rfl)]; exact g4⟩, by rw [hx.1.2.1 s (H3.1.sl g2) 46 (by decide)]; exact g5, g6⟩
    have e4 : w_p (ru S.w (f2T S.t 8 rr (V.2.2.1 27 m))) 14 p 4 = V.2.1 p 4 := (H2.1.nw hnu).2.1 4 (by decide)
    simp only [e4]
    have e31 : w_a (ws_a (tu S.t (fT rr (V.2.2.1 27 m))) 12 0 31 m (sno rr)) 12 0 31 m = sno rr := by rw [Raa, if_pos ⟨rfl, rfl, rfl, rfl⟩]
    have e16 : w_p (ws_p (ru S.w (f2T S.t 8 rr (V.2.2.1 27 m))) 14 p 16 ((f2v S.t 8 rr).bind S.ys)) 14 p 16 = (f2v S.t 8 rr).bind S.ys := by rw [Rpp, if_pos ⟨rfl, rfl, rfl⟩]
    obtain ⟨S4, hw4, ht4, hn4, hy4, H4⟩ : ∃ S4 : nS, S4.w = ws_p (ru S.w (f2T S.t 8 rr (V.2.2.1 27 m))) 14 p 16 ((f2v S.t 8 rr).bind S.ys) ∧ S4.t = ws_a (tu S.t (fT rr (V.2.2.1 27 m))) 12 0 31 m (sno rr) ∧ NDC S S4 ∧ S4.ys = S.ys ∧ HM D V nu tn rt p [] 5 S S4 (min NOF (f2T S.t 8 rr (V.2.2.1 27 m))) (min NOF (fT rr (V.2.2.1 27 m))) := ⟨(S.at p).wt (ws_p (ru S.w (f2T S.t 8 rr (V.2.2.1 27 m))) 14 p 16 ((f2v S.t 8 rr).bind S.ys)) (ws_a (tu S.t (fT rr (V.2.2.1 27 m))) 12 0 31 m (sno rr)), rfl, rfl, NDC.rf (S := S), rfl, H4⟩
    simp only [← hw4, ← ht4]
    rw [← ht4] at e31
    rw [← hw4] at e16
    cases rr with
    | none =>
      refine PS_rp (by decide) ?_
      refine go S4 _ H4 hn4 (fun e => ?_)
      have := (fln_m (k := 5) (l := V.2.2.1 27 m) ⟨by decide, by decide⟩).2.2
      have e9 : f2T S.t 8 none (V.2.2.1 27 m) = fln 5 (V.2.2.1 27 m) := rfl
      omega
    | some s =>
      have hms := hfy s rfl
      cases ea : S.ys s with
      | none => exact absurd ea hms
      | some A =>
        obtain ⟨c, g2, g3, g4, g5, g6⟩ := hI.sy ea
        have e46 : w_a S4.t 12 0 46 s = i_ c := by
          rw [ht4, Raa, if_neg (fun z => absurd z.1 (by decide)), tu_a]
          exact g3
        have e46' : w_a (tu S.t (fT (some s) (V.2.2.1 27 m))) 12 0 46 s = i_ c := by rw [tu_a]; exact g3
        simp only [sno, i_nat' (show s < 2147483648 by omega), e46']
        have hin : kx_inb (i_ s) (w_n (tu S.t (fT (some s) (V.2.2.1 27 m))) 12 0 46) = true := hT2.sy rfl g6
        refine PS_rn (i_nn (by omega)) (PS_rand hin ?_)
        have hc8 : (i_ c = (i_ (8 : Nat) : Int32)) = (c = 8) := i_c1 g2.2 8 (by decide)
        by_cases ec : c = 8
        · refine PS_rp (by rw [ec]; decide) ?_
          have ef : f2T S.t 8 (some s) (V.2.2.1 27 m) = NOF := by
            unfold f2T
            simp only [g3]
            rw [if_pos (by rw [ec])]
          have ev : f2v S.t 8 (some s) = some s := by
            unfold f2v
            simp only [Option.bind_some, g3]
            rw [if_pos (by rw [ec])]
          have e9 : min NOF (fT (some s) (V.2.2.1 27 m)) = min NOF (f2T S.t 8 (some s) (V.2.2.1 27 m)) := by
            rw [ef]
            rfl
          rw [e9] at H4
          refine go S4 _ H4 hn4 (fun _ => ⟨s, 8, hmr s rfl, ⟨A, by rw [hy4]; exact ea, ?_, e31⟩, by rw [e46, ec], rfl⟩)
          rw [e16, ev]
          exact ea
        · refine PS_rn (fun z => ec (by rw [← hc8]; exact z)) (PS_rand (hT2.i rfl hm) ?_)
          have e27 : w_a (tu S.t (fT (some s) (V.2.2.1 27 m))) 12 0 27 m = V.2.2.1 27 m := H2.1.1.2.2 m htm 27 rfl
          simp only [e27]
          have h6 : FTK (fln 6 (V.2.2.1 27 m)) := .inr ⟨6, _, ⟨by decide, by decide⟩, rfl⟩
          have ef : f2T S.t 8 (some s) (V.2.2.1 27 m) = fln 6 (V.2.2.1 27 m) := by
            unfold f2T
            simp only [g3]
            rw [if_neg (fun z => ec (by rw [← hc8]; exact z))]
          refine PS_r0 (fun Q hq => t_tells (k := 6) (by omega) H4.1.2.2.2.2.2.2.1.2 ⟨by decide, by decide⟩ hq) ?_
          have H5 := H4.ttu h6
          have e9 : min (min NOF (fT (some s) (V.2.2.1 27 m))) (fln 6 (V.2.2.1 27 m)) = min NOF (f2T S.t 8 (some s) (V.2.2.1 27 m)) := by
            rw [ef]
            rfl
          rw [e9] at H5
          refine go (S4.wt S4.w (tu S4.t (fln 6 (V.2.2.1 27 m)))) _ H5 hn4 (fun e => ?_)
          have := (fln_m (k := 6) (l := V.2.2.1 27 m) ⟨by decide, by decide⟩).2.2
          omega
  · subst e
    obtain ⟨-, hk0, -, q, nq, hq, h28, hC⟩ := hF
    refine PS_lex 14 (zO_k hs.1.1 (by decide) ((hw.2.1 0 (by decide)).trans hk0) rfl) ?_
    simp only [hq, h28]
    refine PS_ln (by decide) (PS_ln (by decide) (PS_ln (by decide) (PS_ln (by decide) (PS_lp (by decide) (PS_rand (hT.i rfl hm) (PS_rn (by decide) (PS_rn (by decide) (PS_rn (by decide) (PS_rn (by decide) (PS_rn (by decide) (PS_rp (by decide) (PS_rand (hT.i rfl hm) ?_))))))))))))
    refine n_ch (S := S.at p) (Lx := L - 21) (Lt := L2 - 24) IH hs H hkA List.not_mem_nil ⟨by decide, by decide⟩ hq hC (hX 3 (.inl ⟨rfl, by decide⟩) 0 q (.inl rfl) hq) (by omega) (by omega) (fun S1 T1 H1 hT1 hn hx hsm hG => ?_)
    refine leaf S1 [3] _ H1 (by decide) hn (fun e => ⟨fun j hj i q' hi hq' => ?_, fun e => by omega, fun e => by omega⟩)
    have hj3 : j = 3 := by unfold chl at hj; omega
    subst hj3
    have hi0 : i = 0 := by rw [isl50 (by decide)] at hi; omega
    subst hi0
    have e2 : some q = some q' := hq.symm.trans hq'
    cases e2
    exact hG (min_nof (.inl rfl) hT1 e).2
  · subst e
    obtain ⟨-, hk0, -, ⟨q, nq, hq, h28, hC⟩, q2, nq2, hq2, h30, hC2⟩ := hF
    refine PS_lex 24 (zO_k hs.1.1 (by decide) ((hw.2.1 0 (by decide)).trans hk0) rfl) ?_
    simp only [hq, h28]
    refine PS_ln (by decide) (PS_ln (by decide) (PS_ln (by decide) (PS_ln (by decide) (PS_ln (by decide) (PS_lp (by decide) (PS_rand (hT.i rfl hm) (PS_rn (by decide) (PS_rn (by decide) (PS_rn (by decide) (PS_rn (by decide) (PS_rn (by decide) (PS_rn (by decide) (PS_rp (by decide) (PS_rand (hT.i rfl hm) ?_))))))))))))))
    refine n_ch (S := S.at p) (Lx := L - 21) (Lt := L2 - 24) IH hs H hkA List.not_mem_nil ⟨by decide, by decide⟩ hq hC (hX 3 (.inl ⟨rfl, by decide⟩) 0 q (.inl rfl) hq) (by omega) (by omega) (fun S1 T1 H1 hT1 hn hx hsm hG => ?_)
    have hw1 := H1.1.nw hnu
    have ht1 := H1.1.1.2.2 m htm
    simp only [hw1.2.1 4 (by decide), ht1 30 rfl, hq2, h30]
    refine PS_rand (H1.1.1.2.1.i rfl hm) ?_
    refine n_ch (Lx := L - 21) (Lt := L2 - 24) IH hs H1 (hkA.nd hn) (by decide) ⟨by decide, by decide⟩ hq2 hC2 (hX 4 (.inr ⟨rfl, by decide⟩) 0 q2 (.inl rfl) hq2) (by omega) (by omega) (fun S2 T2 H2 hT2 hn2 hx2 hsm2 hG2 => ?_)
    refine leaf S2 [4, 3] _ H2 (by decide) (hn.tr hn2) (fun e => ⟨fun j hj i q' hi hq' => ?_, fun e => by omega, fun e => by omega⟩)
    have e3 := min_nof H1.2.2.2.2.1.1 hT2 e
    have hi0 : i = 0 := by rw [isl50 (by decide)] at hi; omega
    subst hi0
    have hj34 : j = 3 ∨ j = 4 := by unfold chl at hj; omega
    rcases hj34 with hj3 | hj3 <;> subst hj3
    · have e2 : some q = some q' := hq.symm.trans hq'
      cases e2
      exact (hG (min_nof (.inl rfl) hT1 e3.1).2).nx H1.1 hx2
    · have e2 : some q2 = some q' := hq2.symm.trans hq'
      cases e2
      exact hG2 e3.2
  · subst e
    obtain ⟨-, hk0, -, ⟨l, hl, -, -⟩⟩ := hF
    refine PS_lex 23 (zO_k hs.1.1 (by decide) ((hw.2.1 0 (by decide)).trans hk0) rfl) ?_
    refine PS_ln (by decide) (PS_ln (by decide) (PS_ln (by decide) (PS_ln (by decide) (PS_ln (by decide) (PS_ln (by decide) (PS_lp (by decide) (PS_rand (hT.i rfl hm) (PS_rn (by decide) (PS_rn (by decide) (PS_rn (by decide) (PS_rn (by decide) (PS_rn (by decide) (PS_rn (by decide) (PS_rn (by decide) (PS_rp (by decide) (PS_rand (hT.i rfl hm) ?_))))))))))))))))
    refine n_exs (Lx := L - 22) (J := []) (J' := [3]) (l := l) (y := p) (j := 3) (gtl := fun x t Q => zL_X13_nameE_p94 E' L2 Q x t) IH hs H hkA ⟨H.2.2.1.1, H.2.2.1.2.1⟩ (fun e => absurd (H.2.2.1.2.2.2 3 e) List.not_mem_nil) ⟨by decide, by decide⟩ (fun i hi => absurd hi List.not_mem_nil) (fun _ => List.mem_cons_self) hl (fun z hz => ?_) (by omega) (Lt := L2 - 24) (by omega) (fun nq t gc Φ hnq h => ?_) (fun S1 T1 H1 hn hx hsm hG => ?_)
    · obtain ⟨i, hi⟩ := hl.nx2 z hz
      exact hX 3 (.inl ⟨rfl, by decide⟩) i z.2.1 (.inr ((isl50 (by decide)).mpr (by decide))) hi
    · refine PS_r (fun Q h => zt_X13_nameE_p94 (by omega) h) ?_
      simp only [zb_X13_nameE_p94, i_nat' (show nq < 2147483648 by omega)]
      exact PS_rn (i_nn (by omega)) h
    · refine PS_r (fun Q h => zt_X13_nameE_p94 (by omega) h) ?_
      simp only [zb_X13_nameE_p94]
      refine PS_rp (by decide) ?_
      refine leaf S1 [3] _ H1 (by decide) hn (fun e => ⟨fun j hj i q' hi hq' => ?_, fun e => by omega, fun e => by omega⟩)
      have hj3 : j = 3 := by unfold chl at hj; omega
      subst hj3
      obtain ⟨z, hz, e2⟩ := hl.nx1 hq'
      rw [← e2]
      exact (hG e).2 z hz
  · subst e
    exact hF.elim
end NEM
