/-! ===== ROUNDS, part 35: guards ===== -/
section NGD
variable {D : pD} {V : pV} {nu : pN} {tn : Nat → Prop} {rt p q n n2 nq r d dq j k k0 f s u A c cr W Cx kd cl : Nat} {J J' : List Nat} {S S' S0 : nS} {w w2 w' t t' : wS} {v : Option Nat} {x x2 y y0 : Int32} {T T' : Int} {kr kr' ks : List Nat} {L L' L2 Lc Lx Ly Lt : Nat} {E' : zE} {gc gt : pQ} {Φ : kx_Rs → wS → kx_Rs → wS → Prop} {ol : Option Int32} {C : Nat → Prop} {Q : kx_Rs → wS → Prop}
/-- IN to places, as a guard -/
theorem n_in5 {K KT : (kx_Rs → wS → Prop) → kx_Rs → wS → Prop} {lb : List (Nat × Nat × Nat)} (hKT : ∀ Q e w, KT Q (.inr e) w = Q (.inr e) w) (hs : STR D V nu tn rt) (H : HM D V nu tn rt p J cr S0 S T T) (hk : KRE S kr) (h3 : 3 ∉ J) (h4 : 4 ∉ J) (hnu : nu p = some (n, r, d)) (htn2 : tn n2) (hn2 : n2 < 14000) (hq : V.2.1 p 3 = some q) (h28 : V.2.2.1 28 n2 = i_ nq) (hCq : CHx V tn nu k0 (some (V.2.2.1 27 n2)) nq q dq) (h60 : V.2.2.1 26 nq = i_ (60 : Nat)) (hXq : KX V nu (f + 1) 60 q) (hlb : LPx V tn nu k0 ol lb (V.2.1 p 4) (V.2.2.1 29 n2) none (-1)) (hne : lb ≠ []) (hXl : ∀ z ∈ lb, KX V nu (f + 1) 60 z.2.1 ∧ V.2.2.1 26 z.1 = i_ (60 : Nat)) (hL : 75 * k0 + 340 ≤ L) (hL' : 75 * k0 + 340 ≤ L')
    (kk : ∀ (S2 : nS) (T2 : Int), HM D V nu tn rt p (4 :: 3 :: J) cr S0 S2 T2 T2 → NDC S S2 → NX nu S S2 → (T2 = NOF → T = NOF ∧ OP V p 3 (NE V nu S2 kr (f + 1) (fun c => c = 3 ∨ (c = 4 ∧ nxi V 1 (V.2.1 p 4) = none))) ∧ EL V p 4 (NE V nu S2 kr (f + 1) (fun c => c = 1))) → PS (fun Q => K Q (.inl none) S2.w) (fun Q => KT Q (.inl none) S2.t) Φ) :
    PS (fun Q => zb_X6_input_p0 D.1 L (K Q) (some p) 1 S.w) (fun Q => zb_X13_nameIn_p0 E' L' (KT Q) (i_ n2) S.t) Φ := by
  have hq14 := hCq.n14 hs
  have hT := H.1.1.2.1
  have ht := H.1.1.2.2 n2 htn2
  have h27q : V.2.2.1 27 nq = V.2.2.1 27 n2 := by
    obtain ⟨m, c, r', hP, htn, h1, h2, h3, h4⟩ := hCq
    exact h4 _ rfl
  have hsg : ∃ (q4 n4 m4 r4 d4 : Nat) (y4 : Int32), V.2.1 p 4 = some q4 ∧ V.2.2.1 29 n2 = i_ n4 ∧ n4 < 14000 ∧ tn n4 ∧ nu q4 = some (m4, r4, d4) ∧ ((V.2.1 q4 7 = none ∧ V.2.2.1 32 n4 = -1 ∧ y4 = 1) ∨ (¬ V.2.1 q4 7 = none ∧ ¬ V.2.2.1 32 n4 = -1 ∧ y4 = 0)) := by
    cases lb with
    | nil => exact absurd rfl hne
    | cons z l =>
      obtain ⟨a1, a2, a3, a4⟩ := hlb
      have hz14 := a3.n14 hs
      obtain ⟨m, c, r', hP, htn, hnuz, -⟩ := a3
      cases l with
      | nil => exact ⟨z.2.1, z.1, m, r', _, 1, a1, a2, hz14, htn _ hP.mem, hnuz, .inl ⟨a4.1, a4.2, rfl⟩⟩
      | cons z2 l =>
        obtain ⟨b1, b2, b3, b4⟩ := a4
        have hz2 := b3.n14 hs
        refine ⟨z.2.1, z.1, m, r', _, 0, a1, a2, hz14, htn _ hP.mem, hnuz, .inr ⟨by rw [b1]; simp, fun e => ?_, rfl⟩⟩
        have := (i_eq (by omega) (by omega)).mp (b2.symm.trans (e.trans (show (-1 : Int32) = i_ (-1) from rfl)))
        omega
  obtain ⟨q4, n4, m4, r4, d4, y4, hq4, h29, hn4, ht4, hnu4, hcase⟩ := hsg
  simp only [zb_X13_nameIn_p0, i_nat' (show n2 < 2147483648 by omega), ht 28 rfl, h28]
  refine PS_rand (hT.i rfl hn2) ?_
  refine n_inp (x2 := 1) (y4 := y4) (y0 := 1) (f := f) (L := L) (Lt := L' - 21) (K := K) (Kt := fun Q t => zb_X13_nameIn_p72 E' L' (KT Q) (i_ n2) t) hs H hk h3 hnu hq hCq h60 hXq (by omega) (by omega) (fun S1 Q v hI1 h => ?_) (fun S1 gc hI1 h => ?_) (fun S1 gc s c hI1 hs1 hc1 h46 hok h => ?_) (fun S1 gc s c hI1 hs1 hc1 h46 hok h => ?_) (fun S1 T1 H1 hT1 hn1 hx1 hsm1 hG1 => ?_)
  · have hw1 := hI1.nw hnu
    have hw4 := hI1.nw hnu4
    unfold zb_X6_input_p48
    rw [if_neg (by decide), if_neg (by decide)]
    refine ⟨p, rfl, hw1.1, q4, (hw1.2.1 4 (by decide)).trans hq4, hw4.1, ?_⟩
    rw [hw4.2.1 7 (by decide)]
    rcases hcase with ⟨e7, -, ey⟩ | ⟨e7, -, ey⟩
    · rw [if_neg (not_not_intro e7)]
      unfold zb_X6_input_p68 zb_X6_input_p73
      rw [if_neg (by decide)]
      rw [ey] at h
      exact h
    · rw [if_pos e7]
      unfold zb_X6_input_p72 zb_X6_input_p73
      rw [if_neg (by decide)]
      rw [ey] at h
      exact h
  · refine PS_r (fun Q a => fun _ => a) (PS_rand (hI1.1.2.1.i rfl hn2) ?_)
    have h29' : w_a S1.t 12 0 29 n2 = i_ n4 := (hI1.1.2.2 n2 htn2 29 rfl).trans h29
    have h32' : w_a S1.t 12 0 32 n4 = V.2.2.1 32 n4 := hI1.1.2.2 n4 ht4 32 rfl
    simp only [h29', i_nat' (show n4 < 2147483648 by omega), h32']
    refine PS_rand (hI1.1.2.1.i rfl hn4) ?_
    have key : ∀ y : Int32, PS gc (fun Q => zb_X13_nameIn_p31 E' L' (KT Q) (i_ n2) (-1) y S1.t) Φ := fun y => by
      simp only [zb_X13_nameIn_p31]
      exact PS_rp (by decide) h
    rcases hcase with ⟨-, e32, ey⟩ | ⟨-, e32, ey⟩
    · exact PS_rn (not_not_intro e32) (key _)
    · exact PS_rp e32 (key _)
  · refine PS_r (fun Q a => fun _ => a) (PS_rand (hI1.1.2.1.i rfl hn2) ?_)
    have h29' : w_a S1.t 12 0 29 n2 = i_ n4 := (hI1.1.2.2 n2 htn2 29 rfl).trans h29
    have h32' : w_a S1.t 12 0 32 n4 = V.2.2.1 32 n4 := hI1.1.2.2 n4 ht4 32 rfl
    simp only [h29', i_nat' (show n4 < 2147483648 by omega), h32']
    refine PS_rand (hI1.1.2.1.i rfl hn4) ?_
    have key : ∀ y : Int32, (y4 ≠ 0 → ¬ y = 0) → PS gc (fun Q => zb_X13_nameIn_p31 E' L' (KT Q) (i_ n2) (i_ s) y S1.t) Φ := fun y hy => by
      simp only [zb_X13_nameIn_p31, i_nat' (show s < 2147483648 by omega), h46]
      refine PS_rn (i_nn (by omega)) (PS_rand (hI1.1.2.1.sy rfl hs1) ?_)
      unfold okp at hok
      rcases hok with ⟨e4, e⟩ | ⟨-, e⟩
      · subst e
        exact PS_rn (by decide) (PS_rand (hI1.1.2.1.sy rfl hs1) (PS_rn (by decide) (PS_rp (hy e4) h)))
      · subst e
        exact PS_rp (by decide) h
    rcases hcase with ⟨-, e32, ey⟩ | ⟨-, e32, ey⟩
    · exact PS_rn (not_not_intro e32) (key _ (fun _ => by decide))
    · exact PS_rp e32 (key _ (fun e => absurd ey e))
  · have h27 : w_a S1.t 12 0 27 n2 = V.2.2.1 27 n2 := hI1.1.2.2 n2 htn2 27 rfl
    refine PS_r (fun Q a => fun _ => a) (PS_rand (hI1.1.2.1.i rfl hn2) ?_)
    have h29' : w_a S1.t 12 0 29 n2 = i_ n4 := (hI1.1.2.2 n2 htn2 29 rfl).trans h29
    have h32' : w_a S1.t 12 0 32 n4 = V.2.2.1 32 n4 := hI1.1.2.2 n4 ht4 32 rfl
    simp only [h29', i_nat' (show n4 < 2147483648 by omega), h32']
    refine PS_rand (hI1.1.2.1.i rfl hn4) ?_
    have key : ∀ y : Int32, (y4 = 0 → y = 0) → PS gc (fun Q => zb_X13_nameIn_p31 E' L' (KT Q) (i_ n2) (i_ s) y S1.t) Φ := fun y hy => by
      simp only [zb_X13_nameIn_p31, i_nat' (show s < 2147483648 by omega), h46]
      have e3 : c ≠ 3 := fun e => hok (.inr ⟨by decide, e⟩)
      have p60 : PS gc (fun Q => zb_X13_nameIn_p60 E' L' (KT Q) (i_ n2) S1.t) Φ := by
        simp only [zb_X13_nameIn_p60, i_nat' (show n2 < 2147483648 by omega), h27]
        refine PS_rand (hI1.1.2.1.i rfl hn2) ?_
        refine PS_r0 (fun Q hq => t_tells (k := 6) (by omega) hI1.2.2.2.2.2.2.1.2 ⟨by decide, by decide⟩ hq) ?_
        rw [← h27q]
        exact h
      refine PS_rn (i_nn (by omega)) (PS_rand (hI1.1.2.1.sy rfl hs1) ?_)
      refine PS_rn (fun z => e3 ((congrArg id (i_c1 hc1.2 3 (by decide))).mp z)) (PS_rand (hI1.1.2.1.sy rfl hs1) ?_)
      by_cases e4 : c = 4
      · have ey : y4 = 0 := by
          by_cases e : y4 = 0
          · exact e
          · exact absurd (.inl ⟨e, e4⟩) hok
        subst e4
        exact PS_rn (by decide) (PS_rn (not_not_intro (hy ey)) p60)
      · exact PS_rp (fun z => e4 ((congrArg id (i_c1 hc1.2 4 (by decide))).mp z)) p60
    rcases hcase with ⟨-, e32, ey⟩ | ⟨-, e32, ey⟩
    · exact PS_rn (not_not_intro e32) (key _ (fun e => absurd (ey.symm.trans e) (by decide)))
    · exact PS_rp e32 (key _ (fun _ => rfl))
  · have hw1 := H1.1.nw hnu
    have ht1 := H1.1.1.2.2 n2 htn2
    have hk1 : KRE S1 kr := hk.nd hn1
    have hu1 : S1.u = S.u := congrArg Prod.fst hn1.2.2.2
    simp only [zb_X6_input_p145, zb_X6_input_p185, zb_X13_nameIn_p72, i_nat' (show n2 < 2147483648 by omega), ht1 29 rfl]
    refine PS_ln (by decide) ?_
    refine PS_lex p rfl (PS_land hw1.1 (PS_rand (H1.1.1.2.1.i rfl hn2) ?_))
    simp only [hw1.2.1 4 (by decide)]
    refine n_places (E' := E') (S := S1) (J := 3 :: J) (J' := 4 :: 3 :: J) (l := lb) (y := p) (j := 4) (gtl := fun x t Q => zL_X13_nameIn_p80 E' L' (KT Q) x t) (n_EX hs f) hs H1 hk1 ⟨H1.2.2.1.1, H1.2.2.1.2.1⟩ (fun e => ?_) ⟨by decide, by decide⟩ (fun i hi => List.mem_cons_of_mem _ hi) (fun _ => List.mem_cons_self) hlb hXl (by omega) (Lt := L' - 23) (by omega) (fun nq t gc Φ hnq h => ?_) (fun S2 T2 H2 hn2' hx2 hsm2 hG2 => ?_)
    · rcases List.mem_cons.mp (H1.2.2.1.2.2.2 4 e) with e | e
      · exact absurd e (by decide)
      · exact h4 e
    · refine PS_r (fun Q h => zt_X13_nameIn_p80 (by omega) h) ?_
      simp only [zb_X13_nameIn_p80, i_nat' (show nq < 2147483648 by omega), hKT]
      exact PS_rn (i_nn (by omega)) h
    · refine PS_r (fun Q h => zt_X13_nameIn_p80 (by omega) h) ?_
      simp only [zb_X13_nameIn_p80]
      refine PS_rp (by decide) (kk S2 T2 H2 (hn1.tr hn2') (hx1.tr hx2 (.inl hu1)) (fun e => ?_))
      have e1 := min_nof H.2.2.2.2.1.1 hT1 (hG2 e).1
      refine ⟨e1.1, fun q' hq' => ?_, fun i q' hq' => ?_⟩
      · rw [hq] at hq'
        cases hq'
        refine NE.c ((hG1 e1.2).nx H1.1 hx2) (fun c hc => ?_)
        unfold okp at hc
        rcases hc with ⟨e4, e⟩ | ⟨-, e⟩
        · refine .inr ⟨e, ?_⟩
          rcases hcase with ⟨e7, -, ey⟩ | ⟨-, -, ey⟩
          · rw [hq4]
            exact e7
          · exact absurd ey e4
        · exact .inl e
      · obtain ⟨z, hz, e2⟩ := LPx.nx1 hlb hq'
        rw [← e2]
        exact (hG2 e).2 z hz
/-- what is told of a guard -/
def GDN (V : pV) (nu : pN) (S : nS) (f u : Nat) (kr : List Nat) (p : Nat) : Prop := (V.1 p 10 = 1 → OP V p 3 (NE V nu S kr f (fun c => c = 3 ∨ (c = 4 ∧ nxi V 1 (V.2.1 p 4) = none))) ∧ EL V p 4 (NE V nu S kr f (fun c => c = 1))) ∧ (V.1 p 10 = 2 → OP V p 3 (NE V nu S kr f (fun c => c = 4)) ∧ OP V p 4 (NE V nu S kr f Cv)) ∧ (V.1 p 10 = 3 → OP V p 3 (NE V nu S kr f (fun c => c = 3)) ∧ EL V p 4 (fun q => NS V nu S f u kr q kr))
/-- a guard -/
theorem n_gd {K : (kx_Rs → wS → Prop) → kx_Rs → wS → Prop} {Bt : (kx_Rs → wS → Prop) → wS → Prop} {v2 : Option Nat} (hs : STR D V nu tn rt) (IH : ∀ g, g ≤ f + 1 → NPA D V nu tn rt E' kt_M149 kt_M473 1 g) (H : HM D V nu tn rt p J cr S0 S T T) (hk : KRE S kr) (hu0 : S.u = S0.u) (h3 : 3 ∉ J) (h4 : 4 ∉ J) (h7 : 7 ∉ J) (hnu : nu p = some (n, r, d)) (hk0 : V.2.1 p 0 = some (D.1.1.1 52)) (hn2 : n2 < 14000) (hg : LFg V tn tn nu r d p n n2)
    (hch : ∀ j, (3 ≤ j ∧ j ≤ 6) → (j = 4 → V.1 p 10 ≠ 0) → ∀ i q, (i = 0 ∨ isl (V.1 p 10) 18 j) → nxi V i (V.2.1 p j) = some q → KX V nu (f + 1) (ccl (V.1 p 10) (V.1 p 11) 18 j) q) (hL : 75 * r + 400 ≤ L) (hL' : 75 * r + 400 ≤ L')
    (kk : ∀ (S2 : nS) (T2 : Int), HM D V nu tn rt p (4 :: 3 :: J) cr S0 S2 T2 T2 → KUE S S2 → NX nu S S2 → (T2 = NOF → T = NOF ∧ GDN V nu S2 (f + 1) S.u kr p) → PS (fun Q => zb_X6_alternation_p53 D.1 L (K Q) v2 (some p) S2.w) (fun Q => Bt Q S2.t) Φ) :
    PS (fun Q => zb_X6_alternation_p37 D.1 L (K Q) v2 (some p) S.w) (fun Q => zw E' L' kt_M471 [.ref (w_adr E'.2.1 12 0), .int (i_ n2)] S.t (wk0 (fun w1 => wle S.t w1 → Bt Q w1) (fun e w => Q (.inr e) w))) Φ := by
  obtain ⟨htn2, hl27, hg⟩ := hg
  have hw := H.1.nw hnu
  have ht := H.1.1.2.2 n2 htn2
  have hT := H.1.1.2.1
  have h56 := H.1.e56 hk
  have h10 : w_i S.w 14 p 10 = V.1 p 10 := by
    refine ((H.1.1.1 p (by rw [hnu]; simp)).2.2.2).resolve_left (fun z => ?_)
    rw [hk0] at z
    unfold n10 at z
    rcases z with z | z | z | z <;> exact eo_ne hs.1.1 (by decide) (by decide) (by decide) z
  have hJ1 : ∀ i ∈ J, i ∈ 4 :: 3 :: J := fun i hi => List.mem_cons_of_mem _ (List.mem_cons_of_mem _ hi)
  refine PS_r (fun Q h => zt_X13_nameAction_p0 (by omega) h) ?_
  simp only [zb_X6_alternation_p37, zb_X13_nameAction_p0, zb_X13_nameAction_p697, i_nat' (show n2 < 2147483648 by omega), ht 26 rfl, h56, h10]
  refine PS_lex p rfl (PS_land hw.1 (PS_rand (hT.i rfl hn2) ?_))
  simp only [h10]
  rcases hg with ⟨a1, a2, -⟩ | ⟨a1, a2, ⟨q, nq, hq, h28, hCq, h60⟩, ⟨lb, hlb, hne, h60b⟩, -⟩ | ⟨a1, a2, ⟨q, nq, hq, h28, hCq, h60⟩, ⟨qb, nb, hqb, h29, hCb⟩, -⟩ | ⟨a1, a2, ⟨q, nq, hq, h28, hCq, h60⟩, ⟨l, hl, -, -⟩, -⟩
  · simp only [a1, a2]
    refine PS_lp (by decide) ?_
    repeat (first | refine PS_rp (by decide) ?_ | refine PS_rn (by decide) ?_)
    rw [ws_56 H.1 hk]
    refine PS_r (fun Q a => fun _ => a) (kk S T (H.wk hJ1) KUE.rf NX.rf (fun e => ⟨e, ?_⟩))
    unfold GDN
    rw [a2]
    exact ⟨fun e => absurd e (by decide), fun e => absurd e (by decide), fun e => absurd e (by decide)⟩
  · have hXq := hch 3 ⟨by decide, by decide⟩ (fun e => absurd e (by decide)) 0 q (.inl rfl) hq
    have hc3 : ccl (V.1 p 10) (V.1 p 11) 18 3 = 60 := rfl
    have hc4 : ccl (V.1 p 10) (V.1 p 11) 18 4 = 60 := by rw [a2]; rfl
    rw [hc3] at hXq
    have hXl : ∀ z ∈ lb, KX V nu (f + 1) 60 z.2.1 ∧ V.2.2.1 26 z.1 = i_ (60 : Nat) := fun z hz => by
      obtain ⟨i, hi⟩ := LPx.nx2 hlb z hz
      have h := hch 4 ⟨by decide, by decide⟩ (fun _ => by rw [a2]; decide) i z.2.1 (.inr (.inl ⟨rfl, by simp [a2]⟩)) hi
      rw [hc4] at h
      exact ⟨h, h60b z hz⟩
    simp only [a1, a2]
    refine PS_ln (by decide) ?_
    repeat (first | refine PS_rp (by decide) ?_ | refine PS_rn (by decide) ?_)
    refine PS_of (fun Q h => zt_X6_input_p0 (by omega) h) (fun Q h => zt_X13_nameIn_p0 (by omega) h) ?_
    rw [← hl27] at hCq
    refine n_in5 (fun _ _ _ => rfl) hs H hk h3 h4 hnu htn2 hn2 hq h28 hCq h60 hXq hlb hne hXl (by omega) (by omega) (fun S2 T2 H2 hn hx2 hG2 => ?_)
    have hk2 : KRE S2 kr := hk.nd hn
    have hu2 : S2.u = S.u := congrArg Prod.fst hn.2.2.2
    refine PS_l (fun Q a => fun _ => a) (PS_r (fun Q a => fun _ => a) ?_)
    rw [ws_56 H2.1 hk2]
    refine PS_r (fun Q a => fun _ => a) (kk S2 T2 H2 (KUE.of hk hk2 hu2) hx2 (fun e => ⟨(hG2 e).1, ?_⟩))
    unfold GDN
    rw [a2]
    exact ⟨fun _ => (hG2 e).2, fun e => absurd e (by decide), fun e => absurd e (by decide)⟩
  · have hXq := hch 3 ⟨by decide, by decide⟩ (fun e => absurd e (by decide)) 0 q (.inl rfl) hq
    have hXb := hch 4 ⟨by decide, by decide⟩ (fun _ => by rw [a2]; decide) 0 qb (.inl rfl) hqb
    have hc3 : ccl (V.1 p 10) (V.1 p 11) 18 3 = 60 := rfl
    have hc4 : ccl (V.1 p 10) (V.1 p 11) 18 4 = 0 := by rw [a2]; rfl
    rw [hc3] at hXq
    rw [hc4] at hXb
    have hq14 := hCq.n14 hs
    have htq : tn nq := by
      obtain ⟨m, c, r', hP, htn, -⟩ := hCq
      exact htn nq hP.mem
    simp only [a1, a2, ht 28 rfl, h28]
    refine PS_ln (by decide) ?_
    repeat (first | refine PS_rp (by decide) ?_ | refine PS_rn (by decide) ?_)
    refine PS_rand (hT.i rfl hn2) ?_
    refine PS_of (fun Q h => zt_X6_input_p0 (by omega) h) (fun Q h => zt_X13_nameAs_p0 (by omega) h) ?_
    simp only [zb_X13_nameAs_p0, zb_X13_nameAs_p32]
    refine n_inp (x2 := 2) (y4 := 1) (y0 := 0) (f := f) (L := L - 25) (Lt := L' - 23 - 21) (Kt := fun Q t => (kx_inb (i_ n2) (w_n t 12 0 29) = true ∧ zw E' (L' - 24) kt_M476 [.ref (w_adr E'.2.1 12 0), .int (w_a t 12 0 29 n2), .int 0] t (wk0 (fun w5 => wle t w5 → wk0 (fun w1 => wle S.t w1 → Bt Q w1) (fun e w => Q (.inr e) w) (.inl none) (ws_i w5 12 0 56 (i_ kr.length))) (fun e w => Q (.inr e) w)))) hs H hk h3 hnu hq hCq h60 hXq (by omega) (by omega) (fun S1 Q v hI1 h => ?_) (fun S1 gc hI1 h => ?_) (fun S1 gc s c hI1 hs1 hc1 h46 hok h => ?_) (fun S1 gc s c hI1 hs1 hc1 h46 hok h => ?_) (fun S1 T1 H1 hT1 hn1 hx1 hsm1 hG1 => ?_)
    · simp only [zb_X6_input_p48, zb_X6_input_p68, zb_X6_input_p73]
      exact h
    · refine PS_r (fun Q a => fun _ => a) (PS_rp (by decide) ?_)
      exact PS_r (fun Q a => fun _ => a) h
    · have ec : c = 4 := by
        unfold okp at hok
        rcases hok with ⟨-, e⟩ | ⟨e, -⟩
        · exact e
        · exact absurd rfl e
      subst ec
      refine PS_r (fun Q a => fun _ => a) (PS_rn (i_nn (by omega)) (PS_rand (hI1.1.2.1.sy rfl hs1) ?_))
      simp only [i_nat' (show s < 2147483648 by omega), h46]
      refine PS_rp (by decide) ?_
      exact PS_r (fun Q a => fun _ => a) h
    · have ec : c ≠ 4 := fun e => hok (.inl ⟨by decide, e⟩)
      have h27 : w_a S1.t 12 0 27 nq = V.2.2.1 27 nq := hI1.1.2.2 nq htq 27 rfl
      refine PS_r (fun Q a => fun _ => a) (PS_rn (i_nn (by omega)) (PS_rand (hI1.1.2.1.sy rfl hs1) ?_))
      simp only [i_nat' (show s < 2147483648 by omega), i_nat' (show nq < 2147483648 by omega), h46, h27]
      refine PS_rn (fun z => ec ((congrArg id (i_c1 hc1.2 4 (by decide))).mp z)) (PS_rand (hI1.1.2.1.i rfl hq14) ?_)
      refine PS_r0 (fun Q hq => t_tells (k := 6) (by omega) hI1.2.2.2.2.2.2.1.2 ⟨by decide, by decide⟩ hq) ?_
      exact PS_r (fun Q a => fun _ => a) h
    · have hw1 := H1.1.nw hnu
      have ht1 := H1.1.1.2.2 n2 htn2
      have hk1 : KRE S1 kr := hk.nd hn1
      have hu1 : S1.u = S.u := congrArg Prod.fst hn1.2.2.2
      simp only [zb_X6_input_p145, zb_X6_input_p185]
      refine PS_lp (by decide) (PS_ln (by decide) ?_)
      refine PS_lex p rfl (PS_land hw1.1 ?_)
      simp only [hw1.2.1 4 (by decide), hqb, ht1 29 rfl, h29]
      refine PS_rand (H1.1.1.2.1.i rfl hn2) ?_
      refine n_ch (n_EX hs (f + 1)) hs H1 hk1 (fun e => ?_) ⟨by decide, by decide⟩ hqb hCb hXb (by omega) (by omega) (fun S2 T2 H2 hT2 hn2' hx2 hsm2 hG2 => ?_)
      · rcases List.mem_cons.mp e with e | e
        · exact absurd e (by decide)
        · exact h4 e
      have hk2 : KRE S2 kr := hk1.nd hn2'
      have hu2 : S2.u = S1.u := congrArg Prod.fst hn2'.2.2.2
      refine PS_l (fun Q a => fun _ => a) ?_
      rw [ws_56 H2.1 hk2]
      refine PS_r (fun Q a => fun _ => a) (kk S2 _ H2 (KUE.of hk hk2 (hu2.trans hu1)) (hx1.tr hx2 (.inl hu1)) (fun e => ?_))
      obtain ⟨e1, e2⟩ := min_nof H1.2.2.2.2.1.1 hT2 e
      obtain ⟨e3, e4⟩ := min_nof H.2.2.2.2.1.1 hT1 e1
      refine ⟨e3, ?_⟩
      unfold GDN
      rw [a2]
      refine ⟨fun e => absurd e (by decide), fun _ => ⟨fun q' hq' => ?_, fun q' hq' => ?_⟩, fun e => absurd e (by decide)⟩
      · rw [hq] at hq'
        cases hq'
        refine NE.c ((hG1 e4).nx H1.1 hx2) (fun c hc => ?_)
        unfold okp at hc
        rcases hc with ⟨-, e⟩ | ⟨e, -⟩
        · exact e
        · exact absurd rfl e
      · rw [hqb] at hq'
        cases hq'
        exact hG2 e2
  · have hXq := hch 3 ⟨by decide, by decide⟩ (fun e => absurd e (by decide)) 0 q (.inl rfl) hq
    have hc3 : ccl (V.1 p 10) (V.1 p 11) 18 3 = 60 := rfl
    have hc4 : ccl (V.1 p 10) (V.1 p 11) 18 4 = 19 := by rw [a2]; rfl
    rw [hc3] at hXq
    have hXl : ∀ z ∈ l, KX V nu (f + 1) 19 z.2.1 := fun z hz => by
      obtain ⟨i, hi⟩ := LPx.nx2 hl z hz
      have h := hch 4 ⟨by decide, by decide⟩ (fun _ => by rw [a2]; decide) i z.2.1 (.inr (.inl ⟨rfl, by simp [a2]⟩)) hi
      rw [hc4] at h
      exact h
    have hq14 := hCq.n14 hs
    have htq : tn nq := by
      obtain ⟨m, c, r', hP, htn, -⟩ := hCq
      exact htn nq hP.mem
    simp only [a1, a2, ht 28 rfl, h28]
    refine PS_ln (by decide) ?_
    repeat (first | refine PS_rp (by decide) ?_ | refine PS_rn (by decide) ?_)
    refine PS_rand (hT.i rfl hn2) ?_
    refine PS_of (fun Q h => zt_X6_input_p0 (by omega) h) (fun Q h => zt_X13_nameAs_p0 (by omega) h) ?_
    simp only [zb_X13_nameAs_p0, zb_X13_nameAs_p32]
    refine n_inp (x2 := 3) (y4 := 0) (y0 := 1) (f := f) (L := L - 25) (Lt := L' - 23 - 21) (Kt := fun Q t => (kx_inb (i_ n2) (w_n t 12 0 29) = true ∧ zL_X13_nameAction_p188 E' L' (wk0 (fun w1 => wle S.t w1 → Bt Q w1) (fun e w => Q (.inr e) w)) (i_ kr.length) (w_a t 12 0 29 n2) t)) hs H hk h3 hnu hq hCq h60 hXq (by omega) (by omega) (fun S1 Q v hI1 h => ?_) (fun S1 gc hI1 h => ?_) (fun S1 gc s c hI1 hs1 hc1 h46 hok h => ?_) (fun S1 gc s c hI1 hs1 hc1 h46 hok h => ?_) (fun S1 T1 H1 hT1 hn1 hx1 hsm1 hG1 => ?_)
    · unfold zb_X6_input_p48
      rw [if_neg (by decide), if_pos (by decide)]
      unfold zb_X6_input_p72 zb_X6_input_p73
      rw [if_neg (by decide)]
      exact h
    · refine PS_r (fun Q a => fun _ => a) (PS_rp (by decide) ?_)
      exact PS_r (fun Q a => fun _ => a) h
    · have ec : c = 3 := by
        unfold okp at hok
        rcases hok with ⟨e, -⟩ | ⟨-, e⟩
        · exact absurd rfl e
        · exact e
      subst ec
      refine PS_r (fun Q a => fun _ => a) (PS_rn (i_nn (by omega)) (PS_rand (hI1.1.2.1.sy rfl hs1) ?_))
      simp only [i_nat' (show s < 2147483648 by omega), h46]
      refine PS_rp (by decide) ?_
      exact PS_r (fun Q a => fun _ => a) h
    · have ec : c ≠ 3 := fun e => hok (.inr ⟨by decide, e⟩)
      have h27 : w_a S1.t 12 0 27 nq = V.2.2.1 27 nq := hI1.1.2.2 nq htq 27 rfl
      refine PS_r (fun Q a => fun _ => a) (PS_rn (i_nn (by omega)) (PS_rand (hI1.1.2.1.sy rfl hs1) ?_))
      simp only [i_nat' (show s < 2147483648 by omega), i_nat' (show nq < 2147483648 by omega), h46, h27]
      refine PS_rn (fun z => ec ((congrArg id (i_c1 hc1.2 3 (by decide))).mp z)) (PS_rand (hI1.1.2.1.i rfl hq14) ?_)
      refine PS_r0 (fun Q hq => t_tells (k := 6) (by omega) hI1.2.2.2.2.2.2.1.2 ⟨by decide, by decide⟩ hq) ?_
      exact PS_r (fun Q a => fun _ => a) h
    · have hw1 := H1.1.nw hnu
      have ht1 := H1.1.1.2.2 n2 htn2
      have hk1 : KRE S1 kr := hk.nd hn1
      have hu1 : S1.u = S.u := congrArg Prod.fst hn1.2.2.2
      simp only [zb_X6_input_p145, zb_X6_input_p185]
      refine PS_lp (by decide) (PS_lp (by decide) ?_)
      refine PS_lex p rfl (PS_land hw1.1 ?_)
      refine PS_l (fun Q h => zt_X6_variants_p0 (by omega) h) ?_
      simp only [zb_X6_variants_p0, hw1.2.1 4 (by decide), ht1 29 rfl]
      refine PS_rand (H1.1.1.2.1.i rfl hn2) ?_
      have H1' := H1.wk (J' := 4 :: 3 :: J) (fun i hi => List.mem_cons_of_mem _ hi)
      refine n_list (J' := 4 :: 3 :: J) (S0 := S0) (S := S1) (cr := cr) (Kp := fun S1 => KRE S1 kr ∧ S1.u = S.u) (G := fun q S' => NS V nu S' (f + 1) S.u kr q kr) (P := fun z => KX V nu (f + 1) 19 z.2.1) (gcl := fun x w Q => zL_X6_variants_p2 D.1 (L - 25 - 22) (wk0 (fun w2 => wle S1.w w2 → wk0 (fun w2 => wle S.w w2 → zb_X6_alternation_p53 D.1 L (K Q) v2 (some p) w2) (fun e w => K Q (.inr e) w) (.inl none) w2) (fun e w => wk0 (fun w2 => wle S.w w2 → zb_X6_alternation_p53 D.1 L (K Q) v2 (some p) w2) (fun e w => K Q (.inr e) w) (.inr e) w)) x w) (gtl := fun x t Q => zL_X13_nameAction_p188 E' L' (wk0 (fun w1 => wle S.t w1 → Bt Q w1) (fun e w => Q (.inr e) w)) (i_ kr.length) x t) (R := KUE) (fun _ => KUE.rf) (fun _ _ _ => KUE.tr) (fun _ _ h hk => ⟨h.1 _ hk.1, h.2.trans hk.2⟩) (fun _ _ _ _ h => h) hs (fun S2 T2 y2 j2 q2 n2' d2 H2 hk2 I2 V2 hC2 hP2 kc => ?_) (fun q S S' hI h hx => h.nx hI hx) H1' ⟨hk1, hu1⟩ ⟨H1.2.2.1.1, H1.2.2.1.2.1⟩ (fun e => ?_) ⟨by decide, by decide⟩ (fun _ => List.mem_cons_self) hl hXl (fun S2 T2 H2 hk2 hx2 hR2 hsm2 hG2 => ?_)
      · refine n_it19 (f := f + 1) (S := S2.go y2 j2) (KT := fun Q => wk0 (fun w1 => wle S.t w1 → Bt Q w1) (fun e w => Q (.inr e) w)) (K := fun Q => wk0 (fun w2 => wle S1.w w2 → wk0 (fun w2 => wle S.w w2 → zb_X6_alternation_p53 D.1 L (K Q) v2 (some p) w2) (fun e w => K Q (.inr e) w) (.inl none) w2) (fun e w => wk0 (fun w2 => wle S.w w2 → zb_X6_alternation_p53 D.1 L (K Q) v2 (some p) w2) (fun e w => K Q (.inr e) w) (.inr e) w)) (fun _ _ _ => rfl) hs IH I2 hC2 hP2 V2 hk2.1 (by omega) (by omega) (fun r w' r' t' hb => kc r w' r' t' (hb.imp (fun _ h => h) (fun S' h => ?_)))
        have e : (S2.go y2 j2).u = S.u := hk2.2
        rw [e] at h
        exact h
      · rcases List.mem_cons.mp (H1.2.2.1.2.2.2 4 e) with e | e
        · exact absurd e (by decide)
        · exact h4 e
      · refine PS_of (fun Q h => zt_X6_variants_p2 (by omega) h) (fun Q h => zt_X13_nameAction_p188 (by omega) h) ?_
        simp only [zb_X6_variants_p2, zb_X13_nameAction_p188, zb_X13_nameAction_p697]
        refine PS_lp trivial (PS_rp (by decide) (PS_l (fun Q a => fun _ => a) (PS_l (fun Q a => fun _ => a) ?_)))
        rw [ws_56 H2.1 hk2.1]
        refine PS_r (fun Q a => fun _ => a) (kk S2 T2 H2 (KUE.of hk hk2.1 hk2.2) (hx1.tr hx2 (.inl hu1)) (fun e => ?_))
        obtain ⟨e3, e4⟩ := min_nof H.2.2.2.2.1.1 hT1 (hG2 e).1
        refine ⟨e3, ?_⟩
        unfold GDN
        rw [a2]
        refine ⟨fun e => absurd e (by decide), fun e => absurd e (by decide), fun _ => ⟨fun q' hq' => ?_, fun i q' hq' => ?_⟩⟩
        · rw [hq] at hq'
          cases hq'
          refine NE.c ((hG1 e4).nx H1.1 hx2) (fun c hc => ?_)
          unfold okp at hc
          rcases hc with ⟨e, -⟩ | ⟨-, e⟩
          · exact absurd rfl e
          · exact e
        · obtain ⟨z, hz, e2⟩ := LPx.nx1 hl hq'
          rw [← e2]
          exact (hG2 e).2 z hz
end NGD
