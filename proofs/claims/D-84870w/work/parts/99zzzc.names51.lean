/-! ===== ROUNDS, part 53: PROC and FUNCTION ===== -/
section RTN
variable {D : pD} {V : pV} {nu : pN} {tn : Nat → Prop} {rt p q n nq m r d dq j k k' k0 f s s0 sP u un y A A0 P c cr crq kd W i : Nat} {J J' Jq : List Nat} {S S' S0 S1 : nS} {w w2 w' t t' : wS} {v2 pr : Option Nat} {x x1 x2 x3 x5 x6 x7 z y9 l' ty v ln : Int32} {T T' T1 T2 : Int} {kr ks : List Nat} {L L' Lc Ls Lk Lx Lt : Nat} {E E' : zE} {ol : Option Int32} {Q : kx_Rs → wS → Prop} {gc gt : pQ} {Φ : kx_Rs → wS → kx_Rs → wS → Prop} {C : Nat → Prop} {o : Bool}
/-- what is told behind the body: of a routine's parts, up to its own name -/
def RTB (V : pV) (nu : pN) (f : Nat) (isf : Bool) (p : Nat) (kf : List Nat) (S : nS) : Prop :=
  (isf = false ∧ OP V p 4 (fun q => NS V nu S f S.u kf q kf)) ∨ (isf = true ∧ V.1 p 11 = 1 ∧ OP V p 4 (NE V nu S kf f Cv)) ∨ (isf = true ∧ V.1 p 11 = 0 ∧ ∃ L2 kg, LCH V (NS V nu S f S.u) L2 (V.2.1 p 5) kf kg ∧ OP V p 4 (fun q => NS V nu S f S.u kg q kg) ∧ OP V p 6 (NE V nu S kg f Cv))
/-- the body of a PROC, of a FUNCTION -/
theorem n_body {KQ KT : (kx_Rs → wS → Prop) → kx_Rs → wS → Prop} {isf : Bool} {kp : Option Nat} {bg x4 x5' : Int32} {xs : Int32} {kf : List Nat} (hs : STR D V nu tn rt) (IH : NPA D V nu tn rt E' kt_M149 kt_M473 1 f) (ID : NPD D V nu tn rt E' f) (hnu : nu p = some (n, r, d)) (hm : n < 14000) (htm : tn n) (hk0 : V.2.1 p 0 = some (D.1.1.1 (if isf = true then 11 else 33)))
    (hF : (isf = false ∧ ∃ d2, EC V tn nu r none d2 (V.2.1 p 4) (V.2.2.1 29 n)) ∨ (isf = true ∧ ((V.1 p 11 = 1 ∧ EC V tn nu r none 0 (V.2.1 p 4) (V.2.2.1 41 n) ∧ V.2.2.1 42 n = -1 ∧ V.2.2.1 29 n = -1 ∧ V.2.1 p 5 = none) ∨ (V.1 p 11 = 0 ∧ ∃ d1 d2, SL V tn nu r none d1 (V.2.1 p 5) (V.2.2.1 42 n) ∧ EC V tn nu r none d2 (V.2.1 p 4) (V.2.2.1 29 n) ∧ EC V tn nu r none 0 (V.2.1 p 6) (V.2.2.1 41 n)))))
    (hX4 : ∀ q, V.2.1 p 4 = some q → KX V nu f (if isf = true ∧ V.1 p 11 = 1 then 0 else 1) q) (hX6 : ∀ q, V.2.1 p 6 = some q → isf = true → V.1 p 11 = 0 → KX V nu f 0 q) (hX5 : isf = true → ∀ i q, nxi V i (V.2.1 p 5) = some q → KX V nu f 3 q)
    (H : HM D V nu tn rt p [3] cr S0 S T T) (hk : KRE S kf) (hL : 75 * r + 390 ≤ L) (hL' : 75 * r + 390 ≤ L')
    (kk : ∀ (S1 : nS) (T1 : Int) (ks : List Nat), HM D V nu tn rt p [6, 4, 5, 3] cr S0 S1 T1 T1 → KRE S1 (ks ++ kf) → S1.u = S.u → NX nu S S1 → SMN nu S S1 p → (T1 = NOF → RTB V nu f isf p kf S1) → PS (fun Q => zb_X6_routine_p302 D.1 L (KQ Q) (some p) kp bg S1.w) (fun Q => zb_X13_nameUnit_p155 E' L' (KT Q) (i_ n) xs x4 x5' S1.t) Φ) :
    PS (fun Q => zb_X6_routine_p184 D.1 L (KQ Q) (some p) kp bg none S.w) (fun Q => if bI isf = 0 then zb_X13_nameUnit_p121 E' L' (KT Q) (i_ n) (bI isf) xs x4 x5' S.t else (kx_inb (i_ n) (w_n S.t 12 0 42) = true ∧ zw E' (L' - 22) kt_M475 [.ref (w_adr E'.2.1 12 0), .int (w_a S.t 12 0 42 (i_ n).toNatClampNeg)] S.t (wk0 (fun w7 => wle S.t w7 → zb_X13_nameUnit_p121 E' L' (KT Q) (i_ n) (bI isf) xs x4 x5' w7) (fun e w => KT Q (.inr e) w)))) Φ := by
  have hw := H.1.nw hnu
  have ht := H.1.1.2.2 n htm
  have hT := H.1.1.2.1
  have e0 : w_p S.w 14 p 0 = some (D.1.1.1 (if isf = true then 11 else 33)) := (hw.2.1 0 (by decide)).trans hk0
  unfold zb_X6_routine_p184
  refine PS_lp rfl (PS_lex p rfl (PS_land hw.1 ?_))
  simp only [e0, hw.2.2 11 (by decide), hw.2.1 4 (by decide), hw.2.1 5 (by decide)]
  rcases hF with ⟨hi, d2, qb, nb, hqb, h29, hCb⟩ | ⟨hi, ⟨h11, ⟨qb, nb, hqb, h41, hCb⟩, h42, h29, h5⟩ | ⟨h11, d1, d2, ⟨l, hl, -⟩, ⟨qb, nb, hqb, h29, hCb⟩, qe, ne, hqe, h41, hCe⟩⟩
  · -- PROC
    subst hi
    have hXb := hX4 qb hqb
    rw [if_neg (fun z => absurd z.1 (by decide))] at hXb
    have hnb := hCb.n14 hs
    refine PS_ln (not_not_intro rfl) (PS_rp rfl ?_)
    simp only [zb_X13_nameUnit_p121, i_nat' (show n < 2147483648 by omega), ht 29 rfl, h29, hqb]
    refine PS_rand (hT.i rfl hm) (PS_rn (i_nn (by omega)) (PS_rand (hT.i rfl hm) ?_))
    refine n_cp IH hs H hk (by decide) ⟨by decide, by decide⟩ hqb hCb hXb (by omega) (by omega) (fun S1 T1 H1 hT1 hk1 hu1 hx1 hsm1 hG1 => ?_)
    simp only [zb_X13_nameUnit_p140]
    refine PS_rp rfl ?_
    refine kk S1 _ [] (H1.wk (fun i hi => by simp at hi ⊢; omega)) hk1 hu1 hx1 (hsm1 p H.2.2.1.1) (fun e => .inl ⟨rfl, fun q hq => ?_⟩)
    rw [hqb] at hq
    cases hq
    rw [hu1]
    exact hG1 (min_nof H.2.2.2.2.1.1 hT1 e).2
  · -- FUNCTION IS
    subst hi
    have hXb := hX4 qb hqb
    rw [if_pos ⟨rfl, h11⟩] at hXb
    refine PS_lp (eo_ne hs.1.1 (by decide) (by decide) (by decide)) (PS_ln (by rw [h11]; decide) (PS_rn (by decide) ?_))
    simp only [i_nat' (show n < 2147483648 by omega), ht 42 rfl, h42, hqb]
    refine PS_rand (hT.i rfl hm) (PS_r (fun Q h => zt_X13_nameDeclarations_p0 (by omega) h) ?_)
    simp only [zb_X13_nameDeclarations_p0]
    refine PS_r (fun Q h => zt_X13_nameDeclarations_p2 (by omega) h) ?_
    simp only [zb_X13_nameDeclarations_p2]
    refine PS_rp (by decide) (PS_r (fun Q a => fun _ => a) ?_)
    simp only [zb_X13_nameUnit_p121, zb_X13_nameUnit_p140, i_nat' (show n < 2147483648 by omega), ht 29 rfl, h29, ht 41 rfl, h41]
    refine PS_rand (hT.i rfl hm) (PS_rp (by decide) (PS_rn (by decide) (PS_rand (hT.i rfl hm) ?_)))
    refine n_ch (n_EX hs f) hs H hk (by decide) ⟨by decide, by decide⟩ hqb hCb hXb (by omega) (by omega) (fun S1 T1 H1 hT1 hn1 hx1 hsm1 hG1 => ?_)
    have hu1 : S1.u = S.u := congrArg Prod.fst hn1.2.2.2
    refine kk S1 _ [] (H1.wk (fun i hi => by simp at hi ⊢; omega)) (hk.nd hn1) hu1 hx1 (hsm1 p H.2.2.1.1) (fun e => .inr (.inl ⟨rfl, h11, fun q hq => ?_⟩))
    rw [hqb] at hq
    cases hq
    exact hG1 (min_nof H.2.2.2.2.1.1 hT1 e).2
  · -- FUNCTION with VALOF
    subst hi
    have hXb := hX4 qb hqb
    rw [if_neg (fun z => by have := z.2; rw [h11] at this; exact absurd this (by decide))] at hXb
    have hXe := hX6 qe hqe rfl h11
    have hXl : ∀ z ∈ l, KX V nu f 3 z.2.1 := fun z hz => by
      obtain ⟨i, hi⟩ := LPx.nx2 hl z hz
      exact hX5 rfl i z.2.1 hi
    have hnb := hCb.n14 hs
    refine PS_lp (eo_ne hs.1.1 (by decide) (by decide) (by decide)) (PS_lp h11 (PS_rn (by decide) ?_))
    simp only [i_nat' (show n < 2147483648 by omega), ht 42 rfl]
    refine PS_rand (hT.i rfl hm) (PS_r (fun Q h => zt_X13_nameDeclarations_p0 (by omega) h) ?_)
    simp only [zb_X13_nameDeclarations_p0]
    refine n_decs (J' := [5, 3]) (Lx := L - 22) (Lt := L' - 22 - 26) (X := fun Q e w => KQ Q (.inr e) w) (Y := fun Q e w => wk0 (fun w7 => wle S.t w7 → zb_X13_nameUnit_p121 E' L' (KT Q) (i_ n) (bI true) xs x4 x5' w7) (fun e w => KT Q (.inr e) w) (.inr e) w) (gcl := fun x w Q => zL_X6_routine_p265 D.1 L (KQ Q) (some p) kp bg x w) (gtl := fun x t Q => zL_X13_nameDeclarations_p2 E' (L' - 22) (wk0 (fun w7 => wle S.t w7 → zb_X13_nameUnit_p121 E' L' (KT Q) (i_ n) (bI true) xs x4 x5' w7) (fun e w => KT Q (.inr e) w)) x t) hs ID (by omega) (by omega) (fun S2 q2 n2 hn2 kc => ?_) (H.wk (fun i hi => List.mem_cons_of_mem _ hi)) hk ⟨H.2.2.1.1, H.2.2.1.2.1⟩ (fun e => absurd (H.2.2.1.2.2.2 5 e) (by decide)) ⟨by decide, by decide⟩ (fun _ => List.mem_cons_self) hl hXl (fun S2 T2 ks H2 hk2 hu2 hx2 hsm2 hG2 => ?_)
    · refine PS_of (fun Q h => zt_X6_routine_p265 (by omega) h) (fun Q h => zt_X13_nameDeclarations_p2 (by omega) h) ?_
      simp only [zb_X6_routine_p265, zb_X13_nameDeclarations_p2, i_nat' (show n2 < 2147483648 by omega)]
      refine PS_ln (by simp) (PS_rn (i_nn (by omega)) ?_)
      exact kc _ _ rfl rfl
    · have hw2 := H2.1.nw hnu
      have ht2 := H2.1.1.2.2 n htm
      have hT2 := H2.1.1.2.1
      refine PS_of (fun Q h => zt_X6_routine_p265 (by omega) h) (fun Q h => zt_X13_nameDeclarations_p2 (by omega) h) ?_
      simp only [zb_X6_routine_p265, zb_X13_nameDeclarations_p2]
      refine PS_lp trivial (PS_lex p rfl (PS_land hw2.1 (PS_rp (by decide) (PS_r (fun Q a => fun _ => a) ?_))))
      simp only [zb_X13_nameUnit_p121, i_nat' (show n < 2147483648 by omega), ht2 29 rfl, h29, hw2.2.1 4 (by decide), hqb]
      refine PS_rand (hT2.i rfl hm) (PS_rn (i_nn (by omega)) (PS_rand (hT2.i rfl hm) ?_))
      refine n_cp IH hs H2 hk2 (by decide) ⟨by decide, by decide⟩ hqb hCb hXb (by omega) (by omega) (fun S3 T3 H3 hT3 hk3 hu3 hx3 hsm3 hG3 => ?_)
      have hw3 := H3.1.nw hnu
      have ht3 := H3.1.1.2.2 n htm
      have hT3' := H3.1.1.2.1
      simp only [zb_X13_nameUnit_p140, i_nat' (show n < 2147483648 by omega), ht3 41 rfl, h41, hw3.2.1 6 (by decide), hqe]
      refine PS_rn (by decide) (PS_rand (hT3'.i rfl hm) ?_)
      refine n_ch (n_EX hs f) hs H3 hk3 (by decide) ⟨by decide, by decide⟩ hqe hCe hXe (by omega) (by omega) (fun S4 T4 H4 hT4 hn4 hx4 hsm4 hG4 => ?_)
      have hu4 : S4.u = S3.u := congrArg Prod.fst hn4.2.2.2
      have hT2' := H2.2.2.2.2.1.1
      refine kk S4 _ ks (H4.wk (fun i hi => by simp at hi ⊢; omega)) (hk3.nd hn4) (hu4.trans (hu3.trans hu2)) ((hx2.tr hx3 (.inl hu2)).tr hx4 (.inl (hu3.trans hu2))) (((hsm2 p H.2.2.1.1).tr (hsm3 p H2.2.2.1.1)).tr (hsm4 p H3.2.2.1.1)) (fun e => ?_)
      · obtain ⟨a1, a2⟩ := min_nof H3.2.2.2.2.1.1 hT4 e
        obtain ⟨a3, a4⟩ := min_nof hT2' hT3 a1
        obtain ⟨-, L2, a5⟩ := hG2 a3
        refine .inr (.inr ⟨rfl, h11, L2, ks ++ kf, ?_, fun q hq => ?_, fun q hq => ?_⟩)
        · rw [hu4.trans (hu3.trans hu2)]
          exact a5.imp (fun _ _ _ h => (NS.nx H2.1 hx3 h).nx H3.1 hx4)
        · rw [hqb] at hq
          cases hq
          rw [hu4.trans hu3]
          exact (hG3 a4).nx H3.1 hx4
        · rw [hqe] at hq
          cases hq
          exact hG4 a2
end RTN
