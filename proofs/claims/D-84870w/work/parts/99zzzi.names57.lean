/-! ===== ROUNDS, part 59: the round of names, whole ===== -/
section NMW
variable {D : pD} {V : pV} {nu : pN} {tn : Nat → Prop} {rt p q n nr r d j k k0 f s u y l lm c i : Nat} {w w1 w2 w' t t5 : wS} {al : List Nat} {v bf : Option Nat} {x x1 x2 x3 x4 x5 x6 v1 v2 : Int32} {L L' : Nat} {E E' : zE} {ol : Option Int32} {Q : kx_Rs → wS → Prop} {ss : List Int}
/-- the twin's first two names -/
def tA0 (t : wS) : wS := ws_i (ws_a (ws_a (ws_i (ws_i (ws_i (ws_i t 12 0 44 0) 12 0 56 0) 12 0 58 0) 12 0 59 1) 12 0 61 0 0) 12 0 60 0 (-1)) 12 0 62 0
def tE0 (t : wS) (v1 v2 : Int32) : wS := tkn (tsy (tkn (tsy (tA0 t) 0 0 v1 3 1 (-1) (-1) 0) 0 (i_ (0 : Nat))) 1 0 v2 3 0 (-1) (-1) 0) 1 (i_ (1 : Nat))
theorem tA0_fr : FTn t (tA0 t) := ((((((frm_i (by decide)).tr (frm_i (by decide))).tr (frm_i (by decide))).tr (frm_i (by decide))).tr (FTn_a rfl)).tr (FTn_a rfl)).tr (frm_i (by decide))
theorem tkn_fr {m : Nat} : FTn t (tkn t m x) := (FTn_a rfl).tr (frm_i (by decide))
theorem tE0_fr : FTn t (tE0 t v1 v2) := (((tA0_fr.tr tsy_fr).tr tkn_fr).tr tsy_fr).tr tkn_fr
theorem tkn_a {m : Nat} (hk : k ≠ 57) : w_a (tkn t m x) 12 0 k j = w_a t 12 0 k j := by
  unfold tkn
  rw [Rai, Raa, if_neg (fun z => hk z.1)]
theorem tkn_57 {m : Nat} : w_a (tkn t m x) 12 0 57 m = x ∧ ∀ j, j ≠ m → w_a (tkn t m x) 12 0 57 j = w_a t 12 0 57 j := by
  unfold tkn
  refine ⟨by rw [Rai, Raa, if_pos ⟨rfl, rfl, rfl, rfl⟩], fun j hj => by rw [Rai, Raa, if_neg (fun z => hj z.2.2.2)]⟩
theorem tkn_i {m : Nat} (hk : k ≠ 56) : w_i (tkn t m x) 12 0 k = w_i t 12 0 k := by
  unfold tkn
  rw [Rii, if_neg (fun z => hk z.1)]
  rfl
theorem tkn_56 {m : Nat} : w_i (tkn t m x) 12 0 56 = i_ (m + 1 : Nat) := by
  unfold tkn
  rw [Rii, if_pos ⟨rfl, rfl, rfl⟩]
theorem tA0_i : w_i (tA0 t) 12 0 44 = i_ (0 : Nat) ∧ w_i (tA0 t) 12 0 56 = i_ (0 : Nat) ∧ w_i (tA0 t) 12 0 59 = i_ (1 : Nat) ∧ w_i (tA0 t) 12 0 62 = i_ (0 : Nat) ∧ w_i (tA0 t) 12 0 43 = w_i t 12 0 43 ∧ w_i (tA0 t) 12 0 64 = w_i t 12 0 64 ∧ w_i (tA0 t) 12 0 65 = w_i t 12 0 65 := by
  have hk : ∀ k, w_i (tA0 t) 12 0 k = if k = 62 then 0 else if k = 59 then 1 else if k = 58 then 0 else if k = 56 then 0 else if k = 44 then 0 else w_i t 12 0 k := fun k => by
    unfold tA0
    simp only [Rii, Ria]
    simp
  refine ⟨?_, ?_, ?_, ?_, ?_, ?_, ?_⟩ <;> rw [hk] <;> rfl
theorem tA0_a : w_a (tA0 t) 12 0 60 0 = -1 ∧ w_a (tA0 t) 12 0 61 0 = 0 := by
  unfold tA0
  constructor
  · rw [Rai, Raa, if_pos ⟨rfl, rfl, rfl, rfl⟩]
  · rw [Rai, Raa, if_neg (fun z => absurd z.1 (by decide)), Raa, if_pos ⟨rfl, rfl, rfl, rfl⟩]
theorem tE0_f : (w_i (tE0 t v1 v2) 12 0 44 = i_ (2 : Nat) ∧ w_i (tE0 t v1 v2) 12 0 59 = i_ (1 : Nat) ∧ w_i (tE0 t v1 v2) 12 0 62 = i_ (0 : Nat) ∧ w_i (tE0 t v1 v2) 12 0 56 = i_ (2 : Nat)) ∧ (w_a (tE0 t v1 v2) 12 0 57 0 = i_ (0 : Nat) ∧ w_a (tE0 t v1 v2) 12 0 57 1 = i_ (1 : Nat)) ∧ (w_a (tE0 t v1 v2) 12 0 60 0 = -1 ∧ w_a (tE0 t v1 v2) 12 0 61 0 = i_ (2 : Nat)) ∧ PRT (tE0 t v1 v2) 0 1 0 v1 ∧ PRT (tE0 t v1 v2) 1 0 1 v2 ∧ (w_i (tE0 t v1 v2) 12 0 43 = w_i t 12 0 43 ∧ w_i (tE0 t v1 v2) 12 0 64 = w_i t 12 0 64 ∧ w_i (tE0 t v1 v2) 12 0 65 = w_i t 12 0 65) := by
  obtain ⟨a1, a2, a3, a4, a5, a6, a7⟩ := tA0_i (t := t)
  obtain ⟨b1, b2⟩ := tA0_a (t := t)
  have l1 : lz 3 (-1) = 1 := by decide
  have s0 := tsy_s (t := tA0 t) (s := 0) (u := 0) (x1 := v1) (x2 := 3) (x3 := 1) (x4 := -1) (x5 := -1) (x6 := 0)
  have u0 := (tsy_61 (t := tA0 t) (s := 0) (u := 0) (x1 := v1) (x2 := 3) (x3 := 1) (x4 := -1) (x5 := -1) (x6 := 0)).1
  obtain ⟨tB, hB⟩ : ∃ tB, tB = tsy (tA0 t) 0 0 v1 3 1 (-1) (-1) 0 := ⟨_, rfl⟩
  have iB : ∀ k, k ≠ 44 → w_i tB 12 0 k = w_i (tA0 t) 12 0 k := fun k hk => by rw [hB]; exact tsy_i hk
  have i44 : w_i tB 12 0 44 = i_ (1 : Nat) := by rw [hB]; exact tsy_44
  have k60 : w_a tB 12 0 60 0 = -1 := by rw [hB, tsy_k (by decide) (by decide)]; exact b1
  rw [← hB] at s0 u0
  rw [b2, l1] at u0
  obtain ⟨tC, hC⟩ : ∃ tC, tC = tkn tB 0 (i_ (0 : Nat)) := ⟨_, rfl⟩
  have aC : ∀ k j, k ≠ 57 → w_a tC 12 0 k j = w_a tB 12 0 k j := fun k j hk => by rw [hC]; exact tkn_a hk
  have iC : ∀ k, k ≠ 56 → w_i tC 12 0 k = w_i tB 12 0 k := fun k hk => by rw [hC]; exact tkn_i hk
  have c57 : w_a tC 12 0 57 0 = i_ (0 : Nat) := by rw [hC]; exact tkn_57.1
  have c61 : w_a tC 12 0 61 0 = 1 := by rw [aC 61 0 (by decide), u0]; rfl
  have s1 := tsy_s (t := tC) (s := 1) (u := 0) (x1 := v2) (x2 := 3) (x3 := 0) (x4 := -1) (x5 := -1) (x6 := 0)
  have u1 := (tsy_61 (t := tC) (s := 1) (u := 0) (x1 := v2) (x2 := 3) (x3 := 0) (x4 := -1) (x5 := -1) (x6 := 0)).1
  obtain ⟨tD, hD⟩ : ∃ tD, tD = tsy tC 1 0 v2 3 0 (-1) (-1) 0 := ⟨_, rfl⟩
  have iD : ∀ k, k ≠ 44 → w_i tD 12 0 k = w_i tC 12 0 k := fun k hk => by rw [hD]; exact tsy_i hk
  have d44 : w_i tD 12 0 44 = i_ (2 : Nat) := by rw [hD]; exact tsy_44
  have oD : ∀ k, k ≠ 61 → w_a tD 12 0 k 0 = w_a tC 12 0 k 0 := fun k hk => by rw [hD]; exact tsy_o (by decide) (.inl hk)
  rw [← hD] at s1 u1
  rw [c61, l1] at u1
  have hE : tE0 t v1 v2 = tkn tD 1 (i_ (1 : Nat)) := by rw [hD, hC, hB]; rfl
  rw [hE]
  have aE : ∀ k j, k ≠ 57 → w_a (tkn tD 1 (i_ (1 : Nat))) 12 0 k j = w_a tD 12 0 k j := fun k j hk => tkn_a hk
  have iE : ∀ k, k ≠ 56 → w_i (tkn tD 1 (i_ (1 : Nat))) 12 0 k = w_i tD 12 0 k := fun k hk => tkn_i hk
  refine ⟨⟨?_, ?_, ?_, tkn_56⟩, ⟨?_, tkn_57.1⟩, ⟨?_, ?_⟩, ⟨⟨?_, ?_, ?_, ?_, ?_⟩, ?_, ?_, ?_, ?_⟩, ⟨⟨?_, ?_, ?_, ?_, ?_⟩, ?_, ?_, ?_, ?_⟩, ?_, ?_, ?_⟩
  · rw [iE 44 (by decide)]; exact d44
  · rw [iE 59 (by decide), iD 59 (by decide), iC 59 (by decide), iB 59 (by decide)]; exact a3
  · rw [iE 62 (by decide), iD 62 (by decide), iC 62 (by decide), iB 62 (by decide)]; exact a4
  · rw [tkn_57.2 0 (by decide), oD 57 (by decide)]; exact c57
  · rw [aE 60 0 (by decide), oD 60 (by decide), aC 60 0 (by decide)]; exact k60
  · rw [aE 61 0 (by decide), u1]; rfl
  · rw [aE 45 0 (by decide), oD 45 (by decide), aC 45 0 (by decide)]; exact s0.1.1
  · rw [aE 46 0 (by decide), oD 46 (by decide), aC 46 0 (by decide)]; exact s0.1.2.1
  · rw [aE 47 0 (by decide), oD 47 (by decide), aC 47 0 (by decide)]; exact s0.1.2.2.1
  · rw [aE 48 0 (by decide), oD 48 (by decide), aC 48 0 (by decide)]; exact s0.1.2.2.2.1
  · rw [aE 49 0 (by decide), oD 49 (by decide), aC 49 0 (by decide)]; exact s0.1.2.2.2.2.1
  · rw [aE 51 0 (by decide), oD 51 (by decide), aC 51 0 (by decide)]; exact s0.2.1
  · rw [aE 52 0 (by decide), oD 52 (by decide), aC 52 0 (by decide), s0.2.2.1, b2]; rfl
  · rw [aE 53 0 (by decide), oD 53 (by decide), aC 53 0 (by decide)]; exact s0.2.2.2.1
  · rw [aE 54 0 (by decide), oD 54 (by decide), aC 54 0 (by decide)]; exact s0.2.2.2.2.1
  · rw [aE 45 1 (by decide)]; exact s1.1.1
  · rw [aE 46 1 (by decide)]; exact s1.1.2.1
  · rw [aE 47 1 (by decide)]; exact s1.1.2.2.1
  · rw [aE 48 1 (by decide)]; exact s1.1.2.2.2.1
  · rw [aE 49 1 (by decide)]; exact s1.1.2.2.2.2.1
  · rw [aE 51 1 (by decide)]; exact s1.2.1
  · rw [aE 52 1 (by decide), s1.2.2.1, c61]; rfl
  · rw [aE 53 1 (by decide)]; exact s1.2.2.2.1
  · rw [aE 54 1 (by decide)]; exact s1.2.2.2.2.1
  · rw [iE 43 (by decide), iD 43 (by decide), iC 43 (by decide), iB 43 (by decide)]; exact a5
  · rw [iE 64 (by decide), iD 64 (by decide), iC 64 (by decide), iB 64 (by decide)]; exact a6
  · rw [iE 65 (by decide), iD 65 (by decide), iC 65 (by decide), iB 65 (by decide)]; exact a7
/-- what the round of names brings -/
def NMO (D : pD) (V : pV) (nu : pN) (tn : Nat → Prop) (rt f : Nat) (w t : wS) (r : kx_Rs) (w' : wS) (r' : kx_Rs) (t' : wS) : Prop := ∃ (S' : nS) (T : Int), (r = .inl none ∧ r' = .inl none ∧ S'.w = w' ∧ S'.t = t') ∧ IVN D V nu tn rt S' ∧ (FN w w' ∧ FTn t t') ∧ (FTK T ∧ fcc w' = min (fcc w) T ∧ fct t' = min (fct t) T) ∧ KRE S' [1, 0] ∧ S'.u = 0 ∧ (T = NOF → NS V nu S' f 0 [1, 0] rt [1, 0])
theorem n_NAMES (hs : STR D V nu tn rt) (hC : CHx V tn nu k0 ol nr rt d) (hK : KX V nu f 1 rt) (hT : TRCn D V nu w ∧ TRTn V tn t) (hS : SSO D.1 w al 0) (hf : fkk (w_i w 2 0 1) ∧ fkk (w_i t 12 0 64)) (h43 : w_i t 12 0 43 = i_ nr) (hl : w_n t 12 0 14 = 6001 ∧ w_n t 12 0 15 = 6001 ∧ w_n t 12 0 16 = 6000) (hN : NT3 t D.2.2.1 lm) (hc : (36 < D.2.1.length ∧ D.2.1.getD 36 [] = sScr) ∧ (37 < D.2.1.length ∧ D.2.1.getD 37 [] = sKey)) (hA' : zA E') (hL : 75 * k0 + 400 ≤ L) (hL' : 75 * k0 + 400 ≤ L') : PS (fun Q => zw D.1 L kt_M146 [.ref (w_adr D.1.2.1 5 0), va_rf (some rt)] w Q) (fun Q => zw E' L' kt_M487 [.ref (w_adr E'.2.1 12 0)] t Q) (NMO D V nu tn rt f w t) := by
  have hT3 := hT.2.1
  have hTA : TLN (tA0 t) := hT3.fr tA0_fr
  obtain ⟨a1, a2, a3, a4, a5, a6, a7⟩ := tA0_i (t := t)
  have hNA : NT3 (tA0 t) D.2.2.1 lm := hN.frm tA0_fr ⟨rfl, rfl, rfl, rfl, rfl⟩
  obtain ⟨v1, hv1, g1⟩ := t_wordNm (E := E') (L := L' - 24) (t := tA0 t) (c := 36) (i := 66) (D := D) hA' (by omega) sCon_66 hl hNA ⟨hc.1.1, by decide, hc.1.2⟩
  have hTB : TLN (tsy (tA0 t) 0 0 v1 3 1 (-1) (-1) 0) := hTA.fr tsy_fr
  have h56B : w_i (tsy (tA0 t) 0 0 v1 3 1 (-1) (-1) 0) 12 0 56 = i_ (0 : Nat) := (tsy_i (by decide)).trans a2
  have hTC : TLN (tkn (tsy (tA0 t) 0 0 v1 3 1 (-1) (-1) 0) 0 (i_ (0 : Nat))) := hTB.fr tkn_fr
  have hNC : NT3 (tkn (tsy (tA0 t) 0 0 v1 3 1 (-1) (-1) 0) 0 (i_ (0 : Nat))) D.2.2.1 lm := hNA.frm (tsy_fr.tr tkn_fr) ⟨rfl, rfl, rfl, rfl, rfl⟩
  obtain ⟨v2, hv2, g2⟩ := t_wordNm (E := E') (L := L' - 24) (t := tkn (tsy (tA0 t) 0 0 v1 3 1 (-1) (-1) 0) 0 (i_ (0 : Nat))) (c := 37) (i := 67) (D := D) hA' (by omega) sCon_67 hl hNC ⟨hc.2.1, by decide, hc.2.2⟩
  have h44C : w_i (tkn (tsy (tA0 t) 0 0 v1 3 1 (-1) (-1) 0) 0 (i_ (0 : Nat))) 12 0 44 = i_ (1 : Nat) := (tkn_i (by decide)).trans tsy_44
  have h62C : w_i (tkn (tsy (tA0 t) 0 0 v1 3 1 (-1) (-1) 0) 0 (i_ (0 : Nat))) 12 0 62 = i_ (0 : Nat) := (tkn_i (by decide)).trans ((tsy_i (by decide)).trans a4)
  have h56D : w_i (tsy (tkn (tsy (tA0 t) 0 0 v1 3 1 (-1) (-1) 0) 0 (i_ (0 : Nat))) 1 0 v2 3 0 (-1) (-1) 0) 12 0 56 = i_ (1 : Nat) := (tsy_i (by decide)).trans tkn_56
  obtain ⟨e1, e2, e3, e4, e5, e43, e64, e65⟩ := tE0_f (t := t) (v1 := v1) (v2 := v2)
  have hTE : TRTn V tn (tE0 t v1 v2) := by
    refine ⟨hT3.fr tE0_fr, fun n hn k hk => ?_⟩
    have hk1 : k ≠ 57 ∧ k ≠ 61 ∧ k ≠ 60 ∧ (k < 45 ∨ 55 < k) ∧ k ≠ 68 ∧ k ≠ 71 ∧ k ≠ 95 := by
      unfold tlr at hk
      simp only [Bool.or_eq_true, Bool.and_eq_true, Nat.ble_eq, Nat.beq_eq] at hk
      omega
    have hh : w_a (tE0 t v1 v2) 12 0 k n = w_a t 12 0 k n := by
      unfold tE0
      rw [tkn_a hk1.1, tsy_k hk1.2.2.2.1 ⟨hk1.2.1, hk1.2.2.2.2⟩, tkn_a hk1.1, tsy_k hk1.2.2.2.1 ⟨hk1.2.1, hk1.2.2.2.2⟩]
      unfold tA0
      rw [Rai, Raa, if_neg (fun z => hk1.2.2.1 z.1), Raa, if_neg (fun z => hk1.2.1 z.1)]
      rfl
    rw [hh]
    exact hT.2.2 n hn k hk
  refine PS_r (fun Q h => zt_X13_names_p0 (by omega) h) ?_
  simp only [zb_X13_names_p0, show (0 : Int32).toNatClampNeg = 0 from rfl]
  refine PS_rand (hT3.sy (n := 0) rfl (by decide)) (PS_rand (hT3.sy (n := 0) rfl (by decide)) ?_)
  refine PS_r1 (t2 := tA0 t) (fun Q hq => g1 Q hq) ?_
  refine PS_r1 (fun Q hq => t_symbol0 (t := tA0 t) (s := 0) (u := 0) hTA a1 a4 (by decide) (by decide) (by omega) hq) ?_
  refine PS_r0 (fun Q hq => t_know (t := tsy (tA0 t) 0 0 v1 3 1 (-1) (-1) 0) (m := 0) hTB (by decide) h56B (by omega) hq) ?_
  refine PS_r1 (fun Q hq => g2 Q hq) ?_
  refine PS_r1 (fun Q hq => t_symbol0 (s := 1) (u := 0) hTC h44C h62C (by decide) (by decide) (by omega) hq) ?_
  refine PS_r0 (fun Q hq => t_know (m := 1) (hTC.fr tsy_fr) (by decide) h56D (by omega) hq) ?_
  have hE : tkn (tsy (tkn (tsy (tA0 t) 0 0 v1 3 1 (-1) (-1) 0) 0 (i_ (0 : Nat))) 1 0 v2 3 0 (-1) (-1) 0) 1 (i_ (1 : Nat)) = tE0 t v1 v2 := rfl
  rw [hE, e43, h43]
  -- MeetingHouse
  refine c_lookN hS (by omega) (fun al2 wd A1 A2 hci => ?_)
  obtain ⟨h1, h2, h3, h4, h5, h6, h7, h8⟩ := hci
  have hI : IVN D V nu tn rt (nS0 wd (tE0 t v1 v2) al2 A1 A2) := IVN.ini ⟨hT.1.mn h7.2.1 (fun a k => (h8 a k).1) (fun a k => (h8 a k).2), hTE⟩ h1 h2 h3 h4 h5 e4 e5 ⟨hv1, hv2⟩ e1 e2 e3 ⟨by rw [h6.1]; exact hf.1, by rw [e64]; exact hf.2⟩
  have hnk := hC.nk hs
  have hv : VOK V nu rt (nS0 wd (tE0 t v1 v2) al2 A1 A2) rt := ⟨⟨List.not_mem_nil, hnk.1, hnk.2⟩, fun _ h => h, .inl rfl⟩
  have hch := (n_ALL (E' := E') hs f f (Nat.le_refl _)).1 (nS0 wd (tE0 t v1 v2) al2 A1 A2) [1, 0] rt nr d k0 ol (L - 23) (L' - 22) hI hC hK hv ⟨rfl, rfl⟩ (by omega) (by omega)
  refine PS_bind (gc1 := fun Q => zw D.1 (L - 23) kt_M149 [.ref (w_adr D.1.2.1 5 0), va_rf (some rt)] wd Q) (gt1 := fun Q => zw E' (L' - 22) kt_M473 [.ref (w_adr E'.2.1 12 0), .int (i_ nr)] (tE0 t v1 v2) Q) hch (fun r1 w2 r2 t2 hb => ?_)
  obtain ⟨S', T, ⟨c1, c2, c3, c4⟩, hI', hH, ⟨-, -, -, hu'⟩, -, ⟨hT1, hT2, hT3'⟩, hA, hG⟩ := hb
  subst c1 c2 c3 c4
  have hfc : fcc wd = fcc w := by
    unfold fcc
    rw [h6.1, h6.2]
  have hft : fct (tE0 t v1 v2) = fct t := by
    unfold fct
    rw [e64, e65]
  refine PS_l (fun Q a => fun _ => a) (PS_r (fun Q a => fun _ => a) (PS_ret ⟨S', T, ⟨rfl, rfl, rfl, rfl⟩, hI', ⟨h7.tr hH.1.1, tE0_fr.tr hH.1.2⟩, ⟨hT1, hT2.trans (by show min (fcc wd) T = _; rw [hfc]), hT3'.trans (by show min (fct (tE0 t v1 v2)) T = _; rw [hft])⟩, hA.1, hu', hG⟩))
end NMW
