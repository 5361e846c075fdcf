/-! ===== ROUNDS, part 58: names() against Names.look ===== -/
section NMR
variable {D : pD} {V : pV} {nu : pN} {tn : Nat → Prop} {rt p q n nr r d j k k0 f s u y l lm c i : Nat} {w w1 w2 w' t t5 : wS} {al : List Nat} {v v1 v2 bf : Option Nat} {x x1 x2 x3 x4 x5 x6 : Int32} {L L' : Nat} {E E' : zE} {ol : Option Int32} {Q : kx_Rs → wS → Prop} {ss : List Int}
theorem t_wordNm (hA : zA E) (hL : 120 ≤ L) (hs : sCon i ss) (hl : w_n t 12 0 14 = 6001 ∧ w_n t 12 0 15 = 6001 ∧ w_n t 12 0 16 = 6000) (hN : NT3 t D.2.2.1 lm) (hc : c < D.2.1.length ∧ c < 1400 ∧ D.2.1.getD c [] = ss) : ∃ v : Int32, nmS D (i_ c) v ∧ ∀ Q : kx_Rs → wS → Prop, Q (.inl (some (.int v))) t → zw E L kt_M603 [.ref (w_adr E.2.1 12 0), va_rf (some (E.1.2.1 i))] t Q := by
  have hlen := hN.2.1.1
  have hnd := hN.2.2.2.1
  by_cases e : ∃ m, m < D.2.2.1.length ∧ D.2.2.1.getD m [] = ss
  · obtain ⟨m, hm, em⟩ := e
    refine ⟨i_ m, .inl ⟨c, m, ⟨rfl, rfl⟩, ⟨hc.1, hm, hc.2.1, by omega⟩, hc.2.2.trans em.symm⟩, fun Q hq => zt_X13_wordName_p0 (by omega) (t_wn_loop hA (by omega) hs hl hN (fun m' hm' e' => ?_) (fun h => absurd em (h m hm)) D.2.2.1.length 0 (Nat.zero_add _) (fun k hk => absurd hk (Nat.not_lt_zero k)))⟩
    rw [getD_inj hnd hm' hm (e'.trans em.symm)]
    exact hq
  · refine ⟨-9, .inr ⟨rfl, c, rfl, ⟨hc.1, hc.2.1⟩, fun c' hc' e' => e ⟨c', hc', e'.trans hc.2.2⟩⟩, fun Q hq => zt_X13_wordName_p0 (by omega) (t_wn_loop hA (by omega) hs hl hN (fun m' hm' e' => absurd ⟨m', hm', e'⟩ e) (fun _ => hq) D.2.2.1.length 0 (Nat.zero_add _) (fun k hk => absurd hk (Nat.not_lt_zero k)))⟩
theorem TRCn.mn (h : TRCn D V nu w) (hle : wle w w') (hi : ∀ a k, w_i w' 14 a k = w_i w 14 a k) (hp : ∀ a k, w_p w' 14 a k = w_p w 14 a k) : TRCn D V nu w' := fun a ha => by
  obtain ⟨h1, h2, h3, h4⟩ := h a ha
  exact ⟨w_l_le h1 hle, fun k hk => (hp a k).trans (h2 k hk), fun k hk => (hi a k).trans (h3 k hk), h4.imp id (fun h4 => (hi a 10).trans h4)⟩
/-- MeetingHouse's first two names -/
def CIN (D : pD) (w wd : wS) (al : List Nat) (A1 A2 : Nat) : Prop := SSO D.1 wd al 2 ∧ (A1 ∈ al.take 2 ∧ A2 ∈ al.take 2 ∧ A1 ≠ A2) ∧ PRC D wd A1 36 2 0 none ∧ PRC D wd A2 37 1 1 (some A1) ∧ (w_p wd 5 0 3 = some A2 ∧ w_i wd 5 0 4 = i_ (2 : Nat)) ∧ (w_i wd 2 0 1 = w_i w 2 0 1 ∧ w_i wd 2 0 2 = w_i w 2 0 2) ∧ FN w wd ∧ (∀ a k, w_i wd 14 a k = w_i w 14 a k ∧ w_p wd 14 a k = w_p w 14 a k)
/-- one of them -/
theorem c_pre {Kc : (kx_Rs → wS → Prop) → kx_Rs → wS → Prop} {gt : pQ} {Φ : kx_Rs → wS → kx_Rs → wS → Prop} {m : Nat} (hS : SSO D.1 w al m) (hm : m < 100) (hL : 200 ≤ L) (kk : ∀ (A : Nat) (al' : List Nat) (w2 : wS), SSO D.1 w2 al' (m + 1) → al <+: al' → (A ∈ al'.take (m + 1) ∧ A ∉ al.take m) → sdr w2 A (some (D.1.1.1 53)) x2 0 → (∀ a k, a ≠ A → a < w_z w → w_i w2 15 a k = w_i w 15 a k ∧ w_p w2 15 a k = w_p w 15 a k) → (w_p w2 5 0 3 = w_p w 5 0 3 ∧ w_i w2 5 0 4 = w_i w 5 0 4) → (w_i w2 2 0 1 = w_i w 2 0 1 ∧ w_i w2 2 0 2 = w_i w 2 0 2) → FN w w2 → (∀ a k, w_i w2 14 a k = w_i w 14 a k ∧ w_p w2 14 a k = w_p w 14 a k) → PS (fun Q => Kc Q (.inl (some (va_rf (some A)))) (dcl w2 A)) gt Φ) : PS (fun Q => zw D.1 L kt_M137 [.ref (w_adr D.1.2.1 5 0), va_rf (some (D.1.1.1 53)), .int x2, .int 0] w (Kc Q)) gt Φ := by
  refine PS_l (fun Q h => zt_X6_declare_p0 (by omega) h) ?_
  simp only [zb_X6_declare_p0]
  refine PS_lce (c_symbol (x1 := some (D.1.1.1 53)) (by omega) hS (by omega)) (fun rs w2 hle hb => ?_)
  obtain ⟨A, al', e, hpre, hSS, hget, hnot, hsd, hold, hfx, hz, -, -, -⟩ := hb
  subst e
  have hAm : A ∈ al'.take (m + 1) := by
    have hlen : m < al'.length := by have := hSS.1.2.1; omega
    rw [← hget, List.getD_eq_getElem?_getD, List.getElem?_eq_getElem hlen]
    exact List.mem_take_iff_getElem.mpr ⟨m, by omega, rfl⟩
  have hlA := (hSS.2.2.2.2.1 A (List.mem_of_mem_take hAm)).1
  refine PS_l (fun Q a => wkr_k (x := some A) a) (PS_lex A rfl (PS_land hlA ?_))
  exact kk A al' w2 hSS hpre ⟨hAm, hnot⟩ hsd hold ⟨(hfx 5 3 rfl 0).1.2.2, (hfx 5 4 rfl 0).1.1⟩ ⟨(hfx 2 1 rfl 0).1.1, (hfx 2 2 rfl 0).1.1⟩ ⟨hfx.Nm, hle, hz⟩ (fun a k => ⟨(hfx 14 k rfl a).1.1, (hfx 14 k rfl a).1.2.2⟩)
/-- both -/
theorem c_lookN {gt : pQ} {Φ : kx_Rs → wS → kx_Rs → wS → Prop} {x0 : Option Nat} (hS : SSO D.1 w al 0) (hL : 300 ≤ L) (kk : ∀ (al2 : List Nat) (wd : wS) (A1 A2 : Nat), CIN D w wd al2 A1 A2 → PS (fun Q => zw D.1 (L - 23) kt_M149 [.ref (w_adr D.1.2.1 5 0), va_rf x0] wd (wk0 (fun w7 => wle wd w7 → Q (.inl none) w7) (fun e w => Q (.inr e) w))) gt Φ) : PS (fun Q => zw D.1 L kt_M146 [.ref (w_adr D.1.2.1 5 0), va_rf x0] w Q) gt Φ := by
  refine PS_l (fun Q h => zt_X6_look_p0 (by omega) h) ?_
  simp only [zb_X6_look_p0]
  have hS0 : SSO D.1 (ws_i (ws_p w 5 0 3 none) 5 0 4 0) al 0 := (hS.p).i (by decide)
  refine c_pre hS0 (by decide) (by omega) (fun A1 al1 w2 hS1 hp1 hA1 hd1 ho1 h51 h21 hf1 h141 => ?_)
  have hlA1 := (hS1.2.2.2.2.1 A1 (List.mem_of_mem_take hA1.1))
  refine PS_l (fun Q a => wkr_k (x := some A1) a) (PS_lex A1 rfl (PS_land hlA1.1 ?_))
  obtain ⟨wb, hwb⟩ : ∃ wb, wb = ws_i (ws_p (dcl w2 A1) 5 0 5 (some A1)) 15 A1 5 2 := ⟨_, rfl⟩
  rw [← hwb]
  have hSb : SSO D.1 wb al1 1 := by
    rw [hwb]
    unfold dcl
    exact ((((((hS1.p).i (by decide)).i (by decide)).p).p).i (by decide))
  refine c_pre hSb (by decide) (by omega) (fun A2 al2 w4 hS2 hp2 hA2 hd2 ho2 h52 h22 hf2 h142 => ?_)
  have hlA2 := (hS2.2.2.2.2.1 A2 (List.mem_of_mem_take hA2.1))
  refine PS_l (fun Q a => wkr_k (x := some A2) a) (PS_lex A2 rfl (PS_land hlA2.1 ?_))
  have hne : A1 ≠ A2 := fun e => hA2.2 (by rw [← e]; exact hA1.1)
  have hz1 : A1 < w_z wb := by
    rw [hwb]
    exact hlA1.2
  obtain ⟨⟨d0, d1, -⟩, ⟨d4, d15, -⟩, d3, d5, -, -, -, d9, -, d11, -, d13, d14, -⟩ := hd1
  obtain ⟨⟨f0, f1, -⟩, ⟨f4, f15, -⟩, f3, f5, -, -, -, f9, -, f11, -, f13, f14, -⟩ := hd2
  have e53 : w_p w2 5 0 3 = none := by
    rw [h51.1, Rpi, Rpp, if_pos ⟨rfl, rfl, rfl⟩]
  have e54 : w_i w2 5 0 4 = 0 := by
    rw [h51.2, Rii, if_pos ⟨rfl, rfl, rfl⟩]
  have b53 : w_p wb 5 0 3 = some A1 := by
    rw [hwb, Rpi, Rpp, if_neg (fun z => absurd z.1 (by decide))]
    unfold dcl
    rw [Rpp, if_pos ⟨rfl, rfl, rfl⟩]
  have b54 : w_i wb 5 0 4 = i_ (1 : Nat) := by
    rw [hwb]
    unfold dcl
    simp only [Rii, Rgi, Rpi, Rai, Rbi, Rri, Rni, Rdi, Roi, Rti, Rzi, RCi, RSi, Rip, Rgp, Rpp, Rap, Rbp, Rrp, Rnp, Rdp, Rop, Rtp, Rzp, RCp, RSp]
    simp [e54]
    rfl
  have bi : ∀ k, k ≠ 3 → k ≠ 5 → w_i wb 15 A1 k = w_i w2 15 A1 k := fun k h3 h5 => by
    rw [hwb]
    unfold dcl
    simp only [Rii, Rgi, Rpi, Rai, Rbi, Rri, Rni, Rdi, Roi, Rti, Rzi, RCi, RSi, Rip, Rgp, Rpp, Rap, Rbp, Rrp, Rnp, Rdp, Rop, Rtp, Rzp, RCp, RSp]
    simp [h3, h5]
  have bp : ∀ k, k ≠ 4 → w_p wb 15 A1 k = w_p w2 15 A1 k := fun k h3 => by
    rw [hwb]
    unfold dcl
    simp only [Rii, Rgi, Rpi, Rai, Rbi, Rri, Rni, Rdi, Roi, Rti, Rzi, RCi, RSi, Rip, Rgp, Rpp, Rap, Rbp, Rrp, Rnp, Rdp, Rop, Rtp, Rzp, RCp, RSp]
    simp [h3]
  have b3 : w_i wb 15 A1 3 = 0 := by
    rw [hwb]
    unfold dcl
    simp only [Rii, Rgi, Rpi, Rai, Rbi, Rri, Rni, Rdi, Roi, Rti, Rzi, RCi, RSi, Rip, Rgp, Rpp, Rap, Rbp, Rrp, Rnp, Rdp, Rop, Rtp, Rzp, RCp, RSp]
    simp [e54]
  have b5 : w_i wb 15 A1 5 = 2 := by rw [hwb, Rii, if_pos ⟨rfl, rfl, rfl⟩]
  have b4 : w_p wb 15 A1 4 = none := by
    rw [hwb]
    unfold dcl
    simp only [Rii, Rgi, Rpi, Rai, Rbi, Rri, Rni, Rdi, Roi, Rti, Rzi, RCi, RSi, Rip, Rgp, Rpp, Rap, Rbp, Rrp, Rnp, Rdp, Rop, Rtp, Rzp, RCp, RSp]
    simp [e53]
  have b2 : (w_i wb 2 0 1 = w_i w 2 0 1 ∧ w_i wb 2 0 2 = w_i w 2 0 2) := by
    rw [hwb]
    unfold dcl
    simp only [Rii, Rgi, Rpi, Rai, Rbi, Rri, Rni, Rdi, Roi, Rti, Rzi, RCi, RSi, Rip, Rgp, Rpp, Rap, Rbp, Rrp, Rnp, Rdp, Rop, Rtp, Rzp, RCp, RSp]
    simp [h21.1, h21.2, Rii, Rip]
  have b14 : ∀ a k, w_i wb 14 a k = w_i w 14 a k ∧ w_p wb 14 a k = w_p w 14 a k := fun a k => by
    rw [hwb]
    unfold dcl
    simp only [Rii, Rgi, Rpi, Rai, Rbi, Rri, Rni, Rdi, Roi, Rti, Rzi, RCi, RSi, Rip, Rgp, Rpp, Rap, Rbp, Rrp, Rnp, Rdp, Rop, Rtp, Rzp, RCp, RSp]
    simp [(h141 a k).1, (h141 a k).2, Rii, Rip, Rpi, Rpp]
  have bF : FN w wb := by
    rw [hwb]
    unfold dcl
    exact ((((((((FN_p rfl).iz rfl).tr hf1).pz rfl).iz rfl).iz rfl).pz rfl).pz rfl).iz rfl
  obtain ⟨wd, hwd⟩ : ∃ wd, wd = ws_i (ws_p (dcl w4 A2) 5 0 6 (some A2)) 15 A2 5 1 := ⟨_, rfl⟩
  rw [← hwd]
  have ri1 : ∀ k, w_i wd 15 A1 k = w_i wb 15 A1 k := fun k => by
    rw [← (ho2 A1 k hne hz1).1, hwd]
    unfold dcl
    simp only [Rii, Rgi, Rpi, Rai, Rbi, Rri, Rni, Rdi, Roi, Rti, Rzi, RCi, RSi, Rip, Rgp, Rpp, Rap, Rbp, Rrp, Rnp, Rdp, Rop, Rtp, Rzp, RCp, RSp]
    simp [hne]
  have rp1 : ∀ k, w_p wd 15 A1 k = w_p wb 15 A1 k := fun k => by
    rw [← (ho2 A1 k hne hz1).2, hwd]
    unfold dcl
    simp only [Rii, Rgi, Rpi, Rai, Rbi, Rri, Rni, Rdi, Roi, Rti, Rzi, RCi, RSi, Rip, Rgp, Rpp, Rap, Rbp, Rrp, Rnp, Rdp, Rop, Rtp, Rzp, RCp, RSp]
    simp [hne]
  have ri2 : ∀ k, k ≠ 3 → k ≠ 5 → w_i wd 15 A2 k = w_i w4 15 A2 k := fun k h3 h5 => by
    rw [hwd]
    unfold dcl
    simp only [Rii, Rgi, Rpi, Rai, Rbi, Rri, Rni, Rdi, Roi, Rti, Rzi, RCi, RSi, Rip, Rgp, Rpp, Rap, Rbp, Rrp, Rnp, Rdp, Rop, Rtp, Rzp, RCp, RSp]
    simp [h3, h5]
  have rp2 : ∀ k, k ≠ 4 → w_p wd 15 A2 k = w_p w4 15 A2 k := fun k h3 => by
    rw [hwd]
    unfold dcl
    simp only [Rii, Rgi, Rpi, Rai, Rbi, Rri, Rni, Rdi, Roi, Rti, Rzi, RCi, RSi, Rip, Rgp, Rpp, Rap, Rbp, Rrp, Rnp, Rdp, Rop, Rtp, Rzp, RCp, RSp]
    simp [h3]
  have hlo : w_o wd = w_o w4 := by rw [hwd]; rfl
  refine kk al2 wd A1 A2 ⟨?_, ⟨?_, hA2.1, hne⟩, ⟨?_, ⟨?_, ?_, ?_, ?_, ?_⟩, ⟨?_, ?_, ?_⟩, ?_, ?_⟩, ⟨?_, ⟨?_, ?_, ?_, ?_, ?_⟩, ⟨?_, ?_, ?_⟩, ?_, ?_⟩, ⟨?_, ?_⟩, ⟨?_, ?_⟩, ?_, fun a k => ?_⟩
  · rw [hwd]
    unfold dcl
    exact ((((((hS2.p).i (by decide)).i (by decide)).p).p).i (by decide))
  · exact take_pre hp2 (by decide) hSb.1.2.1 hA1.1
  · have h := (hS2.2.2.2.2.1 A1 (List.mem_of_mem_take (take_pre hp2 (show 1 ≤ 2 by decide) hSb.1.2.1 hA1.1))).1
    unfold w_l at h ⊢
    rw [hlo]
    exact h
  · rw [ri1, bi 1 (by decide) (by decide), d1]
    rfl
  · rw [rp1, bp 0 (by decide), d0]
  · rw [ri1, bi 13 (by decide) (by decide), d13]
  · rw [ri1, b5]
    rfl
  · rw [rp1, bp 15 (by decide), d15]
  · rw [ri1, bi 9 (by decide) (by decide), d9]
  · rw [ri1, bi 11 (by decide) (by decide), d11]
  · rw [ri1, bi 14 (by decide) (by decide), d14]
  · rw [ri1, b3]
    rfl
  · rw [rp1, b4]
  · have h := hlA2.1
    unfold w_l at h ⊢
    rw [hlo]
    exact h
  · rw [ri2 1 (by decide) (by decide), f1]
    rfl
  · rw [rp2 0 (by decide), f0]
  · rw [ri2 13 (by decide) (by decide), f13]
  · rw [hwd, Rii, if_pos ⟨rfl, rfl, rfl⟩]
    rfl
  · rw [rp2 15 (by decide), f15]
  · rw [ri2 9 (by decide) (by decide), f9]
  · rw [ri2 11 (by decide) (by decide), f11]
  · rw [ri2 14 (by decide) (by decide), f14]
  · rw [hwd]
    unfold dcl
    simp only [Rii, Rgi, Rpi, Rai, Rbi, Rri, Rni, Rdi, Roi, Rti, Rzi, RCi, RSi, Rip, Rgp, Rpp, Rap, Rbp, Rrp, Rnp, Rdp, Rop, Rtp, Rzp, RCp, RSp]
    simp [h52.2, b54]
  · rw [hwd]
    unfold dcl
    simp only [Rii, Rgi, Rpi, Rai, Rbi, Rri, Rni, Rdi, Roi, Rti, Rzi, RCi, RSi, Rip, Rgp, Rpp, Rap, Rbp, Rrp, Rnp, Rdp, Rop, Rtp, Rzp, RCp, RSp]
    simp [h52.1, b53]
  · rw [hwd]
    unfold dcl
    simp only [Rii, Rgi, Rpi, Rai, Rbi, Rri, Rni, Rdi, Roi, Rti, Rzi, RCi, RSi, Rip, Rgp, Rpp, Rap, Rbp, Rrp, Rnp, Rdp, Rop, Rtp, Rzp, RCp, RSp]
    simp
  · rw [hwd]
    unfold dcl
    simp only [Rii, Rgi, Rpi, Rai, Rbi, Rri, Rni, Rdi, Roi, Rti, Rzi, RCi, RSi, Rip, Rgp, Rpp, Rap, Rbp, Rrp, Rnp, Rdp, Rop, Rtp, Rzp, RCp, RSp]
    simp [h52.2, b54]
    rfl
  · rw [← b2.1, ← h22.1, hwd]
    unfold dcl
    simp only [Rii, Rgi, Rpi, Rai, Rbi, Rri, Rni, Rdi, Roi, Rti, Rzi, RCi, RSi, Rip, Rgp, Rpp, Rap, Rbp, Rrp, Rnp, Rdp, Rop, Rtp, Rzp, RCp, RSp]
    simp
  · rw [← b2.2, ← h22.2, hwd]
    unfold dcl
    simp only [Rii, Rgi, Rpi, Rai, Rbi, Rri, Rni, Rdi, Roi, Rti, Rzi, RCi, RSi, Rip, Rgp, Rpp, Rap, Rbp, Rrp, Rnp, Rdp, Rop, Rtp, Rzp, RCp, RSp]
    simp
  · rw [hwd]
    unfold dcl
    exact ((((((bF.tr hf2).pz rfl).iz rfl).iz rfl).pz rfl).pz rfl).iz rfl
  · rw [← (b14 a k).1, ← (b14 a k).2, ← (h142 a k).1, ← (h142 a k).2, hwd]
    unfold dcl
    simp only [Rii, Rgi, Rpi, Rai, Rbi, Rri, Rni, Rdi, Roi, Rti, Rzi, RCi, RSi, Rip, Rgp, Rpp, Rap, Rbp, Rrp, Rnp, Rdp, Rop, Rtp, Rzp, RCp, RSp]
    simp
end NMR
