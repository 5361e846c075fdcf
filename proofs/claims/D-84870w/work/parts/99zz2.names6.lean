/-! ===== ROUNDS, part 8: names in expressions ===== -/
/-- expressions: MeetingHouse's, the twin's -/
def NCE (D : pD) (V : pV) (nu : pN) (tn : Nat → Prop) (rt : Nat) (E' : zE) (f : Nat) : Prop := ∀ (S : nS) (kr : List Nat) (p n d k0 : Nat) (ol : Option Int32) (L L' : Nat) (x2 : Int32), (x2 = 0 ∨ V.2.2.1 26 n ≠ i_ 60) → IVN D V nu tn rt S → CHx V tn nu k0 ol n p d → KX V nu f 0 p → VOK V nu rt S p → KRE S kr → 75 * k0 + 300 ≤ L → 75 * k0 + 300 ≤ L' → PS (fun Q => zw D.1 L kt_M140 [.ref (w_adr D.1.2.1 5 0), va_rf (some p)] S.w Q) (fun Q => zw E' L' kt_M476 [.ref (w_adr E'.2.1 12 0), .int (i_ n), .int x2] S.t Q) (NPO D V nu tn rt p S (NDC S) (fun S' => NE V nu S' kr f Cv p))
section NEX
variable {D : pD} {V : pV} {nu : pN} {tn : Nat → Prop} {rt p q n m r d j k cr f b k0 : Nat} {J J' : List Nat} {S0 S S' : nS} {T T' T1 Tc : Int} {v : Option Nat} {x x' : Int32} {kr : List Nat} {C C' : Nat → Prop} {E' : zE} {L L' Lc Lx Lt : Nat} {Φ : kx_Rs → wS → kx_Rs → wS → Prop} {ol : Option Int32}
/-- what is read of a node -/
theorem IVN.nw (h : IVN D V nu tn rt S) (hn : nu p = some (n, r, d)) : w_l S.w D.1.2.1 14 p ∧ (∀ k, k ≠ 16 → w_p S.w 14 p k = V.2.1 p k) ∧ (∀ k, k ≠ 10 → w_i S.w 14 p k = V.1 p k) := by
  obtain ⟨h1, h2, h3, -⟩ := h.1.1 p (by rw [hn]; simp)
  exact ⟨h1, h2, h3⟩
theorem NX.wt {w' t' : wS} (h15 : ∀ s A, S.ys s = some A → ∀ k, w_i w' 15 A k = w_i S.w 15 A k ∧ w_p w' 15 A k = w_p S.w 15 A k) (ha : ∀ k, tl61 k = true → w_a t' 12 0 k = w_a S.t 12 0 k) (hs : ∀ b, S.dn b → SMN nu S (S.wt w' t') b) : NX nu S (S.wt w' t') := by
  have e6 : ∀ k, k < 56 → 45 ≤ k → tl61 k = true := by decide
  exact ⟨⟨fun s A h => ⟨h, fun k => ⟨(h15 s A h k).1, fun _ => (h15 s A h k).2⟩⟩, fun s _ k hk => congrFun (ha k (e6 k (by omega) hk.1)) s, Nat.le_refl _, fun s h => .inl h, ⟨Nat.le_refl _, fun x _ => ⟨congrFun (ha 60 rfl) x, fun _ => congrFun (ha 61 rfl) x⟩⟩, fun q h => h⟩, fun b hb => ⟨hb, hs b hb⟩, fun a j h => h⟩
theorem NX.p16 (hd : ¬ S.dn p) : NX nu S (S.wt (ws_p S.w 14 p 16 v) S.t) := NX.wt (w' := ws_p S.w 14 p 16 v) (t' := S.t) (fun _ a _ k => ⟨rfl, by rw [Rpp, if_neg (fun z => absurd z.2.1 (by decide))]⟩) (fun _ _ => rfl) (fun b hb => ⟨⟨by
  show w_p (ws_p S.w 14 p 16 v) 14 b 16 = _
  rw [Rpp, if_neg (fun z => hd (by rw [← z.2.2]; exact hb))], rfl⟩, fun _ _ _ _ _ _ => rfl⟩)
theorem NX.ta (hd : ¬ S.dn p) (hs : INJ nu) (hp : nu p = some (n, r, d)) (hn : n < 14000) (hk : k = 31 ∨ k = 63 ∨ k = 66 ∨ k = 67) : NX nu S (S.wt S.w (ws_a S.t 12 0 k n x)) := by
  have hk61 : ∀ k', tl61 k' = true → k' ≠ k := fun k' h1 e => by
    rw [e] at h1
    rcases hk with e | e | e | e <;> rw [e] at h1 <;> cases h1
  refine NX.wt (w' := S.w) (t' := ws_a S.t 12 0 k n x) (fun _ a _ k => ⟨rfl, rfl⟩) (fun k' h1 => ?_) (fun b hb => ⟨⟨rfl, rfl⟩, fun n' r' d' e k' hk' => ?_⟩)
  · funext y
    rw [Raa, if_neg (fun z => hk61 k' h1 z.1)]
  · show w_a (ws_a S.t 12 0 k n x) 12 0 k' n' = _
    rw [Raa, if_neg (fun z => ?_)]
    have e2 : n' = n := z.2.2.2
    subst e2
    have := hs _ _ _ _ _ _ _ e hp (by omega)
    subst this
    exact hd hb
theorem ru_i {w : wS} {c o k : Nat} (hc : c ≠ 2) : w_i (ru w T) c o k = w_i w c o k := by
  unfold ru
  split
  · rfl
  · rw [Rii, if_neg (fun z => hc z.2.1), Rii, if_neg (fun z => hc z.2.1)]
theorem ru_p {w : wS} {c o k : Nat} : w_p (ru w T) c o k = w_p w c o k := by
  unfold ru
  split <;> rfl
theorem tu_a {t : wS} {c o k : Nat} : w_a (tu t T) c o k = w_a t c o k := by
  unfold tu
  split <;> rfl
theorem NX.ft : NX nu S (S.wt (ru S.w T) (tu S.t T')) := NX.wt (w' := ru S.w T) (t' := tu S.t T') (fun _ a _ k => ⟨ru_i (by decide), ru_p⟩) (fun k _ => tu_a) (fun b hb => ⟨⟨ru_p, ru_i (by decide)⟩, fun _ _ _ _ k _ => congrFun tu_a _⟩)
theorem i_neg1 : (i_ (-1) : Int32) < 0 := by decide
/-- an element: its name is looked up, then its index is gone over -/
theorem n_el2 {Xe : (kx_Rs → wS → Prop) → String → wS → Prop} {KC : (kx_Rs → wS → Prop) → wS → Prop} {KT : (kx_Rs → wS → Prop) → kx_Rs → wS → Prop} (IH : NCE D V nu tn rt E' f) (hs : STR D V nu tn rt) (H : HM D V nu tn rt p [] cr S0 S T T') (hk : KRE S kr) (hnu : nu p = some (n, r, d)) (htn : tn n) (hn : n < 14000) (hch : EO V tn nu k0 ol 0 (V.2.1 p 3) (V.2.2.1 28 n)) (hX : ∀ q, V.2.1 p 3 = some q → KX V nu f 0 q) (hL : 75 * k0 + 300 ≤ Lx) (hL' : 75 * k0 + 324 ≤ Lt) (hTc : FTK Tc)
    (kk : ∀ (S1 : nS) (T1 : Int), HM D V nu tn rt p [3] cr S0 S1 (min (min T Tc) T1) (min (min T' (fT (fnd S.t kr (V.2.2.1 30 n)) (V.2.2.1 27 n))) T1) → FTK T1 → NDC S S1 → NX nu S S1 → w_p S1.w 14 p 16 = v → w_a S1.t 12 0 31 n = sno (fnd S.t kr (V.2.2.1 30 n)) → (T1 = NOF → ∀ q, V.2.1 p 3 = some q → NE V nu S1 kr f Cv q) → PS (fun Q => KC Q S1.w) (fun Q => KT Q (.inl (some (.int (sno (fnd S.t kr (V.2.2.1 30 n)))))) S1.t) Φ) :
    PS (fun Q => if w_p (ru S.w Tc) 14 p 3 = none then KC Q (ws_p (ru S.w Tc) 14 p 16 v) else zw D.1 Lx kt_M140 [.ref (w_adr D.1.2.1 5 0), va_rf (w_p (ru S.w Tc) 14 p 3)] (ws_p (ru S.w Tc) 14 p 16 v) (wk0 (fun w2 => wle (ws_p (ru S.w Tc) 14 p 16 v) w2 → KC Q w2) (Xe Q))) (fun Q => zw E' Lt kt_M477 [.ref (w_adr E'.2.1 12 0), .int (i_ n)] S.t (KT Q)) Φ := by
  have hT := H.1.1.2.1
  have hr := H.1.1.2.2 n htn
  refine PS_r (fun Q h => zt_X13_nameElem_p0 (by omega) h) ?_
  simp only [zb_X13_nameElem_p0, zb_X13_nameElem_p42, i_nat' (show n < 2147483648 by omega), hr 30 rfl, hr 27 rfl]
  refine PS_rand (hT.i rfl hn) (PS_rand (hT.i rfl hn) ?_)
  refine PS_r1 (fun Q hq => H.1.tf hs hk (by omega) hq) ?_
  have H2 := (H.cru hTc).ttu (fT_ok (r := fnd S.t kr (V.2.2.1 30 n)) (l := V.2.2.1 27 n))
  have hT2 := H2.1.1.2.1
  have hr2 := H2.1.1.2.2 n htn
  have hw2 := (H2.1.nw hnu).2.1 3 (by decide)
  have H4 := (H2.p16 (v := v)).ta (x := sno (fnd S.t kr (V.2.2.1 30 n))) hs.2.2.2.1 hnu hn (.inl rfl)
  have hnx : ∀ S4 : nS, S4 = S.wt (ws_p (ru S.w Tc) 14 p 16 v) (ws_a (tu S.t (fT (fnd S.t kr (V.2.2.1 30 n)) (V.2.2.1 27 n))) 12 0 31 n (sno (fnd S.t kr (V.2.2.1 30 n)))) → NX nu S S4 := fun S4 e => by
    subst e
    exact (NX.ft.tr (NX.p16 (p := p) H.2.2.1.2.2.1) (.inl rfl)).tr (NX.ta (p := p) H.2.2.1.2.2.1 hs.2.2.2.1 hnu hn (.inl rfl)) (.inl rfl)
  have e28 : w_a (tu S.t (fT (fnd S.t kr (V.2.2.1 30 n)) (V.2.2.1 27 n))) 12 0 28 n = V.2.2.1 28 n := hr2 28 rfl
  have e3 : w_p (ru S.w Tc) 14 p 3 = V.2.1 p 3 := hw2
  refine PS_rand (hT2.i rfl hn) (PS_rand (hT2.i rfl hn) ?_)
  simp only [e28, e3]
  have e16 : w_p (ws_p (ru S.w Tc) 14 p 16 v) 14 p 16 = v := by rw [Rpp, if_pos ⟨rfl, rfl, rfl⟩]
  have e31 : w_a (ws_a (tu S.t (fT (fnd S.t kr (V.2.2.1 30 n)) (V.2.2.1 27 n))) 12 0 31 n (sno (fnd S.t kr (V.2.2.1 30 n)))) 12 0 31 n = sno (fnd S.t kr (V.2.2.1 30 n)) := by rw [Raa, if_pos ⟨rfl, rfl, rfl, rfl⟩]
  rcases hch with ⟨g1, g2⟩ | ⟨q, nq, g1, g2, g3⟩
  · refine PS_lp g1 (PS_rp (by rw [g2]; decide) (PS_rand (H4.1.1.2.1.i rfl hn) ?_))
    simp only [e31]
    have H5 : HM D V nu tn rt p [3] cr S0 (S.wt (ws_p (ru S.w Tc) 14 p 16 v) (ws_a (tu S.t (fT (fnd S.t kr (V.2.2.1 30 n)) (V.2.2.1 27 n))) 12 0 31 n (sno (fnd S.t kr (V.2.2.1 30 n))))) (min (min T Tc) NOF) (min (min T' (fT (fnd S.t kr (V.2.2.1 30 n)) (V.2.2.1 27 n))) NOF) := by
      have a := H4.2.2.2.2.1.1.le
      have b := H4.2.2.2.2.1.2.le
      rw [Int.min_eq_left a, Int.min_eq_left b]
      exact ⟨H4.1, H4.2.1, ⟨H4.2.2.1.1, H4.2.2.1.2.1, H4.2.2.1.2.2.1, fun i hi => absurd (H4.2.2.1.2.2.2 i hi) List.not_mem_nil⟩, H4.2.2.2⟩
    exact kk _ NOF H5 (.inl rfl) NDC.rf (hnx _ rfl) e16 e31 (fun _ q hq => by rw [g1] at hq; cases hq)
  · have hnk := g3.nk hs
    have hq14 : nq < 14000 := by
      obtain ⟨m, c, r2, h1, h2, -, -⟩ := g3
      exact hs.2.2.1 _ (h2 _ h1.mem)
    obtain ⟨I4, V4⟩ := H4.go hs (j := 3) List.not_mem_nil ⟨by decide, by decide⟩ g1 hnk.1 hnk.2
    simp only [g1, g2]
    refine PS_ln (by simp) (PS_rn (i_nn (by omega)) (PS_rand (hT2.i rfl hn) ?_))
    have hch := IH _ kr q nq 0 k0 ol Lx (Lt - 24) 0 (.inl rfl) I4 g3 (hX q g1) V4 hk (by omega) (by omega)
    refine PS_bind (gc1 := fun Q => zw D.1 Lx kt_M140 [.ref (w_adr D.1.2.1 5 0), va_rf (some q)] (ws_p (ru S.w Tc) 14 p 16 v) Q) (gt1 := fun Q => zw E' (Lt - 24) kt_M476 [.ref (w_adr E'.2.1 12 0), .int (i_ nq), .int 0] (ws_a (tu S.t (fT (fnd S.t kr (V.2.2.1 30 n)) (V.2.2.1 27 n))) 12 0 31 n (sno (fnd S.t kr (V.2.2.1 30 n)))) Q) hch (fun r1 w2 r2 t2 hb => ?_)
    obtain ⟨S', T1, ⟨e1, e2, e3, e4⟩, HB, hx, hq, hT1, ⟨hu, hsm⟩, hA, hG⟩ := H4.bk (J' := [3]) ⟨H4.2.2.1.1, H4.2.2.1.2.1⟩ ⟨fun _ => List.mem_cons_self, fun i hi => absurd hi List.not_mem_nil⟩ hb
    subst e1 e2 e3 e4
    have hsp := (hsm p H4.2.2.1.1).1
    have f31 : w_a S'.t 12 0 31 n = sno (fnd S.t kr (V.2.2.1 30 n)) := (hsp.2 n r d hnu 31 (.inl rfl)).trans e31
    refine PS_l (fun Q a => fun _ => a) (PS_r (fun Q a => fun _ => a) (PS_rand (HB.1.1.2.1.i rfl hn) ?_))
    simp only [f31]
    exact kk S' T1 HB hT1 hA ((hnx _ rfl).tr hx (.inl rfl)) (hsp.1.1.trans e16) f31 (fun e q' hq' => by
      rw [g1] at hq'
      cases hq'
      exact (hG e))
/-- the same behind find -/
theorem n_el {KC : (kx_Rs → wS → Prop) → wS → Prop} {X : (kx_Rs → wS → Prop) → String → wS → Prop} {KT : (kx_Rs → wS → Prop) → kx_Rs → wS → Prop} {M : kx_M} {As : List Value} (IH : NCE D V nu tn rt E' f) (hs : STR D V nu tn rt) (H : HM D V nu tn rt p [] cr S0 S T T') (hk : KRE S kr) (hnu : nu p = some (n, r, d)) (htn : tn n) (hn : n < 14000) (hch : EO V tn nu k0 ol 0 (V.2.1 p 3) (V.2.2.1 28 n)) (hX : ∀ q, V.2.1 p 3 = some q → KX V nu f 0 q) (hL : 75 * k0 + 300 ≤ Lx) (hL' : 75 * k0 + 324 ≤ Lt) (hTc : FTK Tc) (hc : ∀ Q : kx_Rs → wS → Prop, Q (.inl (some (va_rf v))) (ru S.w Tc) → zw D.1 Lc M As S.w Q)
    (kk : ∀ (S1 : nS) (T1 : Int), HM D V nu tn rt p [3] cr S0 S1 (min (min T Tc) T1) (min (min T' (fT (fnd S.t kr (V.2.2.1 30 n)) (V.2.2.1 27 n))) T1) → FTK T1 → NDC S S1 → NX nu S S1 → w_p S1.w 14 p 16 = v → w_a S1.t 12 0 31 n = sno (fnd S.t kr (V.2.2.1 30 n)) → (T1 = NOF → ∀ q, V.2.1 p 3 = some q → NE V nu S1 kr f Cv q) → PS (fun Q => KC Q S1.w) (fun Q => KT Q (.inl (some (.int (sno (fnd S.t kr (V.2.2.1 30 n)))))) S1.t) Φ) :
    PS (fun Q => zw D.1 Lc M As S.w (wkr (fun v w1 => wle S.w w1 → (if (w_p w1 14 p 3) = none then KC Q (ws_p w1 14 p 16 v) else zw D.1 Lx kt_M140 [.ref (w_adr D.1.2.1 5 0), va_rf (w_p w1 14 p 3)] (ws_p w1 14 p 16 v) (wk0 (fun w2 => wle (ws_p w1 14 p 16 v) w2 → KC Q w2) (fun e w => Q (.inr e) w)))) (X Q))) (fun Q => zw E' Lt kt_M477 [.ref (w_adr E'.2.1 12 0), .int (i_ n)] S.t (KT Q)) Φ := by
  refine PS_lr hc ?_
  exact n_el2 IH hs H hk hnu htn hn hch hX hL hL' hTc kk
end NEX
