/-! ===== ROUNDS, part 7: names that are used ===== -/
def SYM (S : nS) (p n s : Nat) : Prop := ∃ A, S.ys s = some A ∧ w_p S.w 14 p 16 = some A ∧ w_a S.t 12 0 31 n = i_ s
/-- a name that is used: what it means, among those that are known -/
def USE (S : nS) (kr : List Nat) (p n : Nat) (C : Nat → Prop) : Prop := ∃ s c : Nat, s ∈ kr ∧ SYM S p n s ∧ w_a S.t 12 0 46 s = i_ c ∧ C c
def Cv (c : Nat) : Prop := c = 1 ∨ c = 2 ∨ c = 9
/-- an expression whose names are told -/
def NE (V : pV) (nu : pN) (S : nS) (kr : List Nat) : Nat → (Nat → Prop) → Nat → Prop
  | 0, _, _ => False
  | f + 1, C, p => S.dn p ∧ ∃ n r d kd : Nat, nu p = some (n, r, d) ∧ (n < 14000 ∧ kd < 1000) ∧ V.2.2.1 26 n = i_ kd ∧ (∀ j, chl kd j → ∀ i q, (i = 0 ∨ isl (V.1 p 10) kd j) → nxi V i (V.2.1 p j) = some q → NE V nu S kr f Cv q) ∧ (kd = 60 → USE S kr p n C) ∧ (kd = 61 → USE S kr p n (fun c => c = 8))
section NES
variable {D : pD} {V : pV} {nu : pN} {tn : Nat → Prop} {rt p q n r d j k cr f y : Nat} {J J' : List Nat} {S0 S S' : nS} {T T' T1 : Int} {v : Option Nat} {x x' : Int32} {A : nS → Prop} {G : Nat → nS → Prop} {rc r' : kx_Rs} {w' t' : wS} {kr : List Nat} {C C' : Nat → Prop} {E' : zE} {L L' : Nat} {Φ : kx_Rs → wS → kx_Rs → wS → Prop} {gc gt : pQ}
theorem IVN.sl (h : IVN D V nu tn rt S) {s A : Nat} (hs : S.ys s = some A) : s < S.sn := (h.2.2.2.1.1 s A hs).1.1
theorem USE.nxw (h : USE S kr p n C) (hI : IVN D V nu tn rt S) (hp : nu p = some (n, r, d)) (hd : S.dn p) (hx : NXw nu S S') : USE S' kr p n C := by
  obtain ⟨s, c, h1, ⟨A, h2, h3, h4⟩, h5, h6⟩ := h
  obtain ⟨g1, g2⟩ := hx.2.1 p hd
  refine ⟨s, c, h1, ⟨A, (hx.1.1 s A h2).1, by rw [g2.1.1]; exact h3, by rw [g2.2 n r d hp 31 (.inl rfl)]; exact h4⟩, by rw [hx.1.2.1 s (hI.sl h2) 46 (by decide)]; exact h5, h6⟩
theorem USE.nx (h : USE S kr p n C) (hI : IVN D V nu tn rt S) (hp : nu p = some (n, r, d)) (hd : S.dn p) (hx : NX nu S S') : USE S' kr p n C := h.nxw hI hp hd hx.w
theorem USE.c (h : USE S kr p n C) (hc : ∀ c, C c → C' c) : USE S kr p n C' := by
  obtain ⟨s, c, h1, h2, h5, h6⟩ := h
  exact ⟨s, c, h1, h2, h5, hc c h6⟩
theorem NE.nxw (hI : IVN D V nu tn rt S) (hx : NXw nu S S') : ∀ {f : Nat} {C : Nat → Prop} {p : Nat}, NE V nu S kr f C p → NE V nu S' kr f C p
  | 0, _, _, h => h.elim
  | f + 1, C, p, h => by
    obtain ⟨h0, n, r, d, kd, h1, h2, h3, h4, h5, h6⟩ := h
    exact ⟨(hx.2.1 p h0).1, n, r, d, kd, h1, h2, h3, fun j hj i q hi hq => NE.nxw hI hx (h4 j hj i q hi hq), fun e => (h5 e).nxw hI h1 h0 hx, fun e => (h6 e).nxw hI h1 h0 hx⟩
theorem NE.nx (hI : IVN D V nu tn rt S) (hx : NX nu S S') {f : Nat} {C : Nat → Prop} {p : Nat} (h : NE V nu S kr f C p) : NE V nu S' kr f C p := NE.nxw hI hx.w h
/-- known names on both sides -/
def KRE (S : nS) (kr : List Nat) : Prop := S.kc = kr ∧ S.kt = kr
theorem IVN.nms (h : IVN D V nu tn rt S) : NMS D S.w S.t S.ys S.kc := fun s hs => by
  have h1 := h.2.2.2.2.2.1.1.2 s hs
  cases e : S.ys s with
  | none => exact absurd e h1
  | some A =>
    have h2 := (h.2.2.2.1.1 s A e).2
    exact ⟨h2.1.1, A, rfl, h2.1.2, h2.2.1⟩
/-- a name is looked up -/
theorem IVN.cf (h : IVN D V nu tn rt S) (hs : STR D V nu tn rt) (hk : KRE S kr) {l : Int32} (hx : nmr D x x') (hL : 80 ≤ L) {Q : kx_Rs → wS → Prop} (hq : Q (.inl (some (va_rf ((fnd S.t kr x').bind S.ys)))) (ru S.w (fT (fnd S.t kr x') l))) : zw D.1 L kt_M142 [.ref (w_adr D.1.2.1 5 0), .int x, .int l] S.w Q := by
  have h1 := h.2.2.2.2.2.1.1.1
  have h2 := h.nms
  rw [hk.1] at h1 h2
  exact c_find hL hs.1.2 hx h.2.2.2.2.2.2.1.1 h1 h2 hq
theorem IVN.tf (h : IVN D V nu tn rt S) (hs : STR D V nu tn rt) (hk : KRE S kr) {l : Int32} (hL : 100 ≤ L') {Q : kx_Rs → wS → Prop} (hq : Q (.inl (some (.int (sno (fnd S.t kr x'))))) (tu S.t (fT (fnd S.t kr x') l))) : zw E' L' kt_M411 [.ref (w_adr E'.2.1 12 0), .int x', .int l] S.t Q := by
  obtain ⟨-, h2⟩ := h.2.2.2.2.2.1
  obtain ⟨g1, g2, g3, g4⟩ := h2
  rw [hk.2] at g1 g2 g3 g4
  have hn := h.2.2.1.1.2
  have hv := hs.2.2.2.2.2.2 S.vs h.2.2.2.2.2.2.2.1.1 (fun a ha => (h.2.2.2.2.2.2.2.1.2 a ha).1)
  exact t_find hL ⟨h.1.2.1.2 57 rfl, h.1.2.1.2 45 rfl⟩ h.2.2.2.2.2.2.1.2 (by omega) g1 g2 (fun s hs => by have := (g4 s hs).1; omega) hq
theorem KRE.wt (h : KRE S kr) : KRE (S.wt w' t') kr := h
theorem KRE.nd (h : KRE S kr) (hn : NDC S S') : KRE S' kr := ⟨by
  have e : S'.kc = S.kc := congrArg Prod.fst hn.2.2.1
  rw [e]; exact h.1, by
  have e : S'.kt = S.kt := congrArg Prod.snd hn.2.2.1
  rw [e]; exact h.2⟩
theorem NDC.rf : NDC S S := ⟨rfl, rfl, rfl, rfl⟩
theorem NDC.tr {S1 : nS} (h : NDC S S') (h' : NDC S' S1) : NDC S S1 := ⟨h'.1.trans h.1, h'.2.1.trans h.2.1, h'.2.2.1.trans h.2.2.1, h'.2.2.2.trans h.2.2.2⟩
/-- a method of the twin that only hands on -/
theorem PS_rt {M : kx_M} {As : List Value} {t : wS} (h : PS gc (fun Q => zw E' L' M As t Q) Φ) (hr : ∀ r w r' t', Φ r w r' t' → r' = .inl none) : PS gc (fun Q => zw E' L' M As t (wk0 (fun w1 => wle t w1 → Q (.inl none) w1) (fun e w => Q (.inr e) w))) Φ := by
  rcases h with h | h | ⟨r, w, r', t2, a, b, c⟩
  · exact .inl h
  · exact .inr (.inl (fun Q => h _))
  · refine .inr (.inr ⟨r, w, r', t2, a, fun Q hq => b _ ?_, c⟩)
    rw [hr _ _ _ _ c] at hq ⊢
    exact fun _ => hq
theorem PS_lt {M : kx_M} {As : List Value} {E : zE} {w : wS} (h : PS (fun Q => zw E L M As w Q) gt Φ) (hr : ∀ r w r' t', Φ r w r' t' → r = .inl none) : PS (fun Q => zw E L M As w (wk0 (fun w1 => wle w w1 → Q (.inl none) w1) (fun e w => Q (.inr e) w))) gt Φ := by
  rcases h with h | h | ⟨r, w2, r', t2, a, b, c⟩
  · exact .inl (fun Q => h _)
  · exact .inr (.inl h)
  · refine .inr (.inr ⟨r, w2, r', t2, fun Q hq => a _ ?_, b, c⟩)
    rw [hr _ _ _ _ c] at hq ⊢
    exact fun _ => hq
theorem PCH.k58 {c : List Nat} {n m : Nat} (h : PCH V c n m) (hc : c ≠ []) : V.2.2.1 26 n = 58 := by
  cases c with
  | nil => exact absurd rfl hc
  | cons y c => exact h.2.1
/-- through brackets in the twin -/
theorem n_par {gc : pQ} {t : wS} (hT : TRTn V tn t) (hr : ∀ r w r' t', Φ r w r' t' → r' = .inl none) : ∀ {c : List Nat} {n m : Nat} {L' : Nat} {x2 : Int32}, PCH V c n m → (∀ x ∈ m :: c, tn x ∧ x < 14000) → 24 * c.length + 60 ≤ L' → (∀ (L2 : Nat) (x3 : Int32), L' ≤ L2 + 24 * c.length → (x3 = 0 ∨ (x3 = x2 ∧ n = m)) → PS gc (fun Q => zw E' L2 kt_M476 [.ref (w_adr E'.2.1 12 0), .int (i_ m), .int x3] t Q) Φ) → PS gc (fun Q => zw E' L' kt_M476 [.ref (w_adr E'.2.1 12 0), .int (i_ n), .int x2] t Q) Φ
  | [], n, m, L', x2, h, ht, hL, k => by
    have e : n = m := h
    rw [e]
    exact k L' x2 (by simp) (.inr ⟨rfl, e⟩)
  | y :: c, n, m, L', x2, h, ht, hL, k => by
    obtain ⟨rfl, h2, n', h6, h3, h4, h5⟩ := h
    obtain ⟨hty, hy⟩ := ht y (List.mem_cons_of_mem _ List.mem_cons_self)
    rw [List.length_cons] at hL
    refine PS_r (fun Q h => zt_X13_nameE_p0 (by omega) h) ?_
    simp only [zb_X13_nameE_p0, i_nat' (show y < 2147483648 by omega), hT.2 y hty 26 rfl, hT.2 y hty 28 rfl, h2, h3]
    refine PS_rand (hT.1.i rfl hy) (PS_rn (by decide) (PS_rp trivial (PS_rand (hT.1.i rfl hy) ?_)))
    refine PS_rt (n_par hT hr h5 (fun x hx => ht x ?_) (by omega) (fun L2 x3 h e => k L2 x3 (by rw [List.length_cons]; omega) (.inl (e.elim id (fun e => e.1))))) hr
    rcases List.mem_cons.mp hx with e | e
    · rw [e]; exact List.mem_cons_self
    · exact List.mem_cons_of_mem _ (List.mem_cons_of_mem _ e)
theorem NPO.rr {A G : nS → Prop} {r r' : kx_Rs} {w t : wS} (h : NPO D V nu tn rt p S A G r w r' t) : r = .inl none ∧ r' = .inl none := by
  obtain ⟨S', T, e, -⟩ := h
  exact ⟨e.1, e.2.1⟩
/-- elements of a list -/
theorem LPx.nx1 {k0 : Nat} {ol : Option Int32} : ∀ {l : List (Nat × Nat × Nat)} {a : Option Nat} {x : Int32}, LPx V tn nu k0 ol l a x none (-1) → ∀ {i q : Nat}, nxi V i a = some q → ∃ z ∈ l, z.2.1 = q
  | [], a, x, h, i, q, e => by
    have : a = none := h.1
    subst this
    have hn : ∀ i, nxi V i none = none := fun i => by induction i with
      | zero => rfl
      | succ i ih => unfold nxi; rw [ih]; rfl
    rw [hn] at e
    cases e
  | z :: l, a, x, h, i, q, e => by
    obtain ⟨h1, h2, h3, h4⟩ := h
    have hs : ∀ i, nxi V (i + 1) a = nxi V i (V.2.1 z.2.1 7) := fun i => by
      rw [h1]
      induction i with
      | zero => rfl
      | succ i ih =>
        show (nxi V (i + 1) (some z.2.1)).bind _ = (nxi V i (V.2.1 z.2.1 7)).bind _
        rw [ih]
    cases i with
    | zero =>
      have e : a = some q := e
      rw [h1] at e
      cases e
      exact ⟨z, List.mem_cons_self, rfl⟩
    | succ i =>
      rw [hs] at e
      obtain ⟨z', hz, e'⟩ := LPx.nx1 h4 e
      exact ⟨z', List.mem_cons_of_mem _ hz, e'⟩
theorem LPx.nx2 {k0 : Nat} {ol : Option Int32} : ∀ {l : List (Nat × Nat × Nat)} {a : Option Nat} {x : Int32}, LPx V tn nu k0 ol l a x none (-1) → ∀ z ∈ l, ∃ i, nxi V i a = some z.2.1
  | [], a, x, h, z, hz => absurd hz List.not_mem_nil
  | z0 :: l, a, x, h, z, hz => by
    obtain ⟨h1, h2, h3, h4⟩ := h
    rcases List.mem_cons.mp hz with e | e
    · rw [e]
      exact ⟨0, h1⟩
    · obtain ⟨i, hi⟩ := LPx.nx2 h4 z e
      refine ⟨i + 1, ?_⟩
      rw [h1]
      have hs : ∀ i, nxi V (i + 1) (some z0.2.1) = nxi V i (V.2.1 z0.2.1 7) := fun i => by
        induction i with
        | zero => rfl
        | succ i ih =>
          show (nxi V (i + 1) (some z0.2.1)).bind _ = (nxi V i (V.2.1 z0.2.1 7)).bind _
          rw [ih]
      rw [hs]
      exact hi
theorem CHx.nk {k0 : Nat} {ol : Option Int32} (hs : STR D V nu tn rt) (h : CHx V tn nu k0 ol n p d) : nu p ≠ none ∧ ¬ KDN nu p := by
  obtain ⟨m, c, r, -, -, h2, ⟨-, h3⟩, -⟩ := h
  refine ⟨by rw [h2]; simp, fun ⟨r', d', e⟩ => ?_⟩
  rw [h2] at e
  cases e
  omega
theorem HM.wk (h : HM D V nu tn rt p J cr S0 S T T') (hJ : ∀ i ∈ J, i ∈ J') : HM D V nu tn rt p J' cr S0 S T T' := ⟨h.1, h.2.1, ⟨h.2.2.1.1, h.2.2.1.2.1, h.2.2.1.2.2.1, fun i hi => hJ i (h.2.2.1.2.2.2 i hi)⟩, h.2.2.2⟩
/-- a list is gone along in both -/
theorem n_list {Kp : nS → Prop} {gcl : Option Nat → wS → pQ} {gtl : Int32 → wS → pQ} {k0 : Nat} {ol : Option Int32} {P : Nat × Nat × Nat → Prop} {R : nS → nS → Prop} (hR0 : ∀ S, R S S) (hRt : ∀ S S' S'', R S S' → R S' S'' → R S S'') (hRk : ∀ S S', R S S' → Kp S → Kp S') (hRg : ∀ S y j S', R (nS.go S y j) S' → R S S') (hs : STR D V nu tn rt)
    (hst : ∀ (S : nS) (T : Int) (y j q n d : Nat), HM D V nu tn rt p J' cr S0 S T T → Kp S → IVN D V nu tn rt (S.go y j) → VOK V nu rt (S.go y j) q → CHx V tn nu k0 ol n q d → P (n, q, d) → (∀ r w' r' t', NPO D V nu tn rt q (S.go y j) (R (S.go y j)) (G q) r w' r' t' → PS (gcl (V.2.1 q 7) w') (gtl (V.2.2.1 32 n) t') Φ) → PS (gcl (some q) S.w) (gtl (i_ n) S.t) Φ)
    (hGp : ∀ q S S', IVN D V nu tn rt S → G q S → NX nu S S' → G q S') :
    ∀ {l : List (Nat × Nat × Nat)} {S : nS} {T : Int} {y j : Nat} {x : Int32}, HM D V nu tn rt p J' cr S0 S T T → Kp S → (y ∈ S.vs ∧ y ∉ S0.vs) → ¬ S.tl y j → (3 ≤ j ∧ j ≤ 7) → (y = p → j ∈ J') → LPx V tn nu k0 ol l (V.2.1 y j) x none (-1) → (∀ z ∈ l, P z) → (∀ (S' : nS) (T' : Int), HM D V nu tn rt p J' cr S0 S' T' T' → Kp S' → NX nu S S' → R S S' → (∀ b ∈ S.vs, SMN nu S S' b) → (T' = NOF → T = NOF ∧ ∀ z ∈ l, G z.2.1 S') → PS (gcl none S'.w) (gtl (-1) S'.t) Φ) → PS (gcl (V.2.1 y j) S.w) (gtl x S.t) Φ
  | [], S, T, y, j, x, H, hk, hy, ht, hj, hyj, hl, hP, hen => by
    obtain ⟨h1, h2⟩ := hl
    rw [h1, h2]
    exact hen S T H hk NX.rf (hR0 S) (fun _ _ => SMN.rf) (fun e => ⟨e, fun z hz => absurd hz List.not_mem_nil⟩)
  | z :: l, S, T, y, j, x, H, hk, hy, ht, hj, hyj, hl, hP, hen => by
    obtain ⟨h1, h2, h3, h4⟩ := hl
    have hnk := h3.nk hs
    obtain ⟨g1, g2⟩ := H.1.go hs hy.1 ht hj h1 hnk.1 hnk.2
    have H' := H
    rw [h1, h2]
    refine hst S T y j z.2.1 z.1 z.2.2 H' hk g1 g2 h3 (hP z List.mem_cons_self) (fun r w' r' t' hb => ?_)
    obtain ⟨S', T1, ⟨-, -, e3, e4⟩, HB, hx, hq, hT1, ⟨hu, hsm⟩, hA, hG⟩ := H'.bk (J' := J') hy ⟨hyj, fun i hi => hi⟩ hb
    subst e3 e4
    have hA' : R S S' := hRg S y j S' hA
    have hqS : z.2.1 ∉ S.vs := g2.1.1
    have hq0 : z.2.1 ∉ S0.vs := fun e => hqS (H.2.1.2.2.2.1 _ e)
    have hqp : z.2.1 ≠ p := fun e => hqS (by rw [e]; exact H.2.2.1.1)
    refine n_list hR0 hRt hRk hRg hs hst hGp HB (hRk S S' hA' hk) ⟨hq.1, hq0⟩ hq.2.2 ⟨by decide, by decide⟩ (fun e => absurd e hqp) h4 (fun z' hz' => hP z' (List.mem_cons_of_mem _ hz')) (fun S2 T2 H2 k2 n2 nd2 sm2 hG2 => hen S2 T2 H2 k2 (hx.tr n2 (.inl hu)) (hRt _ _ _ hA' nd2) (fun b hb => (hsm b hb).1.tr (sm2 b (hsm b hb).2)) (fun e => ?_))
    obtain ⟨q1, q2⟩ := hG2 e
    have ht1 : T1 = NOF := by
      have a := hT1.le
      have b := H.2.2.2.2.1.1.le
      omega
    have ht0 : T = NOF := by
      have a := hT1.le
      have b := H.2.2.2.2.1.1.le
      omega
    refine ⟨ht0, fun z' hz' => ?_⟩
    rcases List.mem_cons.mp hz' with e | e
    · rw [e]
      exact hGp _ S' S2 HB.1 (hG ht1) n2
    · exact q2 z' e
end NES
